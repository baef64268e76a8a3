section M6
variable {l : Launch} {G : j_G} {M : j_M} {L : Nat → Nat}
theorem mm_X2_sign (hO : mOK G M L) (s : MS) {len : Nat} (hl : s.1 13 = nI len) (h60 : len ≤ 60) {a : Nat} (hal : a ≤ len) (q : Int32) (g : Nat → Int32) : JM l G 0 yX2_sign wX2_sign [.ref (L 0)] (mput M L (msP s a q g)) (jv (.int (if a < len then s.2 5 a else -1)) (mput M L (msP s a q g))) := by
  refine JM.of pn_X2 (Nat.le_of_ble_eq_true rfl) (hO.1.1) ?_
  show JW l G 0 YX2_sign _ 0 [(0, .ref (L 0))] [] (mput M L (msP s a q g))
  have e14_ : (msP s a q g).1 14 = nI a := rfl
  have e13_ : (msP s a q g).1 13 = nI len := hl
  have e5_ : (msP s a q g).2 5 = s.2 5 := rfl
  refine j_aload_n dX2_sign_0 rfl rfl ?_
  refine mj_get hO dX2_sign_1 fd_X2_207_2 rfl ?_
  refine j_aload_n dX2_sign_4 rfl rfl ?_
  refine mj_get hO dX2_sign_5 fd_X2_204_2 rfl ?_
  refine j_icmp_ge (tgt := 23) dX2_sign_8 (by decide) (fun c8 => ?_) (fun c8 => ?_)
  · refine j_iconst (v := (-1)) dX2_sign_23 (by decide) ?_
    exact j_ireturn dX2_sign_24 rfl (mjv (if_neg (fun w => absurd (show nI len ≤ nI a by rw [e14_, e13_] at c8; exact c8) (nI_ge w (by omega)))).symm rfl)
  · refine j_aload_n dX2_sign_11 rfl rfl ?_
    refine mj_get hO dX2_sign_12 fd_X2_25_2 rfl ?_
    refine j_aload_n dX2_sign_15 rfl rfl ?_
    refine mj_get hO dX2_sign_16 fd_X2_207_2 rfl ?_
    have hlt_ : a < len := by
      rcases Nat.lt_or_ge a len with w | w
      · exact w
      · exact absurd ((show nI len ≤ nI a from (nI_leI (by omega) (by omega)).mpr w)) (by rw [e14_, e13_] at c8; exact c8)
    rw [show ((msP s a q g).1 14) = (nI a) from e14_]
    refine mj_cald (j := 5) (i := a) hO dX2_sign_19 (by decide) rfl (by show _ < 60; omega) ?_
    refine j_goto (tgt := 24) dX2_sign_20 (by decide) ?_
    exact j_ireturn dX2_sign_24 rfl (mjv (if_pos hlt_).symm rfl)

theorem mm_X2_reads (hO : mOK G M L) (s : MS) {len : Nat} (hl : s.1 13 = nI len) (h60 : len ≤ 60) {a : Nat} (hal : a ≤ len) (q : Int32) (g : Nat → Int32) (c : Int32) (hc : c ≠ -1) : JM l G 1 yX2_reads wX2_reads [.ref (L 0), .int c] (mput M L (msP s a q g)) (jv (.int (jb (pAt (s.2 5) len a c))) (mput M L (msP s (if pAt (s.2 5) len a c then a + 1 else a) q g))) := by
  refine JM.of pn_X2 (Nat.le_of_ble_eq_true rfl) (hO.1.1) ?_
  show JW l G 1 YX2_reads _ 0 [(0, .ref (L 0)), (1, .int c)] [] (mput M L (msP s a q g))
  refine j_aload_n dX2_reads_0 rfl rfl ?_
  refine j_callV (mm_X2_sign hO s hl h60 (a := a) (by first | assumption | exact pAt_lt (by assumption) | exact pDig_lt (by assumption)) q g) dX2_reads_1 mt_X2_sign q2498 q2500 qs85 (hO.at (msP s a q g) (i := 0) (by decide)) (by decide) rfl cd_X2_sign (Nat.le_of_ble_eq_true rfl) rfl rfl (Nat.le_of_ble_eq_true rfl) (jk_v ?_) jx_v
  refine j_iload_n dX2_reads_4 rfl ?_
  refine j_icmp_eq (tgt := 10) dX2_reads_5 (by decide) (fun c5 => ?_) (fun c5 => ?_)
  · have hp_ : pAt (s.2 5) len a c = true := by
      unfold pAt
      by_cases w : a < len
      · rw [if_pos w] at c5; simp [w, c5]
      · rw [if_neg w] at c5; exact absurd c5.symm hc
    rw [hp_, if_pos rfl]
    refine j_aload_n dX2_reads_10 rfl rfl ?_
    refine j_dup dX2_reads_11 rfl ?_
    refine mj_get hO dX2_reads_12 fd_X2_207_2 rfl ?_
    refine j_iconst (v := 1) dX2_reads_15 (by decide) ?_
    refine j_iadd dX2_reads_16 ?_
    refine mj_put hO dX2_reads_17 fd_X2_207_2 rfl (fun r hr => ⟨(ft_2_14 r hr).1, (ft_2_14 r hr).2.1⟩) rfl rfl ?_
    refine j_mem (M' := mput M L (msP s (a + 1) q g)) (congrArg (mput M L) (show msP s (a + 1) q g = ms_z (msP s a q g) 14 (nI a + 1) by rw [nI_1, msP_at])) ?_
    refine j_iconst (v := 1) dX2_reads_20 (by decide) ?_
    exact j_zreturn dX2_reads_21 rfl rfl (mjv rfl rfl)
  · have hp_ : pAt (s.2 5) len a c = false := by
      unfold pAt
      by_cases w : a < len
      · rw [if_pos w] at c5; simp [w, c5]
      · simp [w]
    rw [hp_, if_neg Bool.false_ne_true]
    refine j_iconst (v := 0) dX2_reads_8 (by decide) ?_
    exact j_zreturn dX2_reads_9 rfl rfl (mjv rfl rfl)

theorem mm_X2_readsNumber (hO : mOK G M L) (s : MS) {len : Nat} (hl : s.1 13 = nI len) (h60 : len ≤ 60) {a : Nat} (hal : a ≤ len) (q : Int32) (g : Nat → Int32) {k d : Nat} (hk : k < 2) (hd : d < 4) : JM l G 2 yX2_readsNumber wX2_readsNumber [.ref (L 0), .int (nI k), .int (nI d)] (mput M L (msP s a q g)) (jv (.int (jb (pNum (s.2 5) len k d a g).1)) (mput M L (msP s (pNum (s.2 5) len k d a g).2.1 q (pNum (s.2 5) len k d a g).2.2))) := by
  refine JM.of pn_X2 (Nat.le_of_ble_eq_true rfl) (hO.1.1) ?_
  show JW l G 2 YX2_readsNumber _ 0 [(0, .ref (L 0)), (1, .int (nI k)), (2, .int (nI d))] [] (mput M L (msP s a q g))
  have hdg_ : ∀ b, b ≤ len → (mIn (if b < len then s.2 5 b else -1) 48 57) = pDig (s.2 5) len b := by
    intro b hb
    unfold pDig
    by_cases w : b < len
    · simp [w]
    · simp [w]; decide
  refine j_aload_n dX2_readsNumber_0 rfl rfl ?_
  refine j_bipush (v := 32) dX2_readsNumber_1 (by decide) ?_
  refine j_callV (mm_X2_reads hO s hl h60 (a := a) (by first | assumption | exact pAt_lt (by assumption) | exact pDig_lt (by assumption)) q g 32 (by decide)) dX2_readsNumber_3 mt_X2_reads q2494 q2496 qs84 (hO.at (msP s a q g) (i := 0) (by decide)) (by decide) rfl cd_X2_reads (Nat.le_of_ble_eq_true rfl) rfl rfl (Nat.le_of_ble_eq_true rfl) (jk_v ?_) jx_v
  refine j_ifeqB (tgt := 23) dX2_readsNumber_6 (by decide) (fun c6 => ?_) (fun c6 => ?_)
  · rw [if_neg (Bool.eq_false_iff.mp c6)]
    refine j_iconst (v := 0) dX2_readsNumber_23 (by decide) ?_
    exact j_zreturn dX2_readsNumber_24 rfl rfl (mjv (by unfold pNum; rw [c6]; rfl) (by unfold pNum; rw [c6]; rfl))
  · rw [if_pos c6]
    show JW l G _ _ _ _ _ _ (mput M L (msP s (a + 1) q g))
    refine j_aload_n dX2_readsNumber_9 rfl rfl ?_
    refine j_callV (mm_X2_sign hO s hl h60 (a := (a + 1)) (by first | assumption | exact pAt_lt (by assumption) | exact pDig_lt (by assumption)) q g) dX2_readsNumber_10 mt_X2_sign q2498 q2500 qs85 (hO.at (msP s (a + 1) q g) (i := 0) (by decide)) (by decide) rfl cd_X2_sign (Nat.le_of_ble_eq_true rfl) rfl rfl (Nat.le_of_ble_eq_true rfl) (jk_v ?_) jx_v
    refine j_bipush (v := 48) dX2_readsNumber_13 (by decide) ?_
    refine j_bipush (v := 57) dX2_readsNumber_15 (by decide) ?_
    refine j_callS (mm_X2_isBetween hO (msP s (a + 1) q g) (if (a + 1) < len then s.2 5 (a + 1) else -1) 48 57) dX2_readsNumber_17 mt_X2_isBetween q2205 q2206 cd_X2_isBetween (Nat.le_of_ble_eq_true rfl) rfl rfl (Nat.le_of_ble_eq_true rfl) (jk_v ?_) jx_v
    refine j_ifneB (tgt := 25) dX2_readsNumber_20 (by decide) (fun c20 => ?_) (fun c20 => ?_)
    · refine j_aload_n dX2_readsNumber_25 rfl rfl ?_
      refine mj_get hO dX2_readsNumber_26 fd_X2_29_2 rfl ?_
      refine j_iload_n dX2_readsNumber_29 rfl ?_
      refine j_iconst (v := 0) dX2_readsNumber_30 (by decide) ?_
      refine mj_iast (j := 6) (i := k) hO dX2_readsNumber_31 (by decide) rfl (by show _ < 2; omega) ?_
      refine j_iconst (v := 0) dX2_readsNumber_32 (by decide) ?_
      refine j_istore_n dX2_readsNumber_33 (by decide) rfl ?_
      have hdg_ : ∀ b, b ≤ len → (mIn (if b < len then s.2 5 b else -1) 48 57) = pDig (s.2 5) len b := by
        intro b hb
        unfold pDig
        by_cases w : b < len
        · simp [w]
        · simp [w]; decide
      have hP_ : (pNum (s.2 5) len k d a g) = (true, (pDigs (s.2 5) len d (a + 1) 0).1, va_up g k (pDigs (s.2 5) len d (a + 1) 0).2) := by
        unfold pNum
        rw [if_pos c6, if_pos ((hdg_ _ (pAt_lt c6)).symm.trans c20)]
      have lp_ : ∀ (e j b : Nat) (v : Int32), e + j = d → b ≤ len → pDigs (s.2 5) len e b v = pDigs (s.2 5) len d (a + 1) 0 → JW l G 2 YX2_readsNumber (jv (.int (jb (pNum (s.2 5) len k d a g).1)) (mput M L (msP s (pNum (s.2 5) len k d a g).2.1 q (pNum (s.2 5) len k d a g).2.2))) 34 [(0, .ref (L 0)), (1, .int (nI k)), (2, .int (nI d)), (3, .int (nI j))] [] (mput M L (msP s b q (va_up g k v))) := by
        intro e
        induction e with
        | zero =>
          intro j b v hej hb hpd
          obtain rfl : j = d := by omega
          refine j_iload_n dX2_readsNumber_34 rfl ?_
          refine j_iload_n dX2_readsNumber_35 rfl ?_
          refine j_icmp_ge (tgt := 92) dX2_readsNumber_36 (by decide) (fun c36 => ?_) (fun c36 => ?_)
          · refine j_iconst (v := 1) dX2_readsNumber_92 (by decide) ?_
            exact j_zreturn dX2_readsNumber_93 rfl rfl (mjv (by rw [hP_]; rfl) (by rw [hP_, ← hpd]; rfl))
          · exact absurd ((nI_leI (by omega) (by omega)).mpr (Nat.le_refl j)) c36
        | succ e ie_ =>
          intro j b v hej hb hpd
          refine j_iload_n dX2_readsNumber_34 rfl ?_
          refine j_iload_n dX2_readsNumber_35 rfl ?_
          refine j_icmp_ge (tgt := 92) dX2_readsNumber_36 (by decide) (fun c36 => ?_) (fun c36 => ?_)
          · exact absurd c36 (nI_ge (by omega) (by omega))
          · refine j_aload_n dX2_readsNumber_39 rfl rfl ?_
            refine j_callV (mm_X2_sign hO s hl h60 (a := b) (by first | assumption | exact pAt_lt (by assumption) | exact pDig_lt (by assumption)) q (va_up g k v)) dX2_readsNumber_40 mt_X2_sign q2498 q2500 qs85 (hO.at (msP s b q (va_up g k v)) (i := 0) (by decide)) (by decide) rfl cd_X2_sign (Nat.le_of_ble_eq_true rfl) rfl rfl (Nat.le_of_ble_eq_true rfl) (jk_v ?_) jx_v
            refine j_bipush (v := 48) dX2_readsNumber_43 (by decide) ?_
            refine j_bipush (v := 57) dX2_readsNumber_45 (by decide) ?_
            refine j_callS (mm_X2_isBetween hO (msP s b q (va_up g k v)) (if b < len then s.2 5 b else -1) 48 57) dX2_readsNumber_47 mt_X2_isBetween q2205 q2206 cd_X2_isBetween (Nat.le_of_ble_eq_true rfl) rfl rfl (Nat.le_of_ble_eq_true rfl) (jk_v ?_) jx_v
            refine j_ifeqB (tgt := 92) dX2_readsNumber_50 (by decide) (fun c50 => ?_) (fun c50 => ?_)
            · have hn_ : pDig (s.2 5) len b = false := (hdg_ b hb).symm.trans c50
              refine j_iconst (v := 1) dX2_readsNumber_92 (by decide) ?_
              exact j_zreturn dX2_readsNumber_93 rfl rfl (mjv (by rw [hP_]; rfl) (by rw [hP_, ← hpd]; unfold pDigs; rw [hn_]; rfl))
            · have hy_ : pDig (s.2 5) len b = true := (hdg_ b hb).symm.trans c50
              have hlt_ : b < len := pDig_lt hy_
              refine j_aload_n dX2_readsNumber_53 rfl rfl ?_
              refine mj_get hO dX2_readsNumber_54 fd_X2_29_2 rfl ?_
              refine j_iload_n dX2_readsNumber_57 rfl ?_
              refine j_bipush (v := 10) dX2_readsNumber_58 (by decide) ?_
              refine j_aload_n dX2_readsNumber_60 rfl rfl ?_
              refine mj_get hO dX2_readsNumber_61 fd_X2_29_2 rfl ?_
              refine j_iload_n dX2_readsNumber_64 rfl ?_
              refine mj_iald (j := 6) (i := k) hO dX2_readsNumber_65 (by decide) rfl (by show _ < 2; omega) ?_
              refine j_imul dX2_readsNumber_66 ?_
              refine j_aload_n dX2_readsNumber_67 rfl rfl ?_
              refine j_callV (mm_X2_sign hO s hl h60 (a := b) (by first | assumption | exact pAt_lt (by assumption) | exact pDig_lt (by assumption)) q (va_up g k v)) dX2_readsNumber_68 mt_X2_sign q2498 q2500 qs85 (hO.at (msP s b q (va_up g k v)) (i := 0) (by decide)) (by decide) rfl cd_X2_sign (Nat.le_of_ble_eq_true rfl) rfl rfl (Nat.le_of_ble_eq_true rfl) (jk_v ?_) jx_v
              rw [if_pos hlt_]
              show JW l G _ _ _ _ _ _ (mput M L (msP s b q (va_up g k v)))
              refine j_iadd dX2_readsNumber_71 ?_
              refine j_bipush (v := 48) dX2_readsNumber_72 (by decide) ?_
              refine j_isub dX2_readsNumber_74 ?_
              refine mj_iast (j := 6) (i := k) hO dX2_readsNumber_75 (by decide) rfl (by show _ < 2; omega) ?_
              refine j_mem (M' := mput M L (msP s b q (va_up g k (10 * v + s.2 5 b - 48)))) (congrArg (mput M L) (show msP s b q (va_up g k (10 * v + s.2 5 b - 48)) = ms_a (msP s b q (va_up g k v)) 6 (va_up ((msP s b q (va_up g k v)).2 6) k (10 * (msP s b q (va_up g k v)).2 6 k + s.2 5 b - 48)) by rw [msP_num, msP_6, va_up_self, va_upup])) ?_
              refine j_aload_n dX2_readsNumber_76 rfl rfl ?_
              refine j_dup dX2_readsNumber_77 rfl ?_
              refine mj_get hO dX2_readsNumber_78 fd_X2_207_2 rfl ?_
              refine j_iconst (v := 1) dX2_readsNumber_81 (by decide) ?_
              refine j_iadd dX2_readsNumber_82 ?_
              refine mj_put hO dX2_readsNumber_83 fd_X2_207_2 rfl (fun r hr => ⟨(ft_2_14 r hr).1, (ft_2_14 r hr).2.1⟩) rfl rfl ?_
              refine j_mem (M' := mput M L (msP s (b + 1) q (va_up g k (10 * v + s.2 5 b - 48)))) (congrArg (mput M L) (show msP s (b + 1) q (va_up g k (10 * v + s.2 5 b - 48)) = ms_z (msP s b q (va_up g k (10 * v + s.2 5 b - 48))) 14 (nI b + 1) by rw [nI_1, msP_at])) ?_
              refine j_iinc (v := nI (j + 1)) dX2_readsNumber_86 rfl (nI_1 _) (by decide) rfl ?_
              refine j_goto (tgt := 34) dX2_readsNumber_89 (by decide) ?_
              refine j_locs (ls2 := [(0, .ref (L 0)), (1, .int (nI k)), (2, .int (nI d)), (3, .int (nI (j + 1)))]) ⟨rfl, rfl, rfl, rfl, trivial⟩ (ie_ (j + 1) (b + 1) (10 * v + s.2 5 b - 48) (by omega) hlt_ ?_)
              rw [← hpd]; conv => rhs; unfold pDigs
              rw [if_pos hy_]
      refine j_mem (M' := mput M L (msP s (a + 1) q (va_up g k 0))) (congrArg (mput M L) (msP_num _ _ _ _ _).symm) ?_
      refine j_locs (ls2 := [(0, .ref (L 0)), (1, .int (nI k)), (2, .int (nI d)), (3, .int (nI 0))]) ⟨rfl, rfl, rfl, rfl, trivial⟩ ?_
      exact lp_ d 0 (a + 1) 0 rfl (pAt_lt c6) rfl
    · refine j_iconst (v := 0) dX2_readsNumber_23 (by decide) ?_
      exact j_zreturn dX2_readsNumber_24 rfl rfl (mjv (by unfold pNum; rw [if_pos c6, if_neg (Bool.eq_false_iff.mp ((hdg_ _ (pAt_lt c6)).symm.trans c20))]; rfl) (by unfold pNum; rw [if_pos c6, if_neg (Bool.eq_false_iff.mp ((hdg_ _ (pAt_lt c6)).symm.trans c20))]))

end M6
