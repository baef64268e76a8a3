section K11
variable {l : Launch} {G : j_G} {M : j_M} {W : jWt} {A : Nat → Nat} {H : HV}
theorem X1_gownsBy_m (hH : HAt G W M A H) (hOK_ : hOK H) : JM l G 3 yX1_gownsBy wX1_gownsBy [.ref (A 0)] M (jr (fun v M' => v = some (.ref M.2.1) ∧ M'.1 M.2.1 = some (.inl (0, 16, .inl (hGowns H (hn H)))) ∧ jEx G M M' 2 20)) := by
  refine JM.of pn_X1 (Nat.le_of_ble_eq_true rfl) (hH.wf.1) ?_
  show JW l G 3 YX1_gownsBy _ 0 [(0, .ref (A 0))] [] M
  refine j_bipush (v := 16) dX1_gownsBy_0 (by decide) ?_
  refine j_newI (n := 16) dX1_gownsBy_2 q267 rfl (by decide) ?_
  refine j_astore_n dX1_gownsBy_4 rfl (by decide) rfl ?_
  obtain ⟨ar, har_⟩ : ∃ q : Nat, q = M.2.1 := ⟨_, rfl⟩
  obtain ⟨Mr_, hMr_⟩ : ∃ X : j_M, X = j_new M (.inl (0, 16, .inl (fun _ => 0))) 16 := ⟨_, rfl⟩
  rw [← har_, ← hMr_]
  have hr_ : Mr_.1 ar = some (.inl (0, 16, .inl (fun _ => 0))) := by rw [hMr_, har_]; exact j_neq
  have hHr_ : HAt G W Mr_ A H := by rw [hMr_]; exact hH.newE
  have hEr_ : jEx G M Mr_ 1 16 := by rw [hMr_]; exact jFr.new hH.wf
  have hMr2_ : M.2.1 ≤ Mr_.2.1 := hEr_.2.1.1
  have harm_ : M.2.1 ≤ ar := Nat.le_of_eq har_.symm
  have harB_ : jB G ≤ ar := Nat.le_trans hH.wf.1 harm_
  refine j_aload_n dX1_gownsBy_5 rfl rfl ?_
  refine j_get dX1_gownsBy_6 fd_X1_14_1 hHr_.house rfl ?_
  refine j_callV (hHr_.biter) dX1_gownsBy_9 mt_J2_iterator q367 q368 q369 hHr_.al (by decide) rfl cd_J2_iterator (Nat.le_of_ble_eq_true rfl) rfl rfl (Nat.le_of_ble_eq_true rfl) (jk_v ?_) jx_v
  obtain ⟨it2_, hit2_⟩ : ∃ q : Nat, q = Mr_.2.1 := ⟨_, rfl⟩
  obtain ⟨M2_, hM2_⟩ : ∃ X : j_M, X = j_new Mr_ (bit H A 0 (-1)) 4 := ⟨_, rfl⟩
  rw [← hit2_, ← hM2_]
  have hI2_ : M2_.1 it2_ = some (bit H A 0 (-1)) := by rw [hM2_, hit2_]; exact j_neq
  have hH2_ : HAt G W M2_ A H := by rw [hM2_]; exact hHr_.newE
  have hE2_ : jEx G Mr_ M2_ 1 4 := by rw [hM2_]; exact jFr.new hHr_.wf
  have hq2_ : jB G ≤ it2_ := by rw [hit2_]; exact hHr_.wf.1
  have hqm2_ : Mr_.2.1 ≤ it2_ := Nat.le_of_eq hit2_.symm
  refine j_astore_n dX1_gownsBy_12 rfl (by decide) rfl ?_
  have lp2_ : ∀ (e k : Nat) (M_ : j_M) (lr : Int32) , e + k = hn H → HAt G W M_ A H → M_.1 it2_ = some (bit H A k lr) → jFr G jNo M M_ 2 20 → (M_.1 ar = some (.inl (0, 16, .inl (hGowns H k)))) → JW l G 3 YX1_gownsBy (jr (fun v M' => v = some (.ref ar) ∧ M'.1 ar = some (.inl (0, 16, .inl (hGowns H (hn H)))) ∧ jEx G M M' 2 20)) 13 [(0, .ref (A 0)), (1, .ref ar), (2, .ref it2_)] [] M_ := by
    intro e
    induction e with
    | zero =>
      intro k M_ lr  hek hA_ hI_ hf_ hk0_ 
      refine j_aload_n dX1_gownsBy_13 rfl rfl ?_
      refine j_callF (hA_.bhas hI_ (show k ≤ hn H by omega)) dX1_gownsBy_14 mt_J10_hasNext q393 (by decide +kernel) rfl q424 q426 hI_ (by decide) rfl cd_J10_hasNext (Nat.le_of_ble_eq_true rfl) rfl rfl (Nat.le_of_ble_eq_true rfl) (jk_v ?_) jx_v
      refine j_ifeqB (tgt := 45) dX1_gownsBy_19 (by decide) (fun c19 => ?_) (fun c19 => ?_)
      · have hkn_ : k = hn H := by omega
        refine j_aload_n dX1_gownsBy_45 rfl rfl ?_
        exact j_areturn dX1_gownsBy_46 rfl rfl rfl (jr_i ⟨rfl, by rw [← hkn_]; exact hk0_, hf_⟩)
      · exact absurd (of_decide_eq_true c19) (by omega)
    | succ e ih_ =>
      intro k M_ lr  hek hA_ hI_ hf_ hk0_ 
      refine j_aload_n dX1_gownsBy_13 rfl rfl ?_
      refine j_callF (hA_.bhas hI_ (show k ≤ hn H by omega)) dX1_gownsBy_14 mt_J10_hasNext q393 (by decide +kernel) rfl q424 q426 hI_ (by decide) rfl cd_J10_hasNext (Nat.le_of_ble_eq_true rfl) rfl rfl (Nat.le_of_ble_eq_true rfl) (jk_v ?_) jx_v
      refine j_ifeqB (tgt := 45) dX1_gownsBy_19 (by decide) (fun c19 => ?_) (fun c19 => ?_)
      · exact absurd c19 (by rw [decide_eq_true (show k < hn H by omega)]; decide)
      · have hkH_ : k < hn H := by omega
        have hk_ : k < hn H := by omega
        refine j_aload_n dX1_gownsBy_22 rfl rfl ?_
        refine j_callF (hA_.bnext hI_ hk_) dX1_gownsBy_23 mt_J10_next q439 (by decide +kernel) rfl q834 q836 hI_ (by decide) rfl cd_J10_next (Nat.le_of_ble_eq_true rfl) rfl rfl (Nat.le_of_ble_eq_true rfl) (jk_v ?_) jx_v
        obtain ⟨hA2_, hI2_, hf2_⟩ := hA_.bstep (lr2 := nI k) hI_ hq2_ hf_ (fun h => absurd h (by omega))
        have hk0_ := j_pne (a := it2_) (e := bit H A (k + 1) (nI k)) (j_nek (M := M_) hk0_ hI_ (Nat.ne_of_beq_eq_false rfl)) hk0_
        obtain ⟨M2_, hM2_⟩ : ∃ X : j_M, X = j_put M_ it2_ (bit H A (k + 1) (nI k)) := ⟨_, rfl⟩
        rw [← hM2_] at hA2_ hI2_ hf2_ hk0_ ⊢
        refine j_chk dX1_gownsBy_28 (hA2_.bro hk_) (by decide) rfl q857 (Or.inl rfl) ?_
        refine j_astore_n dX1_gownsBy_31 rfl (by decide) rfl ?_
        have hnum_ : hb H k 0 = nI k := (hOK_ k hk_).1
        have hk16_ : k < 16 := Nat.lt_of_lt_of_le hk_ hA_.2.1.1
        refine j_aload_n dX1_gownsBy_32 rfl rfl ?_
        refine j_aload_n dX1_gownsBy_33 rfl rfl ?_
        refine j_get dX1_gownsBy_34 fd_X1_189_3 (hA2_.bro hk_) rfl ?_
        refine j_aload_n dX1_gownsBy_37 rfl rfl ?_
        refine j_get dX1_gownsBy_38 fd_X1_226_3 (hA2_.bro hk_) rfl ?_
        refine j_iast (j := k) dX1_gownsBy_41 hk0_ hnum_ hk16_ (by decide) ?_
        have hX6_ := hA2_.putE (e := .inl (0, 16, .inl (va_up (hGowns H k) k (hb H k 5)))) hk0_ rfl harB_
        have hf6w_ := hf2_.stepp (e := .inl (0, 16, .inl (va_up (hGowns H k) k (hb H k 5)))) hk0_ (fun h => absurd h (by omega))
        obtain ⟨N6_, hN6_⟩ : ∃ X : j_M, X = j_put M2_ ar (.inl (0, 16, .inl (va_up (hGowns H k) k (hb H k 5)))) := ⟨_, rfl⟩
        have hw6_0_ : N6_.1 ar = some (.inl (0, 16, .inl (va_up (hGowns H k) k (hb H k 5)))) := by rw [hN6_]; exact j_peq
        have hw6_1_ : N6_.1 it2_ = some (.inr (16, [.int (nI (k + 1)), .int (nI k), .int (H.1 0), .ref (A 1)])) := by rw [hN6_]; exact j_pne (j_nek (M := M2_) hI2_ hk0_ (Nat.ne_of_beq_eq_false rfl)) hI2_
        rw [← hN6_] at hX6_ hf6w_
        refine j_mem (M' := N6_) hN6_ ?_
        refine j_goto (tgt := 13) dX1_gownsBy_42 (by decide) ?_
        refine j_locs (ls2 := [(0, .ref (A 0)), (1, .ref ar), (2, .ref it2_)]) ⟨rfl, rfl, rfl, trivial⟩ ?_
        exact ih_ (k + 1) _ _  (by omega) hX6_ hw6_1_ hf6w_ hw6_0_ 
  refine j_locs (ls2 := [(0, .ref (A 0)), (1, .ref ar), (2, .ref it2_)]) ⟨rfl, rfl, rfl, trivial⟩ ?_
  exact lp2_ (hn H) 0 M2_ (-1)  rfl hH2_ hI2_ ((hEr_.trans hE2_ (fun _ _ h => h) (fun _ _ h => h) (Nat.le_refl _) (Nat.le_refl _)).mono (fun _ _ q => False.elim q) (by decide) (by decide)) (hE2_.cell hHr_.wf hr_) 

theorem X1_allVoices_m (hH : HAt G W M A H) (hOK_ : hOK H) : JM l G 3 yX1_allVoices wX1_allVoices [.ref (A 0)] M (jr (fun v M' => v = some (.ref M.2.1) ∧ M'.1 M.2.1 = some (.inl (0, 16, .inl (hAllV H (hn H)))) ∧ jEx G M M' 2 20)) := by
  refine JM.of pn_X1 (Nat.le_of_ble_eq_true rfl) (hH.wf.1) ?_
  show JW l G 3 YX1_allVoices _ 0 [(0, .ref (A 0))] [] M
  refine j_bipush (v := 16) dX1_allVoices_0 (by decide) ?_
  refine j_newI (n := 16) dX1_allVoices_2 q267 rfl (by decide) ?_
  refine j_astore_n dX1_allVoices_4 rfl (by decide) rfl ?_
  obtain ⟨ar, har_⟩ : ∃ q : Nat, q = M.2.1 := ⟨_, rfl⟩
  obtain ⟨Mr_, hMr_⟩ : ∃ X : j_M, X = j_new M (.inl (0, 16, .inl (fun _ => 0))) 16 := ⟨_, rfl⟩
  rw [← har_, ← hMr_]
  have hr_ : Mr_.1 ar = some (.inl (0, 16, .inl (fun _ => 0))) := by rw [hMr_, har_]; exact j_neq
  have hHr_ : HAt G W Mr_ A H := by rw [hMr_]; exact hH.newE
  have hEr_ : jEx G M Mr_ 1 16 := by rw [hMr_]; exact jFr.new hH.wf
  have hMr2_ : M.2.1 ≤ Mr_.2.1 := hEr_.2.1.1
  have harm_ : M.2.1 ≤ ar := Nat.le_of_eq har_.symm
  have harB_ : jB G ≤ ar := Nat.le_trans hH.wf.1 harm_
  refine j_aload_n dX1_allVoices_5 rfl rfl ?_
  refine j_get dX1_allVoices_6 fd_X1_14_1 hHr_.house rfl ?_
  refine j_callV (hHr_.biter) dX1_allVoices_9 mt_J2_iterator q367 q368 q369 hHr_.al (by decide) rfl cd_J2_iterator (Nat.le_of_ble_eq_true rfl) rfl rfl (Nat.le_of_ble_eq_true rfl) (jk_v ?_) jx_v
  obtain ⟨it3_, hit3_⟩ : ∃ q : Nat, q = Mr_.2.1 := ⟨_, rfl⟩
  obtain ⟨M3_, hM3_⟩ : ∃ X : j_M, X = j_new Mr_ (bit H A 0 (-1)) 4 := ⟨_, rfl⟩
  rw [← hit3_, ← hM3_]
  have hI3_ : M3_.1 it3_ = some (bit H A 0 (-1)) := by rw [hM3_, hit3_]; exact j_neq
  have hH3_ : HAt G W M3_ A H := by rw [hM3_]; exact hHr_.newE
  have hE3_ : jEx G Mr_ M3_ 1 4 := by rw [hM3_]; exact jFr.new hHr_.wf
  have hq3_ : jB G ≤ it3_ := by rw [hit3_]; exact hHr_.wf.1
  have hqm3_ : Mr_.2.1 ≤ it3_ := Nat.le_of_eq hit3_.symm
  refine j_astore_n dX1_allVoices_12 rfl (by decide) rfl ?_
  have lp3_ : ∀ (e k : Nat) (M_ : j_M) (lr : Int32) , e + k = hn H → HAt G W M_ A H → M_.1 it3_ = some (bit H A k lr) → jFr G jNo M M_ 2 20 → (M_.1 ar = some (.inl (0, 16, .inl (hAllV H k)))) → JW l G 3 YX1_allVoices (jr (fun v M' => v = some (.ref ar) ∧ M'.1 ar = some (.inl (0, 16, .inl (hAllV H (hn H)))) ∧ jEx G M M' 2 20)) 13 [(0, .ref (A 0)), (1, .ref ar), (2, .ref it3_)] [] M_ := by
    intro e
    induction e with
    | zero =>
      intro k M_ lr  hek hA_ hI_ hf_ hk0_ 
      refine j_aload_n dX1_allVoices_13 rfl rfl ?_
      refine j_callF (hA_.bhas hI_ (show k ≤ hn H by omega)) dX1_allVoices_14 mt_J10_hasNext q393 (by decide +kernel) rfl q424 q426 hI_ (by decide) rfl cd_J10_hasNext (Nat.le_of_ble_eq_true rfl) rfl rfl (Nat.le_of_ble_eq_true rfl) (jk_v ?_) jx_v
      refine j_ifeqB (tgt := 78) dX1_allVoices_19 (by decide) (fun c19 => ?_) (fun c19 => ?_)
      · have hkn_ : k = hn H := by omega
        refine j_aload_n dX1_allVoices_78 rfl rfl ?_
        exact j_areturn dX1_allVoices_79 rfl rfl rfl (jr_i ⟨rfl, by rw [← hkn_]; exact hk0_, hf_⟩)
      · exact absurd (of_decide_eq_true c19) (by omega)
    | succ e ih_ =>
      intro k M_ lr  hek hA_ hI_ hf_ hk0_ 
      refine j_aload_n dX1_allVoices_13 rfl rfl ?_
      refine j_callF (hA_.bhas hI_ (show k ≤ hn H by omega)) dX1_allVoices_14 mt_J10_hasNext q393 (by decide +kernel) rfl q424 q426 hI_ (by decide) rfl cd_J10_hasNext (Nat.le_of_ble_eq_true rfl) rfl rfl (Nat.le_of_ble_eq_true rfl) (jk_v ?_) jx_v
      refine j_ifeqB (tgt := 78) dX1_allVoices_19 (by decide) (fun c19 => ?_) (fun c19 => ?_)
      · exact absurd c19 (by rw [decide_eq_true (show k < hn H by omega)]; decide)
      · have hkH_ : k < hn H := by omega
        have hk_ : k < hn H := by omega
        refine j_aload_n dX1_allVoices_22 rfl rfl ?_
        refine j_callF (hA_.bnext hI_ hk_) dX1_allVoices_23 mt_J10_next q439 (by decide +kernel) rfl q834 q836 hI_ (by decide) rfl cd_J10_next (Nat.le_of_ble_eq_true rfl) rfl rfl (Nat.le_of_ble_eq_true rfl) (jk_v ?_) jx_v
        obtain ⟨hA2_, hI2_, hf2_⟩ := hA_.bstep (lr2 := nI k) hI_ hq3_ hf_ (fun h => absurd h (by omega))
        have hk0_ := j_pne (a := it3_) (e := bit H A (k + 1) (nI k)) (j_nek (M := M_) hk0_ hI_ (Nat.ne_of_beq_eq_false rfl)) hk0_
        obtain ⟨M2_, hM2_⟩ : ∃ X : j_M, X = j_put M_ it3_ (bit H A (k + 1) (nI k)) := ⟨_, rfl⟩
        rw [← hM2_] at hA2_ hI2_ hf2_ hk0_ ⊢
        refine j_chk dX1_allVoices_28 (hA2_.bro hk_) (by decide) rfl q857 (Or.inl rfl) ?_
        refine j_astore_n dX1_allVoices_31 rfl (by decide) rfl ?_
        have hk16_ : k < 16 := Nat.lt_of_lt_of_le hk_ hA_.2.1.1
        refine j_aload_n dX1_allVoices_32 rfl rfl ?_
        refine j_get dX1_allVoices_33 fd_X1_133_3 (hA2_.bro hk_) rfl ?_
        refine j_bipush (v := (-15)) dX1_allVoices_36 (by decide) ?_
        refine j_icmp_eq (tgt := 75) dX1_allVoices_38 (by decide) (fun c38 => ?_) (fun c38 => ?_)
        · refine j_goto (tgt := 13) dX1_allVoices_75 (by decide) ?_
          have hz_ : hAllV H (k + 1) = hAllV H k := if_pos c38
          refine j_locs (ls2 := [(0, .ref (A 0)), (1, .ref ar), (2, .ref it3_)]) ⟨rfl, rfl, rfl, trivial⟩ ?_
          exact ih_ (k + 1) _ _  (by omega) hA2_ hI2_ hf2_ (by rw [hz_]; exact hk0_) 
        · obtain ⟨v, hv_, ev_⟩ := (hOK_ k hk_).2.resolve_left c38
          have hv16_ : v < 16 := Nat.lt_of_lt_of_le hv_ hA_.2.1.1
          have eN_ : mN (nI v) = v := mN_nI (by omega)
          refine j_aload_n dX1_allVoices_41 rfl rfl ?_
          refine j_aload_n dX1_allVoices_42 rfl rfl ?_
          refine j_get dX1_allVoices_43 fd_X1_133_3 (hA2_.bro hk_) rfl ?_
          rw [ev_]
          refine j_dup2_11 dX1_allVoices_46 rfl rfl ?_
          refine j_iald (j := v) dX1_allVoices_47 hk0_ (by decide) rfl hv16_ (by decide) ?_
          refine j_aload_n dX1_allVoices_48 rfl rfl ?_
          refine j_get dX1_allVoices_49 fd_X1_14_1 hA2_.house rfl ?_
          refine j_aload_n dX1_allVoices_52 rfl rfl ?_
          refine j_get dX1_allVoices_53 fd_X1_133_3 (hA2_.bro hk_) rfl ?_
          rw [ev_]
          refine j_callV (hA2_.get (b := v) hv_) dX1_allVoices_56 mt_J2_get q1162 q518 q519 hA2_.al (by decide) rfl cd_J2_get (Nat.le_of_ble_eq_true rfl) rfl rfl (Nat.le_of_ble_eq_true rfl) (jk_v ?_) jx_v
          refine j_chk dX1_allVoices_59 (hA2_.bro hv_) (by decide) rfl q857 (Or.inl rfl) ?_
          refine j_get dX1_allVoices_62 fd_X1_154_3 (hA2_.bro hv_) rfl ?_
          refine j_if_eq (tgt := 72) dX1_allVoices_65 (by decide) (fun c65 => ?_) (fun c65 => ?_)
          · refine j_iconst (v := 1) dX1_allVoices_72 (by decide) ?_
            refine j_iadd dX1_allVoices_73 ?_
            refine j_iast (j := v) dX1_allVoices_74 hk0_ rfl hv16_ (by decide) ?_
            have hX7_ := hA2_.putE (e := .inl (0, 16, .inl (va_up (hAllV H k) v (((hAllV H k) v) + 1)))) hk0_ rfl harB_
            have hf7w_ := hf2_.stepp (e := .inl (0, 16, .inl (va_up (hAllV H k) v (((hAllV H k) v) + 1)))) hk0_ (fun h => absurd h (by omega))
            obtain ⟨N7_, hN7_⟩ : ∃ X : j_M, X = j_put M2_ ar (.inl (0, 16, .inl (va_up (hAllV H k) v (((hAllV H k) v) + 1)))) := ⟨_, rfl⟩
            have hw7_0_ : N7_.1 ar = some (.inl (0, 16, .inl (va_up (hAllV H k) v (((hAllV H k) v) + 1)))) := by rw [hN7_]; exact j_peq
            have hw7_1_ : N7_.1 it3_ = some (.inr (16, [.int (nI (k + 1)), .int (nI k), .int (H.1 0), .ref (A 1)])) := by rw [hN7_]; exact j_pne (j_nek (M := M2_) hI2_ hk0_ (Nat.ne_of_beq_eq_false rfl)) hI2_
            rw [← hN7_] at hX7_ hf7w_
            refine j_mem (M' := N7_) hN7_ ?_
            refine j_goto (tgt := 13) dX1_allVoices_75 (by decide) ?_
            have hz_ : hAllV H (k + 1) = (va_up (hAllV H k) v (((hAllV H k) v) + 1)) := by
              show (if hb H k 8 = -15 then hAllV H k else va_up (hAllV H k) (mN (hb H k 8)) (hAllV H k (mN (hb H k 8)) + (if hb H (mN (hb H k 8)) 1 = 0 then 1 else 2))) = _
              rw [if_neg c38, ev_, eN_]; first | rw [if_pos c65] | rw [if_neg c65]
            refine j_locs (ls2 := [(0, .ref (A 0)), (1, .ref ar), (2, .ref it3_)]) ⟨rfl, rfl, rfl, trivial⟩ ?_
            exact ih_ (k + 1) _ _  (by omega) hX7_ hw7_1_ hf7w_ (by rw [hz_]; exact hw7_0_) 
          · refine j_iconst (v := 2) dX1_allVoices_68 (by decide) ?_
            refine j_goto (tgt := 73) dX1_allVoices_69 (by decide) ?_
            refine j_iadd dX1_allVoices_73 ?_
            refine j_iast (j := v) dX1_allVoices_74 hk0_ rfl hv16_ (by decide) ?_
            have hX8_ := hA2_.putE (e := .inl (0, 16, .inl (va_up (hAllV H k) v (((hAllV H k) v) + 2)))) hk0_ rfl harB_
            have hf8w_ := hf2_.stepp (e := .inl (0, 16, .inl (va_up (hAllV H k) v (((hAllV H k) v) + 2)))) hk0_ (fun h => absurd h (by omega))
            obtain ⟨N8_, hN8_⟩ : ∃ X : j_M, X = j_put M2_ ar (.inl (0, 16, .inl (va_up (hAllV H k) v (((hAllV H k) v) + 2)))) := ⟨_, rfl⟩
            have hw8_0_ : N8_.1 ar = some (.inl (0, 16, .inl (va_up (hAllV H k) v (((hAllV H k) v) + 2)))) := by rw [hN8_]; exact j_peq
            have hw8_1_ : N8_.1 it3_ = some (.inr (16, [.int (nI (k + 1)), .int (nI k), .int (H.1 0), .ref (A 1)])) := by rw [hN8_]; exact j_pne (j_nek (M := M2_) hI2_ hk0_ (Nat.ne_of_beq_eq_false rfl)) hI2_
            rw [← hN8_] at hX8_ hf8w_
            refine j_mem (M' := N8_) hN8_ ?_
            refine j_goto (tgt := 13) dX1_allVoices_75 (by decide) ?_
            have hz_ : hAllV H (k + 1) = (va_up (hAllV H k) v (((hAllV H k) v) + 2)) := by
              show (if hb H k 8 = -15 then hAllV H k else va_up (hAllV H k) (mN (hb H k 8)) (hAllV H k (mN (hb H k 8)) + (if hb H (mN (hb H k 8)) 1 = 0 then 1 else 2))) = _
              rw [if_neg c38, ev_, eN_]; first | rw [if_pos c65] | rw [if_neg c65]
            refine j_locs (ls2 := [(0, .ref (A 0)), (1, .ref ar), (2, .ref it3_)]) ⟨rfl, rfl, rfl, trivial⟩ ?_
            exact ih_ (k + 1) _ _  (by omega) hX8_ hw8_1_ hf8w_ (by rw [hz_]; exact hw8_0_) 
  refine j_locs (ls2 := [(0, .ref (A 0)), (1, .ref ar), (2, .ref it3_)]) ⟨rfl, rfl, rfl, trivial⟩ ?_
  exact lp3_ (hn H) 0 M3_ (-1)  rfl hH3_ hI3_ ((hEr_.trans hE3_ (fun _ _ h => h) (fun _ _ h => h) (Nat.le_refl _) (Nat.le_refl _)).mono (fun _ _ q => False.elim q) (by decide) (by decide)) (hE3_.cell hHr_.wf hr_) 

theorem X1_shabby_m (hH : HAt G W M A H) (hG : jGd G W) (hOK_ : hOK H) {z i : Nat} (place : Int32) (hZ : M.1 z = some (aobj i)) (hi : i < 2) (hx16_ : ∀ x, x ∈ hs H → x < 16) : JM l G 7 yX1_shabby wX1_shabby [.ref (A 0), .int place, .ref z] M (jr (fun v M' => v = some (.int (hPlaced i (hs H) (hGowns H (hn H)) place)) ∧ jEx G M M' 35 185)) := by
  refine JM.of pn_X1 (Nat.le_of_ble_eq_true rfl) (hH.wf.1) ?_
  show JW l G 7 YX1_shabby _ 0 [(0, .ref (A 0)), (1, .int place), (2, .ref z)] [] M
  refine j_aload_n dX1_shabby_0 rfl rfl ?_
  refine j_get dX1_shabby_1 fd_X1_27_1 hH.house rfl ?_
  refine j_aload_n dX1_shabby_4 rfl rfl ?_
  refine j_callV (X1_gownsBy_m hH hOK_) dX1_shabby_5 mt_X1_gownsBy q1545 q1547 qs23 hH.house (by decide) rfl cd_X1_gownsBy (Nat.le_of_ble_eq_true rfl) rfl rfl (Nat.le_of_ble_eq_true rfl) (jk_r (fun v_ M_ hp_ => ?_)) jx_r
  obtain ⟨rfl, hr_, hE_⟩ := hp_
  show JW _ _ _ _ _ _ _ [.ref M.2.1, .ref (A 4)] M_
  have hHm_ := hH.ex hE_
  refine j_aload_n dX1_shabby_8 rfl rfl ?_
  refine j_iload_n dX1_shabby_9 rfl ?_
  refine j_callSN (X0_placed_m hHm_.1 hG hHm_.sen hx16_ hHm_.2.1.2.2 (hE_.cell hH.wf hZ) hr_ hi place) dX1_shabby_10 mt_X0_placed q1319 q1320 cd_X0_placed (Nat.le_of_ble_eq_true rfl) rfl rfl (Nat.le_of_ble_eq_true rfl) (jk_r (fun v_ M2_ hp_ => ?_)) jx_r
  obtain ⟨rfl, hE2_⟩ := hp_
  show JW _ _ _ _ _ _ _ [.int (hPlaced i (hs H) (hGowns H (hn H)) place)] M2_
  exact j_ireturn dX1_shabby_13 rfl (jr_i ⟨rfl, hE_.trans hE2_ (fun _ _ h => h) (fun _ _ h => h) (by decide) (by decide)⟩)

theorem X1_ranked_m (hH : HAt G W M A H) (hG : jGd G W) (hOK_ : hOK H) {z i : Nat} (place : Int32) (hZ : M.1 z = some (aobj i)) (hi : i < 2) (hx16_ : ∀ x, x ∈ hl H → x < 16) : JM l G 7 yX1_ranked wX1_ranked [.ref (A 0), .int place, .ref z] M (jr (fun v M' => v = some (.int (hPlaced i (hl H) (hAllV H (hn H)) place)) ∧ jEx G M M' 35 185)) := by
  refine JM.of pn_X1 (Nat.le_of_ble_eq_true rfl) (hH.wf.1) ?_
  show JW l G 7 YX1_ranked _ 0 [(0, .ref (A 0)), (1, .int place), (2, .ref z)] [] M
  refine j_aload_n dX1_ranked_0 rfl rfl ?_
  refine j_get dX1_ranked_1 fd_X1_23_1 hH.house rfl ?_
  refine j_aload_n dX1_ranked_4 rfl rfl ?_
  refine j_callV (X1_allVoices_m hH hOK_) dX1_ranked_5 mt_X1_allVoices q1315 q1316 q1317 hH.house (by decide) rfl cd_X1_allVoices (Nat.le_of_ble_eq_true rfl) rfl rfl (Nat.le_of_ble_eq_true rfl) (jk_r (fun v_ M_ hp_ => ?_)) jx_r
  obtain ⟨rfl, hr_, hE_⟩ := hp_
  show JW _ _ _ _ _ _ _ [.ref M.2.1, .ref (A 3)] M_
  have hHm_ := hH.ex hE_
  refine j_aload_n dX1_ranked_8 rfl rfl ?_
  refine j_iload_n dX1_ranked_9 rfl ?_
  refine j_callSN (X0_placed_m hHm_.1 hG hHm_.line hx16_ hHm_.2.1.2.1 (hE_.cell hH.wf hZ) hr_ hi place) dX1_ranked_10 mt_X0_placed q1319 q1320 cd_X0_placed (Nat.le_of_ble_eq_true rfl) rfl rfl (Nat.le_of_ble_eq_true rfl) (jk_r (fun v_ M2_ hp_ => ?_)) jx_r
  obtain ⟨rfl, hE2_⟩ := hp_
  show JW _ _ _ _ _ _ _ [.int (hPlaced i (hl H) (hAllV H (hn H)) place)] M2_
  exact j_ireturn dX1_ranked_13 rfl (jr_i ⟨rfl, hE_.trans hE2_ (fun _ _ h => h) (fun _ _ h => h) (by decide) (by decide)⟩)

end K11
