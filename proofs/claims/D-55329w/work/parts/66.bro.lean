section K1
variable {l : Launch} {G : j_G} {M : j_M} {W : jWt}
theorem X3_isEntitled_m (hW : j_wf G M) {a k : Nat} {x0 x1 x2 x3 x4 x5 x6 x7 x8 : Int32} (hB : M.1 a = some (.inr (3, [.int x0, .int x1, .int x2, .int x3, .int x4, .int x5, .int x6, .int x7, .int x8, .ref k]))) : JM l G 0 yX3_isEntitled wX3_isEntitled [.ref a] M (jv (.int (jb (decide (x3 = 1) && decide (x6 = 0)))) M) := by
  refine JM.of pn_X3 (Nat.le_of_ble_eq_true rfl) (hW.1) ?_
  show JW l G 0 YX3_isEntitled _ 0 [(0, .ref a)] [] M
  refine j_aload_n dX3_isEntitled_0 rfl rfl ?_
  refine j_get dX3_isEntitled_1 fd_X3_9_3 hB rfl ?_
  refine j_iconst (v := 1) dX3_isEntitled_4 (by decide) ?_
  refine j_icmp_ne (tgt := 19) dX3_isEntitled_5 (by decide) (fun c5 => ?_) (fun c5 => ?_)
  · refine j_iconst (v := 0) dX3_isEntitled_19 (by decide) ?_
    exact j_zreturn dX3_isEntitled_20 rfl rfl (jv_i (by simp_all [jb]))
  · refine j_aload_n dX3_isEntitled_8 rfl rfl ?_
    refine j_get dX3_isEntitled_9 fd_X3_41_3 hB rfl ?_
    refine j_if_ne (tgt := 19) dX3_isEntitled_12 (by decide) (fun c12 => ?_) (fun c12 => ?_)
    · refine j_iconst (v := 0) dX3_isEntitled_19 (by decide) ?_
      exact j_zreturn dX3_isEntitled_20 rfl rfl (jv_i (by simp_all [jb]))
    · refine j_iconst (v := 1) dX3_isEntitled_15 (by decide) ?_
      refine j_goto (tgt := 20) dX3_isEntitled_16 (by decide) ?_
      exact j_zreturn dX3_isEntitled_20 rfl rfl (jv_i (by simp_all [jb]))

theorem X3_isHere_m (hW : j_wf G M) {a k : Nat} {x0 x1 x2 x3 x4 x5 x6 x7 x8 : Int32} (hB : M.1 a = some (.inr (3, [.int x0, .int x1, .int x2, .int x3, .int x4, .int x5, .int x6, .int x7, .int x8, .ref k]))) : JM l G 0 yX3_isHere wX3_isHere [.ref a] M (jv (.int (jb (decide (x3 = 0) || decide (x3 = 1)))) M) := by
  refine JM.of pn_X3 (Nat.le_of_ble_eq_true rfl) (hW.1) ?_
  show JW l G 0 YX3_isHere _ 0 [(0, .ref a)] [] M
  refine j_aload_n dX3_isHere_0 rfl rfl ?_
  refine j_get dX3_isHere_1 fd_X3_9_3 hB rfl ?_
  refine j_if_eq (tgt := 15) dX3_isHere_4 (by decide) (fun c4 => ?_) (fun c4 => ?_)
  · refine j_iconst (v := 1) dX3_isHere_15 (by decide) ?_
    refine j_goto (tgt := 20) dX3_isHere_16 (by decide) ?_
    exact j_zreturn dX3_isHere_20 rfl rfl (jv_i (by simp_all [jb]))
  · refine j_aload_n dX3_isHere_7 rfl rfl ?_
    refine j_get dX3_isHere_8 fd_X3_9_3 hB rfl ?_
    refine j_iconst (v := 1) dX3_isHere_11 (by decide) ?_
    refine j_icmp_ne (tgt := 19) dX3_isHere_12 (by decide) (fun c12 => ?_) (fun c12 => ?_)
    · refine j_iconst (v := 0) dX3_isHere_19 (by decide) ?_
      exact j_zreturn dX3_isHere_20 rfl rfl (jv_i (by simp_all [jb]))
    · refine j_iconst (v := 1) dX3_isHere_15 (by decide) ?_
      refine j_goto (tgt := 20) dX3_isHere_16 (by decide) ?_
      exact j_zreturn dX3_isHere_20 rfl rfl (jv_i (by simp_all [jb]))

theorem X3_goes_m (hW : j_wf G M) {a k : Nat} {x0 x1 x2 x3 x4 x5 x6 x7 x8 : Int32} (hB : M.1 a = some (.inr (3, [.int x0, .int x1, .int x2, .int x3, .int x4, .int x5, .int x6, .int x7, .int x8, .ref k]))) (how : Int32) : JM l G 0 yX3_goes wX3_goes [.ref a, .int how] M (jn (j_put M a (.inr (3, [.int x0, .int x1, .int x2, .int how, .int (-15), .int 0, .int 0, .int x7, .int (-15), .ref k])))) := by
  refine JM.of pn_X3 (Nat.le_of_ble_eq_true rfl) (hW.1) ?_
  show JW l G 0 YX3_goes _ 0 [(0, .ref a), (1, .int how)] [] M
  refine j_aload_n dX3_goes_0 rfl rfl ?_
  refine j_iload_n dX3_goes_1 rfl ?_
  refine j_put_ dX3_goes_2 fd_X3_9_3 cl_3 (fun r hr => ⟨(ft_3_3 r hr).1, Or.inl (ft_3_3 r hr).2.1⟩) hB (Or.inr (by decide)) rfl rfl (Nat.le_of_ble_eq_true rfl) ?_
  show JW _ _ _ _ _ _ _ _ (j_put M a (.inr (3, [.int x0, .int x1, .int x2, .int how, .int x4, .int x5, .int x6, .int x7, .int x8, .ref k])))
  refine j_aload_n dX3_goes_5 rfl rfl ?_
  refine j_bipush (v := (-15)) dX3_goes_6 (by decide) ?_
  refine j_put_ dX3_goes_8 fd_X3_15_3 cl_3 (fun r hr => ⟨(ft_3_4 r hr).1, Or.inl (ft_3_4 r hr).2.1⟩) j_peq (Or.inr (by decide)) rfl rfl (Nat.le_of_ble_eq_true rfl) ?_
  rw [j_pp]
  show JW _ _ _ _ _ _ _ _ (j_put M a (.inr (3, [.int x0, .int x1, .int x2, .int how, .int (-15), .int x5, .int x6, .int x7, .int x8, .ref k])))
  refine j_aload_n dX3_goes_11 rfl rfl ?_
  refine j_bipush (v := (-15)) dX3_goes_12 (by decide) ?_
  refine j_put_ dX3_goes_14 fd_X3_18_3 cl_3 (fun r hr => ⟨(ft_3_8 r hr).1, Or.inl (ft_3_8 r hr).2.1⟩) j_peq (Or.inr (by decide)) rfl rfl (Nat.le_of_ble_eq_true rfl) ?_
  rw [j_pp]
  show JW _ _ _ _ _ _ _ _ (j_put M a (.inr (3, [.int x0, .int x1, .int x2, .int how, .int (-15), .int x5, .int x6, .int x7, .int (-15), .ref k])))
  refine j_aload_n dX3_goes_17 rfl rfl ?_
  refine j_iconst (v := 0) dX3_goes_18 (by decide) ?_
  refine j_put_ dX3_goes_19 fd_X3_41_3 cl_3 (fun r hr => ⟨(ft_3_6 r hr).1, Or.inl (ft_3_6 r hr).2.1⟩) j_peq (Or.inr (by decide)) rfl rfl (Nat.le_of_ble_eq_true rfl) ?_
  rw [j_pp]
  show JW _ _ _ _ _ _ _ _ (j_put M a (.inr (3, [.int x0, .int x1, .int x2, .int how, .int (-15), .int x5, .int 0, .int x7, .int (-15), .ref k])))
  refine j_aload_n dX3_goes_22 rfl rfl ?_
  refine j_iconst (v := 0) dX3_goes_23 (by decide) ?_
  refine j_put_ dX3_goes_24 fd_X3_38_3 cl_3 (fun r hr => ⟨(ft_3_5 r hr).1, Or.inl (ft_3_5 r hr).2.1⟩) j_peq (Or.inr (by decide)) rfl rfl (Nat.le_of_ble_eq_true rfl) ?_
  rw [j_pp]
  show JW _ _ _ _ _ _ _ _ (j_put M a (.inr (3, [.int x0, .int x1, .int x2, .int how, .int (-15), .int 0, .int 0, .int x7, .int (-15), .ref k])))
  exact j_return dX3_goes_27 rfl (rfl)

theorem X3_comesTo_m (hW : j_wf G M) {a k : Nat} {x0 x1 x2 x3 x4 x5 x6 x7 x8 : Int32} (hB : M.1 a = some (.inr (3, [.int x0, .int x1, .int x2, .int x3, .int x4, .int x5, .int x6, .int x7, .int x8, .ref k]))) (c : Int32) : JM l G 0 yX3_comesTo wX3_comesTo [.ref a, .int c] M (jn (j_put M a (.inr (3, [.int x0, .int x1, .int x2, .int 1, .int c, .int 0, .int x6, .int x7, .int x8, .ref k])))) := by
  refine JM.of pn_X3 (Nat.le_of_ble_eq_true rfl) (hW.1) ?_
  show JW l G 0 YX3_comesTo _ 0 [(0, .ref a), (1, .int c)] [] M
  refine j_aload_n dX3_comesTo_0 rfl rfl ?_
  refine j_iconst (v := 1) dX3_comesTo_1 (by decide) ?_
  refine j_put_ dX3_comesTo_2 fd_X3_9_3 cl_3 (fun r hr => ⟨(ft_3_3 r hr).1, Or.inl (ft_3_3 r hr).2.1⟩) hB (Or.inr (by decide)) rfl rfl (Nat.le_of_ble_eq_true rfl) ?_
  show JW _ _ _ _ _ _ _ _ (j_put M a (.inr (3, [.int x0, .int x1, .int x2, .int 1, .int x4, .int x5, .int x6, .int x7, .int x8, .ref k])))
  refine j_aload_n dX3_comesTo_5 rfl rfl ?_
  refine j_iload_n dX3_comesTo_6 rfl ?_
  refine j_put_ dX3_comesTo_7 fd_X3_15_3 cl_3 (fun r hr => ⟨(ft_3_4 r hr).1, Or.inl (ft_3_4 r hr).2.1⟩) j_peq (Or.inr (by decide)) rfl rfl (Nat.le_of_ble_eq_true rfl) ?_
  rw [j_pp]
  show JW _ _ _ _ _ _ _ _ (j_put M a (.inr (3, [.int x0, .int x1, .int x2, .int 1, .int c, .int x5, .int x6, .int x7, .int x8, .ref k])))
  refine j_aload_n dX3_comesTo_10 rfl rfl ?_
  refine j_iconst (v := 0) dX3_comesTo_11 (by decide) ?_
  refine j_put_ dX3_comesTo_12 fd_X3_38_3 cl_3 (fun r hr => ⟨(ft_3_5 r hr).1, Or.inl (ft_3_5 r hr).2.1⟩) j_peq (Or.inr (by decide)) rfl rfl (Nat.le_of_ble_eq_true rfl) ?_
  rw [j_pp]
  show JW _ _ _ _ _ _ _ _ (j_put M a (.inr (3, [.int x0, .int x1, .int x2, .int 1, .int c, .int 0, .int x6, .int x7, .int x8, .ref k])))
  exact j_return dX3_comesTo_15 rfl (rfl)

theorem X3_isTooMuch_m (hW : j_wf G M) {a k : Nat} {x0 x1 x2 x3 x4 x5 x6 x7 x8 : Int32} (hB : M.1 a = some (.inr (3, [.int x0, .int x1, .int x2, .int x3, .int x4, .int x5, .int x6, .int x7, .int x8, .ref k]))) {f : Nat → Int32} (hK : M.1 k = some (.inl (0, 5, .inl f))) {r : Nat} (hr : r < 5) : JM l G 0 yX3_isTooMuch wX3_isTooMuch [.ref a, .int (nI r)] M (jv (.int (jb (decide (f r + 1 = 3)))) (j_put (j_put M k (.inl (0, 5, .inl (va_up f r (f r + 1))))) a (.inr (3, [.int x0, .int x1, .int x2, .int x3, .int x4, .int x5, .int (x6 + (f r + 1)), .int x7, .int x8, .ref k])))) := by
  refine JM.of pn_X3 (Nat.le_of_ble_eq_true rfl) (hW.1) ?_
  show JW l G 0 YX3_isTooMuch _ 0 [(0, .ref a), (1, .int (nI r))] [] M
  refine j_aload_n dX3_isTooMuch_0 rfl rfl ?_
  refine j_get dX3_isTooMuch_1 fd_X3_21_3 hB rfl ?_
  refine j_iload_n dX3_isTooMuch_4 rfl ?_
  refine j_dup2_11 dX3_isTooMuch_5 rfl rfl ?_
  refine j_iald (j := r) dX3_isTooMuch_6 hK (by decide) rfl (by omega) (by omega) ?_
  refine j_iconst (v := 1) dX3_isTooMuch_7 (by decide) ?_
  refine j_iadd dX3_isTooMuch_8 ?_
  refine j_iast (j := r) dX3_isTooMuch_9 hK rfl (by omega) (by omega) ?_
  show JW _ _ _ _ _ _ _ _ (j_put M k (.inl (0, 5, .inl (va_up f r ((f r) + 1)))))
  refine j_aload_n dX3_isTooMuch_10 rfl rfl ?_
  refine j_dup dX3_isTooMuch_11 rfl ?_
  refine j_get dX3_isTooMuch_12 fd_X3_41_3 (j_pne (j_nek (M := M) hB hK (Nat.ne_of_beq_eq_false rfl)) hB) rfl ?_
  refine j_aload_n dX3_isTooMuch_15 rfl rfl ?_
  refine j_get dX3_isTooMuch_16 fd_X3_21_3 (j_pne (j_nek (M := M) hB hK (Nat.ne_of_beq_eq_false rfl)) hB) rfl ?_
  refine j_iload_n dX3_isTooMuch_19 rfl ?_
  refine j_iald (j := r) dX3_isTooMuch_20 j_peq (by decide) rfl (by omega) (by omega) ?_
  refine j_iadd dX3_isTooMuch_21 ?_
  refine j_put_ dX3_isTooMuch_22 fd_X3_41_3 cl_3 (fun r hr => ⟨(ft_3_6 r hr).1, Or.inl (ft_3_6 r hr).2.1⟩) (j_pne (j_nek (M := M) hB hK (Nat.ne_of_beq_eq_false rfl)) hB) (Or.inr (by decide)) rfl rfl (Nat.le_of_ble_eq_true rfl) ?_
  show JW _ _ _ _ _ _ _ _ (j_put (j_put M k (.inl (0, 5, .inl (va_up f r ((f r) + 1))))) a (.inr (3, [.int x0, .int x1, .int x2, .int x3, .int x4, .int x5, .int (x6 + ((va_up f r ((f r) + 1)) r)), .int x7, .int x8, .ref k])))
  refine j_aload_n dX3_isTooMuch_25 rfl rfl ?_
  refine j_get dX3_isTooMuch_26 fd_X3_21_3 j_peq rfl ?_
  refine j_iload_n dX3_isTooMuch_29 rfl ?_
  refine j_iald (j := r) dX3_isTooMuch_30 (j_pne (j_nek (M := (j_put M k (.inl (0, 5, .inl (va_up f r ((f r) + 1)))))) j_peq (j_pne (j_nek (M := M) hB hK (Nat.ne_of_beq_eq_false rfl)) hB) (Nat.ne_of_beq_eq_false rfl)) j_peq) (by decide) rfl (by omega) (by omega) ?_
  refine j_iconst (v := 3) dX3_isTooMuch_31 (by decide) ?_
  refine j_icmp_ne (tgt := 39) dX3_isTooMuch_32 (by decide) (fun c32 => ?_) (fun c32 => ?_)
  · refine j_iconst (v := 0) dX3_isTooMuch_39 (by decide) ?_
    exact j_zreturn dX3_isTooMuch_40 rfl rfl (by rw [show (decide (f r + 1 = 3)) = false from decide_eq_false (by have h := c32; rwa [va_up_self] at h)]; show jv _ _ _; rw [va_up_self]; rfl)
  · refine j_iconst (v := 1) dX3_isTooMuch_35 (by decide) ?_
    refine j_goto (tgt := 40) dX3_isTooMuch_36 (by decide) ?_
    exact j_zreturn dX3_isTooMuch_40 rfl rfl (by rw [show (decide (f r + 1 = 3)) = true from decide_eq_true (by have h := c32; rwa [va_up_self] at h)]; show jv _ _ _; rw [va_up_self]; rfl)

theorem X3_allBroken_m (hW : j_wf G M) {a k : Nat} {x0 x1 x2 x3 x4 x5 x6 x7 x8 : Int32} (hB : M.1 a = some (.inr (3, [.int x0, .int x1, .int x2, .int x3, .int x4, .int x5, .int x6, .int x7, .int x8, .ref k]))) {f : Nat → Int32} (hK : M.1 k = some (.inl (0, 5, .inl f))) : JM l G 0 yX3_allBroken wX3_allBroken [.ref a] M (jv (.int (msum f 5)) M) := by
  refine JM.of pn_X3 (Nat.le_of_ble_eq_true rfl) (hW.1) ?_
  show JW l G 0 YX3_allBroken _ 0 [(0, .ref a)] [] M
  refine j_iconst (v := 0) dX3_allBroken_0 (by decide) ?_
  refine j_istore_n dX3_allBroken_1 (by decide) rfl ?_
  refine j_aload_n dX3_allBroken_2 rfl rfl ?_
  refine j_get dX3_allBroken_3 fd_X3_21_3 hB rfl ?_
  refine j_astore_n dX3_allBroken_6 rfl (by decide) rfl ?_
  refine j_aload_n dX3_allBroken_7 rfl rfl ?_
  refine j_alen dX3_allBroken_8 hK (by decide) ?_
  refine j_istore_n dX3_allBroken_9 (by decide) rfl ?_
  refine j_iconst (v := 0) dX3_allBroken_10 (by decide) ?_
  refine j_istore dX3_allBroken_11 (by decide) rfl ?_
  have lb_ : ∀ (e j : Nat), e + j = 5 → JW l G 0 YX3_allBroken (jv (.int (msum f 5)) M) 13 [(0, .ref a), (1, .int (msum f j)), (2, .ref k), (3, .int (nI 5)), (4, .int (nI j))] [] M := by
    intro e
    induction e with
    | zero =>
      intro j hj
      obtain rfl : j = 5 := by omega
      refine j_iload dX3_allBroken_13 rfl ?_
      refine j_iload_n dX3_allBroken_15 rfl ?_
      refine j_icmp_ge (tgt := 36) dX3_allBroken_16 (by decide) (fun c16 => ?_) (fun c16 => ?_)
      · refine j_iload_n dX3_allBroken_36 rfl ?_
        exact j_ireturn dX3_allBroken_37 rfl (rfl)
      · exact absurd (by decide) c16
    | succ e ih =>
      intro j hj
      refine j_iload dX3_allBroken_13 rfl ?_
      refine j_iload_n dX3_allBroken_15 rfl ?_
      refine j_icmp_ge (tgt := 36) dX3_allBroken_16 (by decide) (fun c16 => ?_) (fun c16 => ?_)
      · exact absurd c16 (nI_ge (by omega) (by omega))
      · refine j_aload_n dX3_allBroken_19 rfl rfl ?_
        refine j_iload dX3_allBroken_20 rfl ?_
        refine j_iald (j := j) dX3_allBroken_22 hK (by decide) rfl (by omega) (by omega) ?_
        refine j_istore dX3_allBroken_23 (by decide) rfl ?_
        refine j_iload_n dX3_allBroken_25 rfl ?_
        refine j_iload dX3_allBroken_26 rfl ?_
        refine j_iadd dX3_allBroken_28 ?_
        refine j_istore_n dX3_allBroken_29 (by decide) rfl ?_
        refine j_iinc (v := nI (j + 1)) dX3_allBroken_30 rfl (nI_1 _) (by decide) rfl ?_
        refine j_goto (tgt := 13) dX3_allBroken_33 (by decide) ?_
        refine j_locs (ls2 := [(0, .ref a), (1, .int (msum f (j + 1))), (2, .ref k), (3, .int (nI 5)), (4, .int (nI (j + 1)))]) ⟨rfl, rfl, rfl, rfl, rfl, trivial⟩ (ih (j + 1) (by omega))
  refine j_locs (ls2 := [(0, .ref a), (1, .int (msum f 0)), (2, .ref k), (3, .int (nI 5)), (4, .int (nI 0))]) ⟨rfl, rfl, rfl, rfl, rfl, trivial⟩ (lb_ 5 0 rfl)

theorem J11_init_3_4 (hW : j_wf G M) {q : Nat} (hG : jGd G W) (hq : M.1 q = some (.inr (4, [.null, .null, .null, .null, .null, .int 0, .int 0, .int 0]))) : JM l G 1 yJ11_init_3 wJ11_init_3 [.ref q, .null, .null, .int 0, .int 0] M (jn M) := by
  refine JM.of pn_J11 (Nat.le_of_ble_eq_true rfl) (hW.1) ?_
  show JW l G 1 YJ11_init_3 _ 0 [(0, .ref q), (1, .null), (2, .null), (3, .int 0), (4, .int 0)] [] M
  obtain ⟨-, -, -, ⟨a3, h3_⟩, ⟨a4, h4_⟩⟩ := hG
  refine j_aload_n dJ11_init_3_0 rfl rfl ?_
  refine j_objInit dJ11_init_3_1 q476 q150 q151 (Nat.le_of_ble_eq_true rfl) (Nat.le_of_ble_eq_true rfl) ?_
  refine j_aload_n dJ11_init_3_4 rfl rfl ?_
  refine j_aload_n dJ11_init_3_5 rfl rfl ?_
  refine j_put_ dJ11_init_3_6 fd_J11_7_4 cl_4 (fun r hr => ⟨(ft_4_0 r hr).1, Or.inl (ft_4_0 r hr).2.1⟩) hq (Or.inr (by decide)) rfl rfl (Nat.le_of_ble_eq_true rfl) ?_
  show JW _ _ _ _ _ _ _ _ (j_put M q (.inr (4, [.ref q, .null, .null, .null, .null, .int 0, .int 0, .int 0])))
  refine j_aload_n dJ11_init_3_9 rfl rfl ?_
  refine j_gets (i := 3) dJ11_init_3_10 rfl q477 (Or.inl rfl) ?_
  rw [h3_]
  refine j_put_ dJ11_init_3_13 fd_J11_17_4 cl_4 (fun r hr => ⟨(ft_4_1 r hr).1, Or.inl (ft_4_1 r hr).2.1⟩) j_peq (Or.inr (by decide)) rfl rfl (Nat.le_of_ble_eq_true rfl) ?_
  rw [j_pp]
  show JW _ _ _ _ _ _ _ _ (j_put M q (.inr (4, [.ref q, .ref a3, .null, .null, .null, .int 0, .int 0, .int 0])))
  refine j_aload_n dJ11_init_3_16 rfl rfl ?_
  refine j_gets (i := 4) dJ11_init_3_17 rfl q479 (Or.inl rfl) ?_
  rw [h4_]
  refine j_put_ dJ11_init_3_20 fd_J11_24_4 cl_4 (fun r hr => ⟨(ft_4_2 r hr).1, Or.inl (ft_4_2 r hr).2.1⟩) j_peq (Or.inr (by decide)) rfl rfl (Nat.le_of_ble_eq_true rfl) ?_
  rw [j_pp]
  show JW _ _ _ _ _ _ _ _ (j_put M q (.inr (4, [.ref q, .ref a3, .ref a4, .null, .null, .int 0, .int 0, .int 0])))
  refine j_iload dJ11_init_3_23 rfl ?_
  refine j_if_eq (tgt := 36) dJ11_init_3_25 (by decide) (fun c25 => ?_) (fun c25 => ?_)
  · refine j_aload_n dJ11_init_3_36 rfl rfl ?_
    refine j_null dJ11_init_3_37 ?_
    refine j_put_ dJ11_init_3_38 fd_J11_17_4 cl_4 (fun r hr => ⟨(ft_4_1 r hr).1, Or.inl (ft_4_1 r hr).2.1⟩) j_peq (Or.inr (by decide)) rfl rfl (Nat.le_of_ble_eq_true rfl) ?_
    rw [j_pp]
    show JW _ _ _ _ _ _ _ _ (j_put M q (.inr (4, [.ref q, .null, .ref a4, .null, .null, .int 0, .int 0, .int 0])))
    refine j_aload_n dJ11_init_3_41 rfl rfl ?_
    refine j_aload_n dJ11_init_3_42 rfl rfl ?_
    refine j_put_ dJ11_init_3_43 fd_J11_31_4 cl_4 (fun r hr => ⟨(ft_4_3 r hr).1, Or.inl (ft_4_3 r hr).2.1⟩) j_peq (Or.inr (by decide)) rfl rfl (Nat.le_of_ble_eq_true rfl) ?_
    rw [j_pp]
    show JW _ _ _ _ _ _ _ _ (j_put M q (.inr (4, [.ref q, .null, .ref a4, .null, .null, .int 0, .int 0, .int 0])))
    refine j_aload_n dJ11_init_3_46 rfl rfl ?_
    refine j_aload_n dJ11_init_3_47 rfl rfl ?_
    refine j_put_ dJ11_init_3_48 fd_J11_7_4 cl_4 (fun r hr => ⟨(ft_4_0 r hr).1, Or.inl (ft_4_0 r hr).2.1⟩) j_peq (Or.inr (by decide)) rfl rfl (Nat.le_of_ble_eq_true rfl) ?_
    rw [j_pp]
    show JW _ _ _ _ _ _ _ _ (j_put M q (.inr (4, [.null, .null, .ref a4, .null, .null, .int 0, .int 0, .int 0])))
    refine j_iload_n dJ11_init_3_51 rfl ?_
    refine j_if_ne (tgt := 60) dJ11_init_3_52 (by decide) (fun c52 => ?_) (fun c52 => ?_)
    · exact absurd rfl c52
    · refine j_aload_n dJ11_init_3_55 rfl rfl ?_
      refine j_null dJ11_init_3_56 ?_
      refine j_put_ dJ11_init_3_57 fd_J11_24_4 cl_4 (fun r hr => ⟨(ft_4_2 r hr).1, Or.inl (ft_4_2 r hr).2.1⟩) j_peq (Or.inr (by decide)) rfl rfl (Nat.le_of_ble_eq_true rfl) ?_
      rw [j_pp]
      show JW _ _ _ _ _ _ _ _ (j_put M q (.inr (4, [.null, .null, .null, .null, .null, .int 0, .int 0, .int 0])))
      exact j_return dJ11_init_3_60 rfl (jn_same hq rfl)
  · exact absurd rfl c25

theorem J12_init_3_4 (hW : j_wf G M) {q : Nat} (hG : jGd G W) (hq : M.1 q = some (.inr (4, [.null, .null, .null, .null, .null, .int 0, .int 0, .int 0]))) : JM l G 2 yJ12_init_3 wJ12_init_3 [.ref q, .null, .null, .int 0, .int 0] M (jn M) := by
  refine JM.of pn_J12 (Nat.le_of_ble_eq_true rfl) (hW.1) ?_
  show JW l G 2 YJ12_init_3 _ 0 [(0, .ref q), (1, .null), (2, .null), (3, .int 0), (4, .int 0)] [] M
  refine j_aload_n dJ12_init_3_0 rfl rfl ?_
  refine j_aload_n dJ12_init_3_1 rfl rfl ?_
  refine j_aload_n dJ12_init_3_2 rfl rfl ?_
  refine j_iload_n dJ12_init_3_3 rfl ?_
  refine j_iload dJ12_init_3_4 rfl ?_
  refine j_callI (J11_init_3_4 hW hG hq) dJ12_init_3_6 mt_J11_init_3 q1092 q1093 rfl rfl cd_J11_init_3 (Nat.le_of_ble_eq_true rfl) rfl rfl (Nat.le_of_ble_eq_true rfl) (jk_n ?_) jx_n
  exact j_return dJ12_init_3_9 rfl (rfl)

theorem X4_init_m (hW : j_wf G M) {q : Nat} (hG : jGd G W) (hq : M.1 q = some (.inr (4, [.null, .null, .null, .null, .null, .int 0, .int 0, .int 0]))) (p d : Int32) : JM l G 3 yX4_init wX4_init [.ref q, .int p, .int d] M (jn (j_put M q (.inr (4, [.null, .null, .null, .null, .null, .int 0, .int p, .int d])))) := by
  refine JM.of pn_X4 (Nat.le_of_ble_eq_true rfl) (hW.1) ?_
  show JW l G 3 YX4_init _ 0 [(0, .ref q), (1, .int p), (2, .int d)] [] M
  refine j_aload_n dX4_init_0 rfl rfl ?_
  refine j_null dX4_init_1 ?_
  refine j_null dX4_init_2 ?_
  refine j_iconst (v := 0) dX4_init_3 (by decide) ?_
  refine j_iconst (v := 0) dX4_init_4 (by decide) ?_
  refine j_callI (J12_init_3_4 hW hG hq) dX4_init_5 mt_J12_init_3 q1089 q1090 rfl rfl cd_J12_init_3 (Nat.le_of_ble_eq_true rfl) rfl rfl (Nat.le_of_ble_eq_true rfl) (jk_n ?_) jx_n
  refine j_aload_n dX4_init_8 rfl rfl ?_
  refine j_iload_n dX4_init_9 rfl ?_
  refine j_put_ dX4_init_10 fd_X4_7_4 cl_4 (fun r hr => ⟨(ft_4_6 r hr).1, Or.inr ⟨rfl, (ft_4_6 r hr).2.2⟩⟩) hq (Or.inr (by decide)) rfl rfl (Nat.le_of_ble_eq_true rfl) ?_
  show JW _ _ _ _ _ _ _ _ (j_put M q (.inr (4, [.null, .null, .null, .null, .null, .int 0, .int p, .int 0])))
  refine j_aload_n dX4_init_13 rfl rfl ?_
  refine j_iload_n dX4_init_14 rfl ?_
  refine j_put_ dX4_init_15 fd_X4_13_4 cl_4 (fun r hr => ⟨(ft_4_7 r hr).1, Or.inr ⟨rfl, (ft_4_7 r hr).2.2⟩⟩) j_peq (Or.inr (by decide)) rfl rfl (Nat.le_of_ble_eq_true rfl) ?_
  rw [j_pp]
  show JW _ _ _ _ _ _ _ _ (j_put M q (.inr (4, [.null, .null, .null, .null, .null, .int 0, .int p, .int d])))
  exact j_return dX4_init_18 rfl (rfl)

theorem J11_init_3_10 (hW : j_wf G M) {q : Nat} (hG : jGd G W) (hq : M.1 q = some (.inr (10, [.null, .null, .null, .null, .null, .int 0, .int 0]))) : JM l G 1 yJ11_init_3 wJ11_init_3 [.ref q, .null, .null, .int 0, .int 0] M (jn M) := by
  refine JM.of pn_J11 (Nat.le_of_ble_eq_true rfl) (hW.1) ?_
  show JW l G 1 YJ11_init_3 _ 0 [(0, .ref q), (1, .null), (2, .null), (3, .int 0), (4, .int 0)] [] M
  obtain ⟨-, -, -, ⟨a3, h3_⟩, ⟨a4, h4_⟩⟩ := hG
  refine j_aload_n dJ11_init_3_0 rfl rfl ?_
  refine j_objInit dJ11_init_3_1 q476 q150 q151 (Nat.le_of_ble_eq_true rfl) (Nat.le_of_ble_eq_true rfl) ?_
  refine j_aload_n dJ11_init_3_4 rfl rfl ?_
  refine j_aload_n dJ11_init_3_5 rfl rfl ?_
  refine j_put_ dJ11_init_3_6 fd_J11_7_10 cl_10 (fun r hr => ⟨(ft_10_0 r hr).1, Or.inl (ft_10_0 r hr).2.1⟩) hq (Or.inr (by decide)) rfl rfl (Nat.le_of_ble_eq_true rfl) ?_
  show JW _ _ _ _ _ _ _ _ (j_put M q (.inr (10, [.ref q, .null, .null, .null, .null, .int 0, .int 0])))
  refine j_aload_n dJ11_init_3_9 rfl rfl ?_
  refine j_gets (i := 3) dJ11_init_3_10 rfl q477 (Or.inl rfl) ?_
  rw [h3_]
  refine j_put_ dJ11_init_3_13 fd_J11_17_10 cl_10 (fun r hr => ⟨(ft_10_1 r hr).1, Or.inl (ft_10_1 r hr).2.1⟩) j_peq (Or.inr (by decide)) rfl rfl (Nat.le_of_ble_eq_true rfl) ?_
  rw [j_pp]
  show JW _ _ _ _ _ _ _ _ (j_put M q (.inr (10, [.ref q, .ref a3, .null, .null, .null, .int 0, .int 0])))
  refine j_aload_n dJ11_init_3_16 rfl rfl ?_
  refine j_gets (i := 4) dJ11_init_3_17 rfl q479 (Or.inl rfl) ?_
  rw [h4_]
  refine j_put_ dJ11_init_3_20 fd_J11_24_10 cl_10 (fun r hr => ⟨(ft_10_2 r hr).1, Or.inl (ft_10_2 r hr).2.1⟩) j_peq (Or.inr (by decide)) rfl rfl (Nat.le_of_ble_eq_true rfl) ?_
  rw [j_pp]
  show JW _ _ _ _ _ _ _ _ (j_put M q (.inr (10, [.ref q, .ref a3, .ref a4, .null, .null, .int 0, .int 0])))
  refine j_iload dJ11_init_3_23 rfl ?_
  refine j_if_eq (tgt := 36) dJ11_init_3_25 (by decide) (fun c25 => ?_) (fun c25 => ?_)
  · refine j_aload_n dJ11_init_3_36 rfl rfl ?_
    refine j_null dJ11_init_3_37 ?_
    refine j_put_ dJ11_init_3_38 fd_J11_17_10 cl_10 (fun r hr => ⟨(ft_10_1 r hr).1, Or.inl (ft_10_1 r hr).2.1⟩) j_peq (Or.inr (by decide)) rfl rfl (Nat.le_of_ble_eq_true rfl) ?_
    rw [j_pp]
    show JW _ _ _ _ _ _ _ _ (j_put M q (.inr (10, [.ref q, .null, .ref a4, .null, .null, .int 0, .int 0])))
    refine j_aload_n dJ11_init_3_41 rfl rfl ?_
    refine j_aload_n dJ11_init_3_42 rfl rfl ?_
    refine j_put_ dJ11_init_3_43 fd_J11_31_10 cl_10 (fun r hr => ⟨(ft_10_3 r hr).1, Or.inl (ft_10_3 r hr).2.1⟩) j_peq (Or.inr (by decide)) rfl rfl (Nat.le_of_ble_eq_true rfl) ?_
    rw [j_pp]
    show JW _ _ _ _ _ _ _ _ (j_put M q (.inr (10, [.ref q, .null, .ref a4, .null, .null, .int 0, .int 0])))
    refine j_aload_n dJ11_init_3_46 rfl rfl ?_
    refine j_aload_n dJ11_init_3_47 rfl rfl ?_
    refine j_put_ dJ11_init_3_48 fd_J11_7_10 cl_10 (fun r hr => ⟨(ft_10_0 r hr).1, Or.inl (ft_10_0 r hr).2.1⟩) j_peq (Or.inr (by decide)) rfl rfl (Nat.le_of_ble_eq_true rfl) ?_
    rw [j_pp]
    show JW _ _ _ _ _ _ _ _ (j_put M q (.inr (10, [.null, .null, .ref a4, .null, .null, .int 0, .int 0])))
    refine j_iload_n dJ11_init_3_51 rfl ?_
    refine j_if_ne (tgt := 60) dJ11_init_3_52 (by decide) (fun c52 => ?_) (fun c52 => ?_)
    · exact absurd rfl c52
    · refine j_aload_n dJ11_init_3_55 rfl rfl ?_
      refine j_null dJ11_init_3_56 ?_
      refine j_put_ dJ11_init_3_57 fd_J11_24_10 cl_10 (fun r hr => ⟨(ft_10_2 r hr).1, Or.inl (ft_10_2 r hr).2.1⟩) j_peq (Or.inr (by decide)) rfl rfl (Nat.le_of_ble_eq_true rfl) ?_
      rw [j_pp]
      show JW _ _ _ _ _ _ _ _ (j_put M q (.inr (10, [.null, .null, .null, .null, .null, .int 0, .int 0])))
      exact j_return dJ11_init_3_60 rfl (jn_same hq rfl)
  · exact absurd rfl c25

theorem J12_init_3_10 (hW : j_wf G M) {q : Nat} (hG : jGd G W) (hq : M.1 q = some (.inr (10, [.null, .null, .null, .null, .null, .int 0, .int 0]))) : JM l G 2 yJ12_init_3 wJ12_init_3 [.ref q, .null, .null, .int 0, .int 0] M (jn M) := by
  refine JM.of pn_J12 (Nat.le_of_ble_eq_true rfl) (hW.1) ?_
  show JW l G 2 YJ12_init_3 _ 0 [(0, .ref q), (1, .null), (2, .null), (3, .int 0), (4, .int 0)] [] M
  refine j_aload_n dJ12_init_3_0 rfl rfl ?_
  refine j_aload_n dJ12_init_3_1 rfl rfl ?_
  refine j_aload_n dJ12_init_3_2 rfl rfl ?_
  refine j_iload_n dJ12_init_3_3 rfl ?_
  refine j_iload dJ12_init_3_4 rfl ?_
  refine j_callI (J11_init_3_10 hW hG hq) dJ12_init_3_6 mt_J11_init_3 q1092 q1093 rfl rfl cd_J11_init_3 (Nat.le_of_ble_eq_true rfl) rfl rfl (Nat.le_of_ble_eq_true rfl) (jk_n ?_) jx_n
  exact j_return dJ12_init_3_9 rfl (rfl)

theorem X10_init_m (hW : j_wf G M) {q : Nat} (hG : jGd G W) (hq : M.1 q = some (.inr (10, [.null, .null, .null, .null, .null, .int 0, .int 0]))) (p : Int32) : JM l G 3 yX10_init wX10_init [.ref q, .int p] M (jn (j_put M q (.inr (10, [.null, .null, .null, .null, .null, .int 0, .int p])))) := by
  refine JM.of pn_X10 (Nat.le_of_ble_eq_true rfl) (hW.1) ?_
  show JW l G 3 YX10_init _ 0 [(0, .ref q), (1, .int p)] [] M
  refine j_aload_n dX10_init_0 rfl rfl ?_
  refine j_null dX10_init_1 ?_
  refine j_null dX10_init_2 ?_
  refine j_iconst (v := 0) dX10_init_3 (by decide) ?_
  refine j_iconst (v := 0) dX10_init_4 (by decide) ?_
  refine j_callI (J12_init_3_10 hW hG hq) dX10_init_5 mt_J12_init_3 q1839 q1090 rfl rfl cd_J12_init_3 (Nat.le_of_ble_eq_true rfl) rfl rfl (Nat.le_of_ble_eq_true rfl) (jk_n ?_) jx_n
  refine j_aload_n dX10_init_8 rfl rfl ?_
  refine j_iload_n dX10_init_9 rfl ?_
  refine j_put_ dX10_init_10 fd_X10_7_10 cl_10 (fun r hr => ⟨(ft_10_6 r hr).1, Or.inr ⟨rfl, (ft_10_6 r hr).2.2⟩⟩) hq (Or.inr (by decide)) rfl rfl (Nat.le_of_ble_eq_true rfl) ?_
  show JW _ _ _ _ _ _ _ _ (j_put M q (.inr (10, [.null, .null, .null, .null, .null, .int 0, .int p])))
  exact j_return dX10_init_13 rfl (rfl)

theorem X0_refuse_no (hW : j_wf G M) (r d : Int32) : JM l G 0 yX0_refuse wX0_refuse [.int 0, .int r, .int d] M (jn M) := by
  refine JM.of pn_X0 (Nat.le_of_ble_eq_true rfl) (hW.1) ?_
  show JW l G 0 YX0_refuse _ 0 [(0, .int 0), (1, .int r), (2, .int d)] [] M
  refine j_iload_n dX0_refuse_0 rfl ?_
  refine j_if_eq (tgt := 14) dX0_refuse_1 (by decide) (fun c1 => ?_) (fun c1 => ?_)
  · exact j_return dX0_refuse_14 rfl (rfl)
  · exact absurd rfl c1

theorem X0_refuse_yes (hW : j_wf G M) (hG : jGd G W) (r d : Int32) : JM l G 4 yX0_refuse wX0_refuse [.int 1, .int r, .int d] M (jq M.2.1 (j_new M (.inr (4, [.null, .null, .null, .null, .null, .int 0, .int r, .int d])) 8)) := by
  refine JM.of pn_X0 (Nat.le_of_ble_eq_true rfl) (hW.1) ?_
  show JW l G 4 YX0_refuse _ 0 [(0, .int 1), (1, .int r), (2, .int d)] [] M
  refine j_iload_n dX0_refuse_0 rfl ?_
  refine j_if_eq (tgt := 14) dX0_refuse_1 (by decide) (fun c1 => ?_) (fun c1 => ?_)
  · exact absurd c1 (by decide)
  · refine j_new_ dX0_refuse_4 nw_X0_51 ?_
    refine j_dup dX0_refuse_7 rfl ?_
    refine j_iload_n dX0_refuse_8 rfl ?_
    refine j_iload_n dX0_refuse_9 rfl ?_
    refine j_callI (X4_init_m (hW.new) hG j_neq r d) dX0_refuse_10 mt_X4_init q1086 q1087 rfl rfl cd_X4_init (Nat.le_of_ble_eq_true rfl) rfl rfl (Nat.le_of_ble_eq_true rfl) (jk_n ?_) jx_n
    rw [j_newput]
    exact j_athrow dX0_refuse_13 (j_out (q := M.2.1) j_neq (by decide) rfl (fun _ h => by cases h) rfl)

theorem X0_isIn_m (hW : j_wf G M) (v a b : Int32) : JM l G 0 yX0_isIn wX0_isIn [.int v, .int a, .int b] M (jv (.int (jb (mIn v a b))) M) := by
  refine JM.of pn_X0 (Nat.le_of_ble_eq_true rfl) (hW.1) ?_
  show JW l G 0 YX0_isIn _ 0 [(0, .int v), (1, .int a), (2, .int b)] [] M
  refine j_iload_n dX0_isIn_0 rfl ?_
  refine j_iload_n dX0_isIn_1 rfl ?_
  refine j_icmp_lt (tgt := 14) dX0_isIn_2 (by decide) (fun c2 => ?_) (fun c2 => ?_)
  · refine j_iconst (v := 0) dX0_isIn_14 (by decide) ?_
    exact j_zreturn dX0_isIn_15 rfl rfl (jv_i (by simp_all [jb, mIn, ← Int32.not_le]))
  · refine j_iload_n dX0_isIn_5 rfl ?_
    refine j_iload_n dX0_isIn_6 rfl ?_
    refine j_icmp_gt (tgt := 14) dX0_isIn_7 (by decide) (fun c7 => ?_) (fun c7 => ?_)
    · refine j_iconst (v := 0) dX0_isIn_14 (by decide) ?_
      exact j_zreturn dX0_isIn_15 rfl rfl (jv_i (by simp_all [jb, mIn, ← Int32.not_le]))
    · refine j_iconst (v := 1) dX0_isIn_10 (by decide) ?_
      refine j_goto (tgt := 15) dX0_isIn_11 (by decide) ?_
      exact j_zreturn dX0_isIn_15 rfl rfl (jv_i (by simp_all [jb, mIn, ← Int32.not_le]))

theorem X0_isCell_m (hW : j_wf G M) (v : Int32) : JM l G 1 yX0_isCell wX0_isCell [.int v] M (jv (.int (jb (mIn v 0 7))) M) := by
  refine JM.of pn_X0 (Nat.le_of_ble_eq_true rfl) (hW.1) ?_
  show JW l G 1 YX0_isCell _ 0 [(0, .int v)] [] M
  refine j_iload_n dX0_isCell_0 rfl ?_
  refine j_iconst (v := 0) dX0_isCell_1 (by decide) ?_
  refine j_bipush (v := 7) dX0_isCell_2 (by decide) ?_
  refine j_callS (X0_isIn_m hW v 0 7) dX0_isCell_4 mt_X0_isIn q358 q359 cd_X0_isIn (Nat.le_of_ble_eq_true rfl) rfl rfl (Nat.le_of_ble_eq_true rfl) (jk_v ?_) jx_v
  exact j_zreturn dX0_isCell_7 rfl (nar_jb _) (rfl)

theorem X0_isRule_m (hW : j_wf G M) (v : Int32) : JM l G 1 yX0_isRule wX0_isRule [.int v] M (jv (.int (jb (mIn v 0 4))) M) := by
  refine JM.of pn_X0 (Nat.le_of_ble_eq_true rfl) (hW.1) ?_
  show JW l G 1 YX0_isRule _ 0 [(0, .int v)] [] M
  refine j_iload_n dX0_isRule_0 rfl ?_
  refine j_iconst (v := 0) dX0_isRule_1 (by decide) ?_
  refine j_iconst (v := 4) dX0_isRule_2 (by decide) ?_
  refine j_callS (X0_isIn_m hW v 0 4) dX0_isRule_3 mt_X0_isIn q358 q359 cd_X0_isIn (Nat.le_of_ble_eq_true rfl) rfl rfl (Nat.le_of_ble_eq_true rfl) (jk_v ?_) jx_v
  exact j_zreturn dX0_isRule_6 rfl (nar_jb _) (rfl)

end K1
