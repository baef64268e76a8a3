section J2
variable {l : Launch} {G : j_G} {M : j_M}
theorem J4_size_m (hW : j_wf G M) {q len : Nat} {m : Int32} {nd it : Nat → Nat} (hL : LL M q m nd it len) : JM l G 0 yJ4_size wJ4_size [.ref q] M (jv (.int (nI len)) M) := by
  refine JM.of pn_J4 (Nat.le_of_ble_eq_true rfl) (hW.1) ?_
  show JW l G 0 YJ4_size _ 0 [(0, .ref q)] [] M
  refine j_aload_n dJ4_size_0 rfl rfl ?_
  refine j_get dJ4_size_1 fd_J4_7_12 hL.1 rfl ?_
  exact j_ireturn dJ4_size_4 rfl (rfl)

theorem J0_isEmpty_m (hW : j_wf G M) {q len : Nat} {m : Int32} {nd it : Nat → Nat} (hL : LL M q m nd it len) (hl : len < 2 ^ 31) : JM l G 1 yJ0_isEmpty wJ0_isEmpty [.ref q] M (jv (.int (jb (decide (len = 0)))) M) := by
  refine JM.of pn_J0 (Nat.le_of_ble_eq_true rfl) (hW.1) ?_
  show JW l G 1 YJ0_isEmpty _ 0 [(0, .ref q)] [] M
  refine j_aload_n dJ0_isEmpty_0 rfl rfl ?_
  refine j_callU (J4_size_m hW hL) dJ0_isEmpty_1 mt_J4_size q1310 q2598 (Or.inr q410) (by decide) rfl q2601 q415 hL.1 (by decide) rfl cd_J4_size (Nat.le_of_ble_eq_true rfl) rfl rfl (Nat.le_of_ble_eq_true rfl) (jk_v ?_) jx_v
  refine j_if_ne (tgt := 11) dJ0_isEmpty_4 (by decide) (fun c4 => ?_) (fun c4 => ?_)
  · refine j_iconst (v := 0) dJ0_isEmpty_11 (by decide) ?_
    exact j_zreturn dJ0_isEmpty_12 rfl rfl (jv_i (by rw [decide_eq_false (fun w => c4 (by rw [w]; rfl))]; rfl))
  · refine j_iconst (v := 1) dJ0_isEmpty_7 (by decide) ?_
    refine j_goto (tgt := 12) dJ0_isEmpty_8 (by decide) ?_
    exact j_zreturn dJ0_isEmpty_12 rfl rfl (jv_i (by rw [decide_eq_true ((nI_eq hl (by decide)).mp c4)]; rfl))

theorem J4_node_m (hW : j_wf G M) {q len : Nat} {m : Int32} {nd it : Nat → Nat} (hL : LL M q m nd it len) (h0 : 0 < len) (h2 : len < 200) : JM l G 0 yJ4_node wJ4_node [.ref q, .int 0] M (jv (.ref (nd 0)) M) := by
  refine JM.of pn_J4 (Nat.le_of_ble_eq_true rfl) (hW.1) ?_
  show JW l G 0 YJ4_node _ 0 [(0, .ref q), (1, .int 0)] [] M
  refine j_iload_n dJ4_node_0 rfl ?_
  refine j_aload_n dJ4_node_1 rfl rfl ?_
  refine j_get dJ4_node_2 fd_J4_7_12 hL.1 rfl ?_
  refine j_iconst (v := 1) dJ4_node_5 (by decide) ?_
  refine j_ishr dJ4_node_6 ?_
  rw [show (((nI len) >>> (1 &&& 31))) = (nI (len / 2)) from shr1 len h2]
  refine j_icmp_ge (tgt := 35) dJ4_node_7 (by decide) (fun c7 => ?_) (fun c7 => ?_)
  · have e1_ : len = 1 := by
      have := (nI_leI (a := len / 2) (b := 0) (by omega) (by decide)).mp c7; omega
    subst e1_
    refine j_aload_n dJ4_node_35 rfl rfl ?_
    refine j_get dJ4_node_36 fd_J4_27_12 hL.1 rfl ?_
    show JW _ _ _ _ _ _ _ (.ref (nd 0) :: _) _
    refine j_astore_n dJ4_node_39 rfl (by decide) rfl ?_
    refine j_aload_n dJ4_node_40 rfl rfl ?_
    refine j_get dJ4_node_41 fd_J4_7_12 hL.1 rfl ?_
    refine j_iconst (v := 1) dJ4_node_44 (by decide) ?_
    refine j_isub dJ4_node_45 ?_
    refine j_istore_n dJ4_node_46 (by decide) rfl ?_
    refine j_iload_n dJ4_node_47 rfl ?_
    refine j_iload_n dJ4_node_48 rfl ?_
    refine j_icmp_le (tgt := 63) dJ4_node_49 (by decide) (fun c49 => ?_) (fun c49 => ?_)
    · refine j_aload_n dJ4_node_63 rfl rfl ?_
      exact j_areturn dJ4_node_64 rfl rfl rfl (rfl)
    · exact absurd (by decide +kernel) c49
  · refine j_aload_n dJ4_node_10 rfl rfl ?_
    refine j_get dJ4_node_11 fd_J4_18_12 hL.1 rfl ?_
    rw [rf_in h0]
    refine j_astore_n dJ4_node_14 rfl (by decide) rfl ?_
    refine j_iconst (v := 0) dJ4_node_15 (by decide) ?_
    refine j_istore_n dJ4_node_16 (by decide) rfl ?_
    refine j_iload_n dJ4_node_17 rfl ?_
    refine j_iload_n dJ4_node_18 rfl ?_
    refine j_icmp_ge (tgt := 33) dJ4_node_19 (by decide) (fun c19 => ?_) (fun c19 => ?_)
    · refine j_aload_n dJ4_node_33 rfl rfl ?_
      exact j_areturn dJ4_node_34 rfl rfl rfl (rfl)
    · exact absurd (by decide) c19

theorem J4_isPositionIndex_m (hW : j_wf G M) {q len : Nat} {m : Int32} {nd it : Nat → Nat} (hL : LL M q m nd it len) (h2 : len < 200) : JM l G 0 yJ4_isPositionIndex wJ4_isPositionIndex [.ref q, .int 0] M (jv (.int 1) M) := by
  refine JM.of pn_J4 (Nat.le_of_ble_eq_true rfl) (hW.1) ?_
  show JW l G 0 YJ4_isPositionIndex _ 0 [(0, .ref q), (1, .int 0)] [] M
  refine j_iload_n dJ4_isPositionIndex_0 rfl ?_
  refine j_if_lt (tgt := 16) dJ4_isPositionIndex_1 (by decide) (fun c1 => ?_) (fun c1 => ?_)
  · exact absurd c1 (by decide)
  · refine j_iload_n dJ4_isPositionIndex_4 rfl ?_
    refine j_aload_n dJ4_isPositionIndex_5 rfl rfl ?_
    refine j_get dJ4_isPositionIndex_6 fd_J4_7_12 hL.1 rfl ?_
    refine j_icmp_gt (tgt := 16) dJ4_isPositionIndex_9 (by decide) (fun c9 => ?_) (fun c9 => ?_)
    · exact absurd c9 (nI_pos (by omega))
    · refine j_iconst (v := 1) dJ4_isPositionIndex_12 (by decide) ?_
      refine j_goto (tgt := 17) dJ4_isPositionIndex_13 (by decide) ?_
      exact j_zreturn dJ4_isPositionIndex_17 rfl rfl (rfl)

theorem J4_checkPositionIndex_m (hW : j_wf G M) {q len : Nat} {m : Int32} {nd it : Nat → Nat} (hL : LL M q m nd it len) (h2 : len < 200) : JM l G 1 yJ4_checkPositionIndex wJ4_checkPositionIndex [.ref q, .int 0] M (jn M) := by
  refine JM.of pn_J4 (Nat.le_of_ble_eq_true rfl) (hW.1) ?_
  show JW l G 1 YJ4_checkPositionIndex _ 0 [(0, .ref q), (1, .int 0)] [] M
  refine j_aload_n dJ4_checkPositionIndex_0 rfl rfl ?_
  refine j_iload_n dJ4_checkPositionIndex_1 rfl ?_
  refine j_callV (J4_isPositionIndex_m hW hL h2) dJ4_checkPositionIndex_2 mt_J4_isPositionIndex q983 q985 qs9 hL.1 (by decide) rfl cd_J4_isPositionIndex (Nat.le_of_ble_eq_true rfl) rfl rfl (Nat.le_of_ble_eq_true rfl) (jk_v ?_) jx_v
  refine j_if_ne (tgt := 21) dJ4_checkPositionIndex_5 (by decide) (fun c5 => ?_) (fun c5 => ?_)
  · exact j_return dJ4_checkPositionIndex_21 rfl (rfl)
  · exact absurd c5 (by decide)

theorem J23_init_m (hW : j_wf G M) {q len : Nat} {m : Int32} {nd it : Nat → Nat} (hL : LL M q m nd it len) (h2 : len < 200) {b : Nat} (hb : M.1 b = some (.inr (17, [.null, .null, .int 0, .int 0, .null]))) : JM l G 1 yJ23_init wJ23_init [.ref b, .ref q, .int 0] M (jn (j_put M b (.inr (17, [.null, va_rf (lk nd len 0), .int 0, .int m, .ref q])))) := by
  refine JM.of pn_J23 (Nat.le_of_ble_eq_true rfl) (hW.1) ?_
  show JW l G 1 YJ23_init _ 0 [(0, .ref b), (1, .ref q), (2, .int 0)] [] M
  refine j_aload_n dJ23_init_0 rfl rfl ?_
  refine j_aload_n dJ23_init_1 rfl rfl ?_
  refine j_put_ dJ23_init_2 fd_J23_1_17 cl_17 (fun r hr => ⟨(ft_17_4 r hr).1, Or.inr ⟨rfl, (ft_17_4 r hr).2.2⟩⟩) hb (Or.inr (by decide)) rfl rfl (Nat.le_of_ble_eq_true rfl) ?_
  show JW _ _ _ _ _ _ _ _ (j_put M b (.inr (17, [.null, .null, .int 0, .int 0, .ref q])))
  refine j_aload_n dJ23_init_5 rfl rfl ?_
  refine j_objInit dJ23_init_6 q992 q150 q151 (Nat.le_of_ble_eq_true rfl) (Nat.le_of_ble_eq_true rfl) ?_
  refine j_aload_n dJ23_init_9 rfl rfl ?_
  refine j_aload_n dJ23_init_10 rfl rfl ?_
  refine j_get dJ23_init_11 fd_J23_1_17 j_peq rfl ?_
  refine j_get dJ23_init_14 fd_J23_13_12 (j_pne (j_nek (M := M) hL.1 hb (Nat.ne_of_beq_eq_false rfl)) hL.1) rfl ?_
  refine j_put_ dJ23_init_17 fd_J23_19_17 cl_17 (fun r hr => ⟨(ft_17_3 r hr).1, Or.inl (ft_17_3 r hr).2.1⟩) j_peq (Or.inr (by decide)) rfl rfl (Nat.le_of_ble_eq_true rfl) ?_
  rw [j_pp]
  show JW _ _ _ _ _ _ _ _ (j_put M b (.inr (17, [.null, .null, .int 0, .int m, .ref q])))
  refine j_aload_n dJ23_init_20 rfl rfl ?_
  refine j_iload_n dJ23_init_21 rfl ?_
  refine j_aload_n dJ23_init_22 rfl rfl ?_
  refine j_get dJ23_init_23 fd_J23_22_12 (j_pne (j_nek (M := M) hL.1 hb (Nat.ne_of_beq_eq_false rfl)) hL.1) rfl ?_
  refine j_icmp_ne (tgt := 33) dJ23_init_26 (by decide) (fun c26 => ?_) (fun c26 => ?_)
  · have h0 : 0 < len := Nat.pos_of_ne_zero (fun w => c26 (by rw [w]; rfl))
    have hL2_ : LL (j_put M b (.inr (17, [.null, .null, .int 0, .int m, .ref q]))) q m nd it len := ⟨(j_pne (j_nek (M := M) hL.1 hb (Nat.ne_of_beq_eq_false rfl)) hL.1), fun j hj => j_pne (j_nek (hL.2.1 j hj) hb (Nat.ne_of_beq_eq_false rfl)) (hL.2.1 j hj), hL.2.2⟩
    refine j_aload_n dJ23_init_33 rfl rfl ?_
    refine j_iload_n dJ23_init_34 rfl ?_
    refine j_callV (J4_node_m (hW.put hb) hL2_ h0 h2) dJ23_init_35 mt_J4_node q993 q563 q564 (j_pne (j_nek (M := M) hL.1 hb (Nat.ne_of_beq_eq_false rfl)) hL.1) (by decide) rfl cd_J4_node (Nat.le_of_ble_eq_true rfl) rfl rfl (Nat.le_of_ble_eq_true rfl) (jk_v ?_) jx_v
    refine j_put_ dJ23_init_38 fd_J23_29_17 cl_17 (fun r hr => ⟨(ft_17_1 r hr).1, Or.inl (ft_17_1 r hr).2.1⟩) j_peq (Or.inr (by decide)) rfl rfl (Nat.le_of_ble_eq_true rfl) ?_
    rw [j_pp]
    show JW _ _ _ _ _ _ _ _ (j_put M b (.inr (17, [.null, .ref (nd 0), .int 0, .int m, .ref q])))
    refine j_aload_n dJ23_init_41 rfl rfl ?_
    refine j_iload_n dJ23_init_42 rfl ?_
    refine j_put_ dJ23_init_43 fd_J23_33_17 cl_17 (fun r hr => ⟨(ft_17_2 r hr).1, Or.inl (ft_17_2 r hr).2.1⟩) j_peq (Or.inr (by decide)) rfl rfl (Nat.le_of_ble_eq_true rfl) ?_
    rw [j_pp]
    show JW _ _ _ _ _ _ _ _ (j_put M b (.inr (17, [.null, .ref (nd 0), .int 0, .int m, .ref q])))
    exact j_return dJ23_init_46 rfl (show jn _ _ by rw [rf_in h0]; rfl)
  · have h0 : len = 0 := (nI_eq (by omega) (by decide)).mp c26.symm
    subst h0
    refine j_null dJ23_init_29 ?_
    refine j_goto (tgt := 38) dJ23_init_30 (by decide) ?_
    refine j_put_ dJ23_init_38 fd_J23_29_17 cl_17 (fun r hr => ⟨(ft_17_1 r hr).1, Or.inl (ft_17_1 r hr).2.1⟩) j_peq (Or.inr (by decide)) rfl rfl (Nat.le_of_ble_eq_true rfl) ?_
    rw [j_pp]
    show JW _ _ _ _ _ _ _ _ (j_put M b (.inr (17, [.null, .null, .int 0, .int m, .ref q])))
    refine j_aload_n dJ23_init_41 rfl rfl ?_
    refine j_iload_n dJ23_init_42 rfl ?_
    refine j_put_ dJ23_init_43 fd_J23_33_17 cl_17 (fun r hr => ⟨(ft_17_2 r hr).1, Or.inl (ft_17_2 r hr).2.1⟩) j_peq (Or.inr (by decide)) rfl rfl (Nat.le_of_ble_eq_true rfl) ?_
    rw [j_pp]
    show JW _ _ _ _ _ _ _ _ (j_put M b (.inr (17, [.null, .null, .int 0, .int m, .ref q])))
    exact j_return dJ23_init_46 rfl (rfl)

theorem J4_listIterator_m (hW : j_wf G M) {q len : Nat} {m : Int32} {nd it : Nat → Nat} (hL : LL M q m nd it len) (h2 : len < 200) : JM l G 2 yJ4_listIterator wJ4_listIterator [.ref q, .int 0] M (jv (.ref M.2.1) (j_new M (.inr (17, [.null, va_rf (lk nd len 0), .int 0, .int m, .ref q])) 5)) := by
  refine JM.of pn_J4 (Nat.le_of_ble_eq_true rfl) (hW.1) ?_
  show JW l G 2 YJ4_listIterator _ 0 [(0, .ref q), (1, .int 0)] [] M
  refine j_aload_n dJ4_listIterator_0 rfl rfl ?_
  refine j_iload_n dJ4_listIterator_1 rfl ?_
  refine j_callV (J4_checkPositionIndex_m hW hL h2) dJ4_listIterator_2 mt_J4_checkPositionIndex q979 q981 qs8 hL.1 (by decide) rfl cd_J4_checkPositionIndex (Nat.le_of_ble_eq_true rfl) rfl rfl (Nat.le_of_ble_eq_true rfl) (jk_n ?_) jx_n
  refine j_new_ dJ4_listIterator_5 nw_J4_150 ?_
  have hL2_ : LL (j_new M (.inr (17, [.null, .null, .int 0, .int 0, .null])) 5) q m nd it len := ⟨(j_nne hW hL.1), fun j hj => j_nne hW (hL.2.1 j hj), hL.2.2⟩
  refine j_dup dJ4_listIterator_8 rfl ?_
  refine j_aload_n dJ4_listIterator_9 rfl rfl ?_
  refine j_iload_n dJ4_listIterator_10 rfl ?_
  refine j_callI (J23_init_m (hW.new) hL2_ h2 j_neq) dJ4_listIterator_11 mt_J23_init q989 q990 rfl rfl cd_J23_init (Nat.le_of_ble_eq_true rfl) rfl rfl (Nat.le_of_ble_eq_true rfl) (jk_n ?_) jx_n
  rw [j_newput]
  exact j_areturn dJ4_listIterator_14 rfl rfl rfl (rfl)

theorem J1_listIterator_m (hW : j_wf G M) {q len : Nat} {m : Int32} {nd it : Nat → Nat} (hL : LL M q m nd it len) (h2 : len < 200) : JM l G 3 yJ1_listIterator wJ1_listIterator [.ref q] M (jv (.ref M.2.1) (j_new M (.inr (17, [.null, va_rf (lk nd len 0), .int 0, .int m, .ref q])) 5)) := by
  refine JM.of pn_J1 (Nat.le_of_ble_eq_true rfl) (hW.1) ?_
  show JW l G 3 YJ1_listIterator _ 0 [(0, .ref q)] [] M
  refine j_aload_n dJ1_listIterator_0 rfl rfl ?_
  refine j_iconst (v := 0) dJ1_listIterator_1 (by decide) ?_
  refine j_callU (J4_listIterator_m hW hL h2) dJ1_listIterator_2 mt_J4_listIterator q952 q954 (Or.inr q1010) (by decide) rfl q976 q977 hL.1 (by decide) rfl cd_J4_listIterator (Nat.le_of_ble_eq_true rfl) rfl rfl (Nat.le_of_ble_eq_true rfl) (jk_v ?_) jx_v
  exact j_areturn dJ1_listIterator_5 rfl rfl rfl (rfl)

theorem J3_iterator_m (hW : j_wf G M) {q len : Nat} {m : Int32} {nd it : Nat → Nat} (hL : LL M q m nd it len) (h2 : len < 200) : JM l G 4 yJ3_iterator wJ3_iterator [.ref q] M (jv (.ref M.2.1) (j_new M (.inr (17, [.null, va_rf (lk nd len 0), .int 0, .int m, .ref q])) 5)) := by
  refine JM.of pn_J3 (Nat.le_of_ble_eq_true rfl) (hW.1) ?_
  show JW l G 4 YJ3_iterator _ 0 [(0, .ref q)] [] M
  refine j_aload_n dJ3_iterator_0 rfl rfl ?_
  refine j_callU (J1_listIterator_m hW hL h2) dJ3_iterator_1 mt_J1_listIterator q946 q947 (Or.inr q948) (by decide) rfl q949 q950 hL.1 (by decide) rfl cd_J1_listIterator (Nat.le_of_ble_eq_true rfl) rfl rfl (Nat.le_of_ble_eq_true rfl) (jk_v ?_) jx_v
  exact j_areturn dJ3_iterator_4 rfl rfl rfl (rfl)

theorem J23_hasNext_m (hW : j_wf G M) {q len : Nat} {m : Int32} {nd it : Nat → Nat} (hL : LL M q m nd it len) {b i : Nat} {lr x : Value} (hI : M.1 b = some (.inr (17, [lr, x, .int (nI i), .int m, .ref q]))) (hi : i ≤ len) (h2 : len < 200) : JM l G 0 yJ23_hasNext wJ23_hasNext [.ref b] M (jv (.int (jb (decide (i < len)))) M) := by
  refine JM.of pn_J23 (Nat.le_of_ble_eq_true rfl) (hW.1) ?_
  show JW l G 0 YJ23_hasNext _ 0 [(0, .ref b)] [] M
  refine j_aload_n dJ23_hasNext_0 rfl rfl ?_
  refine j_get dJ23_hasNext_1 fd_J23_33_17 hI rfl ?_
  refine j_aload_n dJ23_hasNext_4 rfl rfl ?_
  refine j_get dJ23_hasNext_5 fd_J23_1_17 hI rfl ?_
  refine j_get dJ23_hasNext_8 fd_J23_22_12 hL.1 rfl ?_
  refine j_icmp_ge (tgt := 18) dJ23_hasNext_11 (by decide) (fun c11 => ?_) (fun c11 => ?_)
  · refine j_iconst (v := 0) dJ23_hasNext_18 (by decide) ?_
    exact j_zreturn dJ23_hasNext_19 rfl rfl (jv_i (by rw [decide_eq_false (show ¬ i < len by have := (nI_leI (a := len) (b := i) (by omega) (by omega)).mp c11; omega)]; rfl))
  · refine j_iconst (v := 1) dJ23_hasNext_14 (by decide) ?_
    refine j_goto (tgt := 19) dJ23_hasNext_15 (by decide) ?_
    exact j_zreturn dJ23_hasNext_19 rfl rfl (jv_i (by rw [decide_eq_true (show i < len by have := mt (nI_leI (a := len) (b := i) (by omega) (by omega)).mpr c11; omega)]; rfl))

theorem J23_checkForComodification_m (hW : j_wf G M) {q len : Nat} {m : Int32} {nd it : Nat → Nat} (hL : LL M q m nd it len) {b i : Nat} {lr x : Value} (hI : M.1 b = some (.inr (17, [lr, x, .int (nI i), .int m, .ref q]))) : JM l G 0 yJ23_checkForComodification wJ23_checkForComodification [.ref b] M (jn M) := by
  refine JM.of pn_J23 (Nat.le_of_ble_eq_true rfl) (hW.1) ?_
  show JW l G 0 YJ23_checkForComodification _ 0 [(0, .ref b)] [] M
  refine j_aload_n dJ23_checkForComodification_0 rfl rfl ?_
  refine j_get dJ23_checkForComodification_1 fd_J23_1_17 hI rfl ?_
  refine j_get dJ23_checkForComodification_4 fd_J23_13_12 hL.1 rfl ?_
  refine j_aload_n dJ23_checkForComodification_7 rfl rfl ?_
  refine j_get dJ23_checkForComodification_8 fd_J23_19_17 hI rfl ?_
  refine j_icmp_eq (tgt := 22) dJ23_checkForComodification_11 (by decide) (fun c11 => ?_) (fun c11 => ?_)
  · exact j_return dJ23_checkForComodification_22 rfl (rfl)
  · exact absurd rfl c11

theorem J23_next_m (hW : j_wf G M) {q len : Nat} {m : Int32} {nd it : Nat → Nat} (hL : LL M q m nd it len) {b i : Nat} {lr : Value} (hI : M.1 b = some (.inr (17, [lr, va_rf (lk nd len i), .int (nI i), .int m, .ref q]))) (hi : i < len) (h2 : len < 200) : JM l G 1 yJ23_next wJ23_next [.ref b] M (jv (.ref (it i)) (j_put M b (.inr (17, [.ref (nd i), va_rf (lk nd len (i + 1)), .int (nI (i + 1)), .int m, .ref q])))) := by
  refine JM.of pn_J23 (Nat.le_of_ble_eq_true rfl) (hW.1) ?_
  show JW l G 1 YJ23_next _ 0 [(0, .ref b)] [] M
  rw [rf_in hi] at hI
  refine j_aload_n dJ23_next_0 rfl rfl ?_
  refine j_callV (J23_checkForComodification_m hW hL hI) dJ23_next_1 mt_J23_checkForComodification q852 q853 q854 hI (by decide) rfl cd_J23_checkForComodification (Nat.le_of_ble_eq_true rfl) rfl rfl (Nat.le_of_ble_eq_true rfl) (jk_n ?_) jx_n
  refine j_aload_n dJ23_next_4 rfl rfl ?_
  refine j_callV (J23_hasNext_m hW hL hI (by omega) h2) dJ23_next_5 mt_J23_hasNext q856 q435 q2594 hI (by decide) rfl cd_J23_hasNext (Nat.le_of_ble_eq_true rfl) rfl rfl (Nat.le_of_ble_eq_true rfl) (jk_v ?_) jx_v
  refine j_ifneB (tgt := 19) dJ23_next_8 (by decide) (fun c8 => ?_) (fun c8 => ?_)
  · refine j_aload_n dJ23_next_19 rfl rfl ?_
    refine j_aload_n dJ23_next_20 rfl rfl ?_
    refine j_get dJ23_next_21 fd_J23_29_17 hI rfl ?_
    refine j_put_ dJ23_next_24 fd_J23_46_17 cl_17 (fun r hr => ⟨(ft_17_0 r hr).1, Or.inl (ft_17_0 r hr).2.1⟩) hI (Or.inr (by decide)) rfl rfl (Nat.le_of_ble_eq_true rfl) ?_
    show JW _ _ _ _ _ _ _ _ (j_put M b (.inr (17, [.ref (nd i), .ref (nd i), .int (nI i), .int m, .ref q])))
    refine j_aload_n dJ23_next_27 rfl rfl ?_
    refine j_aload_n dJ23_next_28 rfl rfl ?_
    refine j_get dJ23_next_29 fd_J23_29_17 j_peq rfl ?_
    refine j_get dJ23_next_32 fd_J23_49_19 (j_pne (j_nek (hL.2.1 i hi) hI (Nat.ne_of_beq_eq_false rfl)) (hL.2.1 i hi)) rfl ?_
    refine j_put_ dJ23_next_35 fd_J23_29_17 cl_17 (fun r hr => ⟨(ft_17_1 r hr).1, Or.inl (ft_17_1 r hr).2.1⟩) j_peq (Or.inr (by decide)) (nar_rf _) (fit_rf _) (Nat.le_of_ble_eq_true rfl) ?_
    rw [j_pp]
    show JW _ _ _ _ _ _ _ _ (j_put M b (.inr (17, [.ref (nd i), va_rf (lk nd len (i + 1)), .int (nI i), .int m, .ref q])))
    refine j_aload_n dJ23_next_38 rfl rfl ?_
    refine j_dup dJ23_next_39 rfl ?_
    refine j_get dJ23_next_40 fd_J23_33_17 j_peq rfl ?_
    refine j_iconst (v := 1) dJ23_next_43 (by decide) ?_
    refine j_iadd dJ23_next_44 ?_
    rw [nI_1]
    refine j_put_ dJ23_next_45 fd_J23_33_17 cl_17 (fun r hr => ⟨(ft_17_2 r hr).1, Or.inl (ft_17_2 r hr).2.1⟩) j_peq (Or.inr (by decide)) rfl rfl (Nat.le_of_ble_eq_true rfl) ?_
    rw [j_pp]
    show JW _ _ _ _ _ _ _ _ (j_put M b (.inr (17, [.ref (nd i), va_rf (lk nd len (i + 1)), .int (nI (i + 1)), .int m, .ref q])))
    refine j_aload_n dJ23_next_48 rfl rfl ?_
    refine j_get dJ23_next_49 fd_J23_46_17 j_peq rfl ?_
    refine j_get dJ23_next_52 fd_J23_52_19 (j_pne (j_nek (hL.2.1 i hi) hI (Nat.ne_of_beq_eq_false rfl)) (hL.2.1 i hi)) rfl ?_
    exact j_areturn dJ23_next_55 rfl rfl rfl (rfl)
  · exact absurd c8 (by rw [decide_eq_true hi]; decide)

end J2
