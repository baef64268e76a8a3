section J3
variable {l : Launch} {G : j_G} {M : j_M}
theorem J26_init_0 (hW : j_wf G M) {b e : Nat} (hb : M.1 b = some (.inr (19, [.null, .null, .null]))) : JM l G 1 yJ26_init wJ26_init [.ref b, .null, .ref e, .null] M (jn (j_put M b (.inr (19, [.ref e, .null, .null])))) := by
  refine JM.of pn_J26 (Nat.le_of_ble_eq_true rfl) (hW.1) ?_
  show JW l G 1 YJ26_init _ 0 [(0, .ref b), (1, .null), (2, .ref e), (3, .null)] [] M
  refine j_aload_n dJ26_init_0 rfl rfl ?_
  refine j_objInit dJ26_init_1 q1049 q150 q151 (Nat.le_of_ble_eq_true rfl) (Nat.le_of_ble_eq_true rfl) ?_
  refine j_aload_n dJ26_init_4 rfl rfl ?_
  refine j_aload_n dJ26_init_5 rfl rfl ?_
  refine j_put_ dJ26_init_6 fd_J26_7_19 cl_19 (fun r hr => ⟨(ft_19_0 r hr).1, Or.inl (ft_19_0 r hr).2.1⟩) hb (Or.inr (by decide)) rfl rfl (Nat.le_of_ble_eq_true rfl) ?_
  show JW _ _ _ _ _ _ _ _ (j_put M b (.inr (19, [.ref e, .null, .null])))
  refine j_aload_n dJ26_init_9 rfl rfl ?_
  refine j_aload_n dJ26_init_10 rfl rfl ?_
  refine j_put_ dJ26_init_11 fd_J26_13_19 cl_19 (fun r hr => ⟨(ft_19_1 r hr).1, Or.inl (ft_19_1 r hr).2.1⟩) j_peq (Or.inr (by decide)) rfl rfl (Nat.le_of_ble_eq_true rfl) ?_
  rw [j_pp]
  show JW _ _ _ _ _ _ _ _ (j_put M b (.inr (19, [.ref e, .null, .null])))
  refine j_aload_n dJ26_init_14 rfl rfl ?_
  refine j_aload_n dJ26_init_15 rfl rfl ?_
  refine j_put_ dJ26_init_16 fd_J26_17_19 cl_19 (fun r hr => ⟨(ft_19_2 r hr).1, Or.inl (ft_19_2 r hr).2.1⟩) j_peq (Or.inr (by decide)) rfl rfl (Nat.le_of_ble_eq_true rfl) ?_
  rw [j_pp]
  show JW _ _ _ _ _ _ _ _ (j_put M b (.inr (19, [.ref e, .null, .null])))
  exact j_return dJ26_init_19 rfl (rfl)

theorem J26_init_1 (hW : j_wf G M) {p : Nat} {b e : Nat} (hb : M.1 b = some (.inr (19, [.null, .null, .null]))) : JM l G 1 yJ26_init wJ26_init [.ref b, .ref p, .ref e, .null] M (jn (j_put M b (.inr (19, [.ref e, .null, .ref p])))) := by
  refine JM.of pn_J26 (Nat.le_of_ble_eq_true rfl) (hW.1) ?_
  show JW l G 1 YJ26_init _ 0 [(0, .ref b), (1, .ref p), (2, .ref e), (3, .null)] [] M
  refine j_aload_n dJ26_init_0 rfl rfl ?_
  refine j_objInit dJ26_init_1 q1049 q150 q151 (Nat.le_of_ble_eq_true rfl) (Nat.le_of_ble_eq_true rfl) ?_
  refine j_aload_n dJ26_init_4 rfl rfl ?_
  refine j_aload_n dJ26_init_5 rfl rfl ?_
  refine j_put_ dJ26_init_6 fd_J26_7_19 cl_19 (fun r hr => ⟨(ft_19_0 r hr).1, Or.inl (ft_19_0 r hr).2.1⟩) hb (Or.inr (by decide)) rfl rfl (Nat.le_of_ble_eq_true rfl) ?_
  show JW _ _ _ _ _ _ _ _ (j_put M b (.inr (19, [.ref e, .null, .null])))
  refine j_aload_n dJ26_init_9 rfl rfl ?_
  refine j_aload_n dJ26_init_10 rfl rfl ?_
  refine j_put_ dJ26_init_11 fd_J26_13_19 cl_19 (fun r hr => ⟨(ft_19_1 r hr).1, Or.inl (ft_19_1 r hr).2.1⟩) j_peq (Or.inr (by decide)) rfl rfl (Nat.le_of_ble_eq_true rfl) ?_
  rw [j_pp]
  show JW _ _ _ _ _ _ _ _ (j_put M b (.inr (19, [.ref e, .null, .null])))
  refine j_aload_n dJ26_init_14 rfl rfl ?_
  refine j_aload_n dJ26_init_15 rfl rfl ?_
  refine j_put_ dJ26_init_16 fd_J26_17_19 cl_19 (fun r hr => ⟨(ft_19_2 r hr).1, Or.inl (ft_19_2 r hr).2.1⟩) j_peq (Or.inr (by decide)) rfl rfl (Nat.le_of_ble_eq_true rfl) ?_
  rw [j_pp]
  show JW _ _ _ _ _ _ _ _ (j_put M b (.inr (19, [.ref e, .null, .ref p])))
  exact j_return dJ26_init_19 rfl (rfl)

theorem J4_linkLast_m (hW : j_wf G M) {q len : Nat} {m : Int32} {nd it : Nat → Nat} (hL : LL M q m nd it len) {e : Nat} : JM l G 2 yJ4_linkLast wJ4_linkLast [.ref q, .ref e] M (jr (fun v M' => v = none ∧ LL M' q (m + 1) (va_up nd len M.2.1) (va_up it len e) (len + 1) ∧ jFr G (fun a => a = q ∨ ∃ j, j < len ∧ a = nd j) M M' 1 3)) := by
  refine JM.of pn_J4 (Nat.le_of_ble_eq_true rfl) (hW.1) ?_
  show JW l G 2 YJ4_linkLast _ 0 [(0, .ref q), (1, .ref e)] [] M
  have hnb_ : ∀ j, j < len → nd j ≠ M.2.1 := fun j hj => Nat.ne_of_lt (hW.2 _ _ (hL.2.1 j hj))
  rcases len with _ | p
  · have hq_ : M.1 q = some (.inr (12, [.int m, .int (nI 0), .null, .null])) := hL.1
    refine j_aload_n dJ4_linkLast_0 rfl rfl ?_
    refine j_get dJ4_linkLast_1 fd_J4_27_12 hq_ rfl ?_
    refine j_astore_n dJ4_linkLast_4 rfl (by decide) rfl ?_
    refine j_new_ dJ4_linkLast_5 nw_J4_22 ?_
    refine j_dup dJ4_linkLast_8 rfl ?_
    refine j_aload_n dJ4_linkLast_9 rfl rfl ?_
    refine j_aload_n dJ4_linkLast_10 rfl rfl ?_
    refine j_null dJ4_linkLast_11 ?_
    refine j_callI (J26_init_0 (hW.new) (e := e) j_neq) dJ4_linkLast_12 mt_J26_init q1046 q1047 rfl rfl cd_J26_init (Nat.le_of_ble_eq_true rfl) rfl rfl (Nat.le_of_ble_eq_true rfl) (jk_n ?_) jx_n
    refine j_astore_n dJ4_linkLast_15 rfl (by decide) rfl ?_
    refine j_aload_n dJ4_linkLast_16 rfl rfl ?_
    refine j_aload_n dJ4_linkLast_17 rfl rfl ?_
    refine j_put_ dJ4_linkLast_18 fd_J4_27_12 cl_12 (fun r hr => ⟨(ft_12_3 r hr).1, Or.inl (ft_12_3 r hr).2.1⟩) (j_pne (j_nek (M := (j_new M (.inr (19, [.null, .null, .null])) 3)) (j_nne hW hq_) j_neq (Nat.ne_of_beq_eq_false rfl)) (j_nne hW hq_)) (Or.inr (by decide)) rfl rfl (Nat.le_of_ble_eq_true rfl) ?_
    show JW _ _ _ _ _ _ _ _ (j_put (j_put (j_new M (.inr (19, [.null, .null, .null])) 3) M.2.1 (.inr (19, [.ref e, .null, .null]))) q (.inr (12, [.int m, .int (nI 0), .null, .ref M.2.1])))
    refine j_aload_n dJ4_linkLast_21 rfl rfl ?_
    refine j_ifnonnullN dJ4_linkLast_22 ?_
    refine j_aload_n dJ4_linkLast_25 rfl rfl ?_
    refine j_aload_n dJ4_linkLast_26 rfl rfl ?_
    refine j_put_ dJ4_linkLast_27 fd_J4_18_12 cl_12 (fun r hr => ⟨(ft_12_2 r hr).1, Or.inl (ft_12_2 r hr).2.1⟩) j_peq (Or.inr (by decide)) rfl rfl (Nat.le_of_ble_eq_true rfl) ?_
    rw [j_pp]
    show JW _ _ _ _ _ _ _ _ (j_put (j_put (j_new M (.inr (19, [.null, .null, .null])) 3) M.2.1 (.inr (19, [.ref e, .null, .null]))) q (.inr (12, [.int m, .int (nI 0), .ref M.2.1, .ref M.2.1])))
    refine j_goto (tgt := 38) dJ4_linkLast_30 (by decide) ?_
    refine j_aload_n dJ4_linkLast_38 rfl rfl ?_
    refine j_dup dJ4_linkLast_39 rfl ?_
    refine j_get dJ4_linkLast_40 fd_J4_7_12 j_peq rfl ?_
    refine j_iconst (v := 1) dJ4_linkLast_43 (by decide) ?_
    refine j_iadd dJ4_linkLast_44 ?_
    rw [nI_1]
    refine j_put_ dJ4_linkLast_45 fd_J4_7_12 cl_12 (fun r hr => ⟨(ft_12_1 r hr).1, Or.inl (ft_12_1 r hr).2.1⟩) j_peq (Or.inr (by decide)) rfl rfl (Nat.le_of_ble_eq_true rfl) ?_
    rw [j_pp]
    show JW _ _ _ _ _ _ _ _ (j_put (j_put (j_new M (.inr (19, [.null, .null, .null])) 3) M.2.1 (.inr (19, [.ref e, .null, .null]))) q (.inr (12, [.int m, .int (nI (0 + 1)), .ref M.2.1, .ref M.2.1])))
    refine j_aload_n dJ4_linkLast_48 rfl rfl ?_
    refine j_dup dJ4_linkLast_49 rfl ?_
    refine j_get dJ4_linkLast_50 fd_J4_33_12 j_peq rfl ?_
    refine j_iconst (v := 1) dJ4_linkLast_53 (by decide) ?_
    refine j_iadd dJ4_linkLast_54 ?_
    refine j_put_ dJ4_linkLast_55 fd_J4_33_12 cl_12 (fun r hr => ⟨(ft_12_0 r hr).1, Or.inl (ft_12_0 r hr).2.1⟩) j_peq (Or.inr (by decide)) rfl rfl (Nat.le_of_ble_eq_true rfl) ?_
    rw [j_pp]
    show JW _ _ _ _ _ _ _ _ (j_put (j_put (j_new M (.inr (19, [.null, .null, .null])) 3) M.2.1 (.inr (19, [.ref e, .null, .null]))) q (.inr (12, [.int (m + 1), .int (nI (0 + 1)), .ref M.2.1, .ref M.2.1])))
    exact j_return dJ4_linkLast_58 rfl (jr_i ⟨rfl, LL.add (e := e) hL hnb_ j_peq (j_pne (j_nek (M := (j_put (j_new M (.inr (19, [.null, .null, .null])) 3) M.2.1 (.inr (19, [.ref e, .null, .null])))) j_peq (j_pne (j_nek (M := (j_new M (.inr (19, [.null, .null, .null])) 3)) (j_nne hW hq_) j_neq (Nat.ne_of_beq_eq_false rfl)) (j_nne hW hq_)) (Nat.ne_of_beq_eq_false rfl)) j_peq) (fun h => absurd h (Nat.lt_irrefl _)) (fun j h => absurd h (by omega)), (jFr.stepp (jFr.stepp (jFr.stepn (jFr.refl hW (N := 0) (D := 0))) j_neq (fun h => absurd h (Nat.lt_irrefl _))) (j_pne (j_nek (M := (j_new M (.inr (19, [.null, .null, .null])) 3)) (j_nne hW hq_) j_neq (Nat.ne_of_beq_eq_false rfl)) (j_nne hW hq_)) (fun _ => Or.inl rfl))⟩)
  · have hq_ : M.1 q = some (.inr (12, [.int m, .int (nI (p + 1)), .ref (nd 0), .ref (nd p)])) := by
      rw [hL.1]; show some (Sum.inr (12, [.int m, .int (nI (p + 1)), va_rf (lk nd (p + 1) 0), va_rf (lp nd (p + 1))])) = _
      rw [rf_in (Nat.succ_pos p)]; rfl
    have hp_ : M.1 (nd p) = some (.inr (19, [.ref (it p), .null, va_rf (lp nd p)])) := by
      rw [hL.2.1 p (Nat.lt_succ_self p)]; show some (Sum.inr (19, [.ref (it p), va_rf (lk nd (p + 1) (p + 1)), va_rf (lp nd p)])) = _
      rw [rf_out (Nat.le_refl _)]
    refine j_aload_n dJ4_linkLast_0 rfl rfl ?_
    refine j_get dJ4_linkLast_1 fd_J4_27_12 hq_ rfl ?_
    refine j_astore_n dJ4_linkLast_4 rfl (by decide) rfl ?_
    refine j_new_ dJ4_linkLast_5 nw_J4_22 ?_
    refine j_dup dJ4_linkLast_8 rfl ?_
    refine j_aload_n dJ4_linkLast_9 rfl rfl ?_
    refine j_aload_n dJ4_linkLast_10 rfl rfl ?_
    refine j_null dJ4_linkLast_11 ?_
    refine j_callI (J26_init_1 (hW.new) (e := e) (p := (nd p)) j_neq) dJ4_linkLast_12 mt_J26_init q1046 q1047 rfl rfl cd_J26_init (Nat.le_of_ble_eq_true rfl) rfl rfl (Nat.le_of_ble_eq_true rfl) (jk_n ?_) jx_n
    refine j_astore_n dJ4_linkLast_15 rfl (by decide) rfl ?_
    refine j_aload_n dJ4_linkLast_16 rfl rfl ?_
    refine j_aload_n dJ4_linkLast_17 rfl rfl ?_
    refine j_put_ dJ4_linkLast_18 fd_J4_27_12 cl_12 (fun r hr => ⟨(ft_12_3 r hr).1, Or.inl (ft_12_3 r hr).2.1⟩) (j_pne (j_nek (M := (j_new M (.inr (19, [.null, .null, .null])) 3)) (j_nne hW hq_) j_neq (Nat.ne_of_beq_eq_false rfl)) (j_nne hW hq_)) (Or.inr (by decide)) rfl rfl (Nat.le_of_ble_eq_true rfl) ?_
    show JW _ _ _ _ _ _ _ _ (j_put (j_put (j_new M (.inr (19, [.null, .null, .null])) 3) M.2.1 (.inr (19, [.ref e, .null, .ref (nd p)]))) q (.inr (12, [.int m, .int (nI (p + 1)), .ref (nd 0), .ref M.2.1])))
    refine j_aload_n dJ4_linkLast_21 rfl rfl ?_
    refine j_ifnonnull (tgt := 33) dJ4_linkLast_22 (by decide) ?_
    refine j_aload_n dJ4_linkLast_33 rfl rfl ?_
    refine j_aload_n dJ4_linkLast_34 rfl rfl ?_
    refine j_put_ dJ4_linkLast_35 fd_J4_36_19 cl_19 (fun r hr => ⟨(ft_19_1 r hr).1, Or.inl (ft_19_1 r hr).2.1⟩) (j_pne (j_nek (M := (j_put (j_new M (.inr (19, [.null, .null, .null])) 3) M.2.1 (.inr (19, [.ref e, .null, .ref (nd p)])))) (j_pne (hnb_ p (Nat.lt_succ_self p)) (j_nne hW hp_)) (j_pne (j_nek (M := (j_new M (.inr (19, [.null, .null, .null])) 3)) (j_nne hW hq_) j_neq (Nat.ne_of_beq_eq_false rfl)) (j_nne hW hq_)) (Nat.ne_of_beq_eq_false rfl)) (j_pne (hnb_ p (Nat.lt_succ_self p)) (j_nne hW hp_))) (Or.inr (by decide)) rfl rfl (Nat.le_of_ble_eq_true rfl) ?_
    show JW _ _ _ _ _ _ _ _ (j_put (j_put (j_put (j_new M (.inr (19, [.null, .null, .null])) 3) M.2.1 (.inr (19, [.ref e, .null, .ref (nd p)]))) q (.inr (12, [.int m, .int (nI (p + 1)), .ref (nd 0), .ref M.2.1]))) (nd p) (.inr (19, [.ref (it p), .ref M.2.1, va_rf (lp nd p)])))
    refine j_aload_n dJ4_linkLast_38 rfl rfl ?_
    refine j_dup dJ4_linkLast_39 rfl ?_
    refine j_get dJ4_linkLast_40 fd_J4_7_12 (j_pne (j_nek (M := (j_put (j_put (j_new M (.inr (19, [.null, .null, .null])) 3) M.2.1 (.inr (19, [.ref e, .null, .ref (nd p)]))) q (.inr (12, [.int m, .int (nI (p + 1)), .ref (nd 0), .ref M.2.1])))) j_peq (j_pne (j_nek (M := (j_put (j_new M (.inr (19, [.null, .null, .null])) 3) M.2.1 (.inr (19, [.ref e, .null, .ref (nd p)])))) (j_pne (hnb_ p (Nat.lt_succ_self p)) (j_nne hW hp_)) (j_pne (j_nek (M := (j_new M (.inr (19, [.null, .null, .null])) 3)) (j_nne hW hq_) j_neq (Nat.ne_of_beq_eq_false rfl)) (j_nne hW hq_)) (Nat.ne_of_beq_eq_false rfl)) (j_pne (hnb_ p (Nat.lt_succ_self p)) (j_nne hW hp_))) (Nat.ne_of_beq_eq_false rfl)) j_peq) rfl ?_
    refine j_iconst (v := 1) dJ4_linkLast_43 (by decide) ?_
    refine j_iadd dJ4_linkLast_44 ?_
    rw [nI_1]
    refine j_put_ dJ4_linkLast_45 fd_J4_7_12 cl_12 (fun r hr => ⟨(ft_12_1 r hr).1, Or.inl (ft_12_1 r hr).2.1⟩) (j_pne (j_nek (M := (j_put (j_put (j_new M (.inr (19, [.null, .null, .null])) 3) M.2.1 (.inr (19, [.ref e, .null, .ref (nd p)]))) q (.inr (12, [.int m, .int (nI (p + 1)), .ref (nd 0), .ref M.2.1])))) j_peq (j_pne (j_nek (M := (j_put (j_new M (.inr (19, [.null, .null, .null])) 3) M.2.1 (.inr (19, [.ref e, .null, .ref (nd p)])))) (j_pne (hnb_ p (Nat.lt_succ_self p)) (j_nne hW hp_)) (j_pne (j_nek (M := (j_new M (.inr (19, [.null, .null, .null])) 3)) (j_nne hW hq_) j_neq (Nat.ne_of_beq_eq_false rfl)) (j_nne hW hq_)) (Nat.ne_of_beq_eq_false rfl)) (j_pne (hnb_ p (Nat.lt_succ_self p)) (j_nne hW hp_))) (Nat.ne_of_beq_eq_false rfl)) j_peq) (Or.inr (by decide)) rfl rfl (Nat.le_of_ble_eq_true rfl) ?_
    show JW _ _ _ _ _ _ _ _ (j_put (j_put (j_put (j_put (j_new M (.inr (19, [.null, .null, .null])) 3) M.2.1 (.inr (19, [.ref e, .null, .ref (nd p)]))) q (.inr (12, [.int m, .int (nI (p + 1)), .ref (nd 0), .ref M.2.1]))) (nd p) (.inr (19, [.ref (it p), .ref M.2.1, va_rf (lp nd p)]))) q (.inr (12, [.int m, .int (nI (p + 1 + 1)), .ref (nd 0), .ref M.2.1])))
    refine j_aload_n dJ4_linkLast_48 rfl rfl ?_
    refine j_dup dJ4_linkLast_49 rfl ?_
    refine j_get dJ4_linkLast_50 fd_J4_33_12 j_peq rfl ?_
    refine j_iconst (v := 1) dJ4_linkLast_53 (by decide) ?_
    refine j_iadd dJ4_linkLast_54 ?_
    refine j_put_ dJ4_linkLast_55 fd_J4_33_12 cl_12 (fun r hr => ⟨(ft_12_0 r hr).1, Or.inl (ft_12_0 r hr).2.1⟩) j_peq (Or.inr (by decide)) rfl rfl (Nat.le_of_ble_eq_true rfl) ?_
    rw [j_pp]
    show JW _ _ _ _ _ _ _ _ (j_put (j_put (j_put (j_put (j_new M (.inr (19, [.null, .null, .null])) 3) M.2.1 (.inr (19, [.ref e, .null, .ref (nd p)]))) q (.inr (12, [.int m, .int (nI (p + 1)), .ref (nd 0), .ref M.2.1]))) (nd p) (.inr (19, [.ref (it p), .ref M.2.1, va_rf (lp nd p)]))) q (.inr (12, [.int (m + 1), .int (nI (p + 1 + 1)), .ref (nd 0), .ref M.2.1])))
    exact j_return dJ4_linkLast_58 rfl (jr_i ⟨rfl, LL.add (e := e) hL hnb_ j_peq (j_pne (j_nek (M := (j_put (j_put (j_put (j_new M (.inr (19, [.null, .null, .null])) 3) M.2.1 (.inr (19, [.ref e, .null, .ref (nd p)]))) q (.inr (12, [.int m, .int (nI (p + 1)), .ref (nd 0), .ref M.2.1]))) (nd p) (.inr (19, [.ref (it p), .ref M.2.1, va_rf (lp nd p)])))) (j_pne (hnb_ p (Nat.lt_succ_self p)).symm (j_pne (j_nek (M := (j_put (j_new M (.inr (19, [.null, .null, .null])) 3) M.2.1 (.inr (19, [.ref e, .null, .ref (nd p)])))) j_peq (j_pne (j_nek (M := (j_new M (.inr (19, [.null, .null, .null])) 3)) (j_nne hW hq_) j_neq (Nat.ne_of_beq_eq_false rfl)) (j_nne hW hq_)) (Nat.ne_of_beq_eq_false rfl)) j_peq)) (j_pne (j_nek (M := (j_put (j_put (j_new M (.inr (19, [.null, .null, .null])) 3) M.2.1 (.inr (19, [.ref e, .null, .ref (nd p)]))) q (.inr (12, [.int m, .int (nI (p + 1)), .ref (nd 0), .ref M.2.1])))) j_peq (j_pne (j_nek (M := (j_put (j_new M (.inr (19, [.null, .null, .null])) 3) M.2.1 (.inr (19, [.ref e, .null, .ref (nd p)])))) (j_pne (hnb_ p (Nat.lt_succ_self p)) (j_nne hW hp_)) (j_pne (j_nek (M := (j_new M (.inr (19, [.null, .null, .null])) 3)) (j_nne hW hq_) j_neq (Nat.ne_of_beq_eq_false rfl)) (j_nne hW hq_)) (Nat.ne_of_beq_eq_false rfl)) (j_pne (hnb_ p (Nat.lt_succ_self p)) (j_nne hW hp_))) (Nat.ne_of_beq_eq_false rfl)) j_peq) (Nat.ne_of_beq_eq_false rfl)) (j_pne (hnb_ p (Nat.lt_succ_self p)).symm (j_pne (j_nek (M := (j_put (j_new M (.inr (19, [.null, .null, .null])) 3) M.2.1 (.inr (19, [.ref e, .null, .ref (nd p)])))) j_peq (j_pne (j_nek (M := (j_new M (.inr (19, [.null, .null, .null])) 3)) (j_nne hW hq_) j_neq (Nat.ne_of_beq_eq_false rfl)) (j_nne hW hq_)) (Nat.ne_of_beq_eq_false rfl)) j_peq))) (fun _ => (j_pne (j_nek (M := (j_put (j_put (j_put (j_new M (.inr (19, [.null, .null, .null])) 3) M.2.1 (.inr (19, [.ref e, .null, .ref (nd p)]))) q (.inr (12, [.int m, .int (nI (p + 1)), .ref (nd 0), .ref M.2.1]))) (nd p) (.inr (19, [.ref (it p), .ref M.2.1, va_rf (lp nd p)])))) j_peq (j_pne (j_nek (M := (j_put (j_put (j_new M (.inr (19, [.null, .null, .null])) 3) M.2.1 (.inr (19, [.ref e, .null, .ref (nd p)]))) q (.inr (12, [.int m, .int (nI (p + 1)), .ref (nd 0), .ref M.2.1])))) j_peq (j_pne (j_nek (M := (j_put (j_new M (.inr (19, [.null, .null, .null])) 3) M.2.1 (.inr (19, [.ref e, .null, .ref (nd p)])))) (j_pne (hnb_ p (Nat.lt_succ_self p)) (j_nne hW hp_)) (j_pne (j_nek (M := (j_new M (.inr (19, [.null, .null, .null])) 3)) (j_nne hW hq_) j_neq (Nat.ne_of_beq_eq_false rfl)) (j_nne hW hq_)) (Nat.ne_of_beq_eq_false rfl)) (j_pne (hnb_ p (Nat.lt_succ_self p)) (j_nne hW hp_))) (Nat.ne_of_beq_eq_false rfl)) j_peq) (Nat.ne_of_beq_eq_false rfl)) j_peq)) (fun j hj => (((jFr.stepp (jFr.stepp (jFr.stepp (jFr.stepp (jFr.stepn (jFr.refl hW (N := 0) (D := 0))) j_neq (fun h => absurd h (Nat.lt_irrefl _))) (j_pne (j_nek (M := (j_new M (.inr (19, [.null, .null, .null])) 3)) (j_nne hW hq_) j_neq (Nat.ne_of_beq_eq_false rfl)) (j_nne hW hq_)) (fun _ => Or.inl rfl)) (j_pne (j_nek (M := (j_put (j_new M (.inr (19, [.null, .null, .null])) 3) M.2.1 (.inr (19, [.ref e, .null, .ref (nd p)])))) (j_pne (hnb_ p (Nat.lt_succ_self p)) (j_nne hW hp_)) (j_pne (j_nek (M := (j_new M (.inr (19, [.null, .null, .null])) 3)) (j_nne hW hq_) j_neq (Nat.ne_of_beq_eq_false rfl)) (j_nne hW hq_)) (Nat.ne_of_beq_eq_false rfl)) (j_pne (hnb_ p (Nat.lt_succ_self p)) (j_nne hW hp_))) (fun _ => Or.inr rfl)) (j_pne (j_nek (M := (j_put (j_put (j_new M (.inr (19, [.null, .null, .null])) 3) M.2.1 (.inr (19, [.ref e, .null, .ref (nd p)]))) q (.inr (12, [.int m, .int (nI (p + 1)), .ref (nd 0), .ref M.2.1])))) j_peq (j_pne (j_nek (M := (j_put (j_new M (.inr (19, [.null, .null, .null])) 3) M.2.1 (.inr (19, [.ref e, .null, .ref (nd p)])))) (j_pne (hnb_ p (Nat.lt_succ_self p)) (j_nne hW hp_)) (j_pne (j_nek (M := (j_new M (.inr (19, [.null, .null, .null])) 3)) (j_nne hW hq_) j_neq (Nat.ne_of_beq_eq_false rfl)) (j_nne hW hq_)) (Nat.ne_of_beq_eq_false rfl)) (j_pne (hnb_ p (Nat.lt_succ_self p)) (j_nne hW hp_))) (Nat.ne_of_beq_eq_false rfl)) j_peq) (fun _ => Or.inl rfl)) : jFr G (fun a => a = q ∨ a = nd p) M _ _ _).2.2 (nd j) (hW.2 _ _ (hL.2.1 j (by omega))) (fun h => h.elim (fun h => j_nek (hL.2.1 j (by omega)) hL.1 (Nat.ne_of_beq_eq_false rfl) h) (fun h => absurd (hL.2.2 j p (by omega) (by omega) h) (by omega))))), ((jFr.stepp (jFr.stepp (jFr.stepp (jFr.stepp (jFr.stepn (jFr.refl hW (N := 0) (D := 0))) j_neq (fun h => absurd h (Nat.lt_irrefl _))) (j_pne (j_nek (M := (j_new M (.inr (19, [.null, .null, .null])) 3)) (j_nne hW hq_) j_neq (Nat.ne_of_beq_eq_false rfl)) (j_nne hW hq_)) (fun _ => Or.inl rfl)) (j_pne (j_nek (M := (j_put (j_new M (.inr (19, [.null, .null, .null])) 3) M.2.1 (.inr (19, [.ref e, .null, .ref (nd p)])))) (j_pne (hnb_ p (Nat.lt_succ_self p)) (j_nne hW hp_)) (j_pne (j_nek (M := (j_new M (.inr (19, [.null, .null, .null])) 3)) (j_nne hW hq_) j_neq (Nat.ne_of_beq_eq_false rfl)) (j_nne hW hq_)) (Nat.ne_of_beq_eq_false rfl)) (j_pne (hnb_ p (Nat.lt_succ_self p)) (j_nne hW hp_))) (fun _ => Or.inr rfl)) (j_pne (j_nek (M := (j_put (j_put (j_new M (.inr (19, [.null, .null, .null])) 3) M.2.1 (.inr (19, [.ref e, .null, .ref (nd p)]))) q (.inr (12, [.int m, .int (nI (p + 1)), .ref (nd 0), .ref M.2.1])))) j_peq (j_pne (j_nek (M := (j_put (j_new M (.inr (19, [.null, .null, .null])) 3) M.2.1 (.inr (19, [.ref e, .null, .ref (nd p)])))) (j_pne (hnb_ p (Nat.lt_succ_self p)) (j_nne hW hp_)) (j_pne (j_nek (M := (j_new M (.inr (19, [.null, .null, .null])) 3)) (j_nne hW hq_) j_neq (Nat.ne_of_beq_eq_false rfl)) (j_nne hW hq_)) (Nat.ne_of_beq_eq_false rfl)) (j_pne (hnb_ p (Nat.lt_succ_self p)) (j_nne hW hp_))) (Nat.ne_of_beq_eq_false rfl)) j_peq) (fun _ => Or.inl rfl)) : jFr G (fun a => a = q ∨ a = nd p) M _ _ _).mono (fun a _ h => h.elim Or.inl (fun h => Or.inr ⟨p, Nat.lt_succ_self p, h⟩)) (Nat.le_refl _) (Nat.le_refl _)⟩)

theorem J4_addLast_m (hW : j_wf G M) {q len : Nat} {m : Int32} {nd it : Nat → Nat} (hL : LL M q m nd it len) {e : Nat} : JM l G 3 yJ4_addLast wJ4_addLast [.ref q, .ref e] M (jr (fun v M' => v = none ∧ LL M' q (m + 1) (va_up nd len M.2.1) (va_up it len e) (len + 1) ∧ jFr G (fun a => a = q ∨ ∃ j, j < len ∧ a = nd j) M M' 1 3)) := by
  refine JM.of pn_J4 (Nat.le_of_ble_eq_true rfl) (hW.1) ?_
  show JW l G 3 YJ4_addLast _ 0 [(0, .ref q), (1, .ref e)] [] M
  have hnb_ : ∀ j, j < len → nd j ≠ M.2.1 := fun j hj => Nat.ne_of_lt (hW.2 _ _ (hL.2.1 j hj))
  refine j_aload_n dJ4_addLast_0 rfl rfl ?_
  refine j_aload_n dJ4_addLast_1 rfl rfl ?_
  refine j_callV (J4_linkLast_m hW hL (e := e)) dJ4_addLast_2 mt_J4_linkLast q1040 q1041 q1042 hL.1 (by decide) rfl cd_J4_linkLast (Nat.le_of_ble_eq_true rfl) rfl rfl (Nat.le_of_ble_eq_true rfl) (jk_r (fun v_ M_ hp_ => ?_)) jx_r
  obtain ⟨rfl, h1_, h2_⟩ := hp_
  show JW _ _ _ _ _ _ _ [] M_
  exact j_return dJ4_addLast_5 rfl (jr_i ⟨rfl, h1_, h2_⟩)

theorem J0_init_m (hW : j_wf G M) {q : Nat} : JM l G 1 yJ0_init wJ0_init [.ref q] M (jn M) := by
  refine JM.of pn_J0 (Nat.le_of_ble_eq_true rfl) (hW.1) ?_
  show JW l G 1 YJ0_init _ 0 [(0, .ref q)] [] M
  refine j_aload_n dJ0_init_0 rfl rfl ?_
  refine j_objInit dJ0_init_1 q169 q150 q151 (Nat.le_of_ble_eq_true rfl) (Nat.le_of_ble_eq_true rfl) ?_
  exact j_return dJ0_init_4 rfl (rfl)

theorem J1_init_a (hW : j_wf G M) {q : Nat} (hq : M.1 q = some (.inr (11, [.int 0, .null, .int 0]))) : JM l G 2 yJ1_init wJ1_init [.ref q] M (jn M) := by
  refine JM.of pn_J1 (Nat.le_of_ble_eq_true rfl) (hW.1) ?_
  show JW l G 2 YJ1_init _ 0 [(0, .ref q)] [] M
  refine j_aload_n dJ1_init_0 rfl rfl ?_
  refine j_callI (J0_init_m hW) dJ1_init_1 mt_J0_init q166 q167 rfl rfl cd_J0_init (Nat.le_of_ble_eq_true rfl) rfl rfl (Nat.le_of_ble_eq_true rfl) (jk_n ?_) jx_n
  refine j_aload_n dJ1_init_4 rfl rfl ?_
  refine j_iconst (v := 0) dJ1_init_5 (by decide) ?_
  refine j_put_ dJ1_init_6 fd_J1_7_11 cl_11 (fun r hr => ⟨(ft_11_0 r hr).1, Or.inl (ft_11_0 r hr).2.1⟩) hq (Or.inr (by decide)) rfl rfl (Nat.le_of_ble_eq_true rfl) ?_
  show JW _ _ _ _ _ _ _ _ (j_put M q (.inr (11, [.int 0, .null, .int 0])))
  exact j_return dJ1_init_9 rfl (jn_same hq rfl)

theorem J1_init_l (hW : j_wf G M) {q : Nat} (hq : M.1 q = some (.inr (12, [.int 0, .int 0, .null, .null]))) : JM l G 2 yJ1_init wJ1_init [.ref q] M (jn M) := by
  refine JM.of pn_J1 (Nat.le_of_ble_eq_true rfl) (hW.1) ?_
  show JW l G 2 YJ1_init _ 0 [(0, .ref q)] [] M
  refine j_aload_n dJ1_init_0 rfl rfl ?_
  refine j_callI (J0_init_m hW) dJ1_init_1 mt_J0_init q166 q167 rfl rfl cd_J0_init (Nat.le_of_ble_eq_true rfl) rfl rfl (Nat.le_of_ble_eq_true rfl) (jk_n ?_) jx_n
  refine j_aload_n dJ1_init_4 rfl rfl ?_
  refine j_iconst (v := 0) dJ1_init_5 (by decide) ?_
  refine j_put_ dJ1_init_6 fd_J1_7_12 cl_12 (fun r hr => ⟨(ft_12_0 r hr).1, Or.inl (ft_12_0 r hr).2.1⟩) hq (Or.inr (by decide)) rfl rfl (Nat.le_of_ble_eq_true rfl) ?_
  show JW _ _ _ _ _ _ _ _ (j_put M q (.inr (12, [.int 0, .int 0, .null, .null])))
  exact j_return dJ1_init_9 rfl (jn_same hq rfl)

theorem J3_init_l (hW : j_wf G M) {q : Nat} (hq : M.1 q = some (.inr (12, [.int 0, .int 0, .null, .null]))) : JM l G 3 yJ3_init wJ3_init [.ref q] M (jn M) := by
  refine JM.of pn_J3 (Nat.le_of_ble_eq_true rfl) (hW.1) ?_
  show JW l G 3 YJ3_init _ 0 [(0, .ref q)] [] M
  refine j_aload_n dJ3_init_0 rfl rfl ?_
  refine j_callI (J1_init_l hW hq) dJ3_init_1 mt_J1_init q201 q164 rfl rfl cd_J1_init (Nat.le_of_ble_eq_true rfl) rfl rfl (Nat.le_of_ble_eq_true rfl) (jk_n ?_) jx_n
  exact j_return dJ3_init_4 rfl (rfl)

theorem J4_init_m (hW : j_wf G M) {q : Nat} (hq : M.1 q = some (.inr (12, [.int 0, .int 0, .null, .null]))) : JM l G 4 yJ4_init wJ4_init [.ref q] M (jn M) := by
  refine JM.of pn_J4 (Nat.le_of_ble_eq_true rfl) (hW.1) ?_
  show JW l G 4 YJ4_init _ 0 [(0, .ref q)] [] M
  refine j_aload_n dJ4_init_0 rfl rfl ?_
  refine j_callI (J3_init_l hW hq) dJ4_init_1 mt_J3_init q198 q199 rfl rfl cd_J3_init (Nat.le_of_ble_eq_true rfl) rfl rfl (Nat.le_of_ble_eq_true rfl) (jk_n ?_) jx_n
  refine j_aload_n dJ4_init_4 rfl rfl ?_
  refine j_iconst (v := 0) dJ4_init_5 (by decide) ?_
  refine j_put_ dJ4_init_6 fd_J4_7_12 cl_12 (fun r hr => ⟨(ft_12_1 r hr).1, Or.inl (ft_12_1 r hr).2.1⟩) hq (Or.inr (by decide)) rfl rfl (Nat.le_of_ble_eq_true rfl) ?_
  show JW _ _ _ _ _ _ _ _ (j_put M q (.inr (12, [.int 0, .int 0, .null, .null])))
  exact j_return dJ4_init_9 rfl (jn_same hq rfl)

end J3
