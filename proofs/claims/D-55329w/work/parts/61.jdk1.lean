section J1
variable {l : Launch} {G : j_G} {M : j_M}
theorem J2_size_m (hW : j_wf G M) {a e n : Nat} {m : Int32} (hA : M.1 a = some (.inr (11, [.int m, .ref e, .int (nI n)]))) : JM l G 0 yJ2_size wJ2_size [.ref a] M (jv (.int (nI n)) M) := by
  refine JM.of pn_J2 (Nat.le_of_ble_eq_true rfl) (hW.1) ?_
  show JW l G 0 YJ2_size _ 0 [(0, .ref a)] [] M
  refine j_aload_n dJ2_size_0 rfl rfl ?_
  refine j_get dJ2_size_1 fd_J2_48_11 hA rfl ?_
  exact j_ireturn dJ2_size_4 rfl (rfl)

theorem J2_elementData_m (hW : j_wf G M) {a e n : Nat} {m : Int32} (hA : M.1 a = some (.inr (11, [.int m, .ref e, .int (nI n)]))) {cap : Nat} {f : Nat → Option Nat} (hE : M.1 e = some (.inl (5, cap, .inr (.inr (.inr (.inr f)))))) {i : Nat} (hi : i < cap) (hc : cap < 2 ^ 31) : JM l G 0 yJ2_elementData wJ2_elementData [.ref a, .int (nI i)] M (jv (va_rf (f i)) M) := by
  refine JM.of pn_J2 (Nat.le_of_ble_eq_true rfl) (hW.1) ?_
  show JW l G 0 YJ2_elementData _ 0 [(0, .ref a), (1, .int (nI i))] [] M
  refine j_aload_n dJ2_elementData_0 rfl rfl ?_
  refine j_get dJ2_elementData_1 fd_J2_9_11 hA rfl ?_
  refine j_iload_n dJ2_elementData_4 rfl ?_
  refine j_aald (j := i) dJ2_elementData_5 hE (by decide) rfl (by omega) (by omega) ?_
  exact j_areturn dJ2_elementData_6 rfl rfl (va_rf_isRef _) (rfl)

theorem J16_checkIndex_m (hW : j_wf G M) {i n : Nat} (hi : i < n) (hn : n < 2 ^ 31) : JM l G 0 yJ16_checkIndex wJ16_checkIndex [.int (nI i), .int (nI n), .null] M (jv (.int (nI i)) M) := by
  refine JM.of pn_J16 (Nat.le_of_ble_eq_true rfl) (hW.1) ?_
  show JW l G 0 YJ16_checkIndex _ 0 [(0, .int (nI i)), (1, .int (nI n)), (2, .null)] [] M
  refine j_iload_n dJ16_checkIndex_0 rfl ?_
  refine j_if_lt (tgt := 9) dJ16_checkIndex_1 (by decide) (fun c1 => ?_) (fun c1 => ?_)
  · exact absurd c1 (nI_pos (by omega))
  · refine j_iload_n dJ16_checkIndex_4 rfl ?_
    refine j_iload_n dJ16_checkIndex_5 rfl ?_
    refine j_icmp_lt (tgt := 16) dJ16_checkIndex_6 (by decide) (fun c6 => ?_) (fun c6 => ?_)
    · refine j_iload_n dJ16_checkIndex_16 rfl ?_
      exact j_ireturn dJ16_checkIndex_17 rfl (rfl)
    · exact absurd (nI_lt hi hn) c6

theorem J15_checkIndex_m (hW : j_wf G M) {i n : Nat} (hi : i < n) (hn : n < 2 ^ 31) : JM l G 1 yJ15_checkIndex wJ15_checkIndex [.int (nI i), .int (nI n)] M (jv (.int (nI i)) M) := by
  refine JM.of pn_J15 (Nat.le_of_ble_eq_true rfl) (hW.1) ?_
  show JW l G 1 YJ15_checkIndex _ 0 [(0, .int (nI i)), (1, .int (nI n))] [] M
  refine j_iload_n dJ15_checkIndex_0 rfl ?_
  refine j_iload_n dJ15_checkIndex_1 rfl ?_
  refine j_null dJ15_checkIndex_2 ?_
  refine j_callS (J16_checkIndex_m hW (i := i) (n := n) (by omega) (by omega)) dJ15_checkIndex_3 mt_J16_checkIndex q524 q525 cd_J16_checkIndex (Nat.le_of_ble_eq_true rfl) rfl rfl (Nat.le_of_ble_eq_true rfl) (jk_v ?_) jx_v
  exact j_ireturn dJ15_checkIndex_6 rfl (rfl)

theorem J2_get_m (hW : j_wf G M) {a e n : Nat} {m : Int32} (hA : M.1 a = some (.inr (11, [.int m, .ref e, .int (nI n)]))) {cap : Nat} {f : Nat → Option Nat} (hE : M.1 e = some (.inl (5, cap, .inr (.inr (.inr (.inr f)))))) {i : Nat} (hi : i < n) (hnc : n ≤ cap) (hc : cap < 2 ^ 31) : JM l G 2 yJ2_get wJ2_get [.ref a, .int (nI i)] M (jv (va_rf (f i)) M) := by
  refine JM.of pn_J2 (Nat.le_of_ble_eq_true rfl) (hW.1) ?_
  show JW l G 2 YJ2_get _ 0 [(0, .ref a), (1, .int (nI i))] [] M
  refine j_iload_n dJ2_get_0 rfl ?_
  refine j_aload_n dJ2_get_1 rfl rfl ?_
  refine j_get dJ2_get_2 fd_J2_48_11 hA rfl ?_
  refine j_callS (J15_checkIndex_m hW (i := i) (n := n) (by omega) (by omega)) dJ2_get_5 mt_J15_checkIndex q521 q522 cd_J15_checkIndex (Nat.le_of_ble_eq_true rfl) rfl rfl (Nat.le_of_ble_eq_true rfl) (jk_v ?_) jx_v
  refine j_pop dJ2_get_8 rfl ?_
  refine j_aload_n dJ2_get_9 rfl rfl ?_
  refine j_iload_n dJ2_get_10 rfl ?_
  refine j_callV (J2_elementData_m hW hA hE (by omega) hc) dJ2_get_11 mt_J2_elementData q527 q528 q529 hA (by decide) rfl cd_J2_elementData (Nat.le_of_ble_eq_true rfl) rfl rfl (Nat.le_of_ble_eq_true rfl) (jk_v ?_) jx_v
  exact j_areturn dJ2_get_14 rfl rfl (va_rf_isRef _) (rfl)

theorem J10_init_m (hW : j_wf G M) {a e n : Nat} {m : Int32} (hA : M.1 a = some (.inr (11, [.int m, .ref e, .int (nI n)]))) {b : Nat} (hb : M.1 b = some (.inr (16, [.int 0, .int 0, .int 0, .null]))) : JM l G 1 yJ10_init wJ10_init [.ref b, .ref a] M (jn (j_put M b (.inr (16, [.int 0, .int (-1), .int m, .ref a])))) := by
  refine JM.of pn_J10 (Nat.le_of_ble_eq_true rfl) (hW.1) ?_
  show JW l G 1 YJ10_init _ 0 [(0, .ref b), (1, .ref a)] [] M
  refine j_aload_n dJ10_init_0 rfl rfl ?_
  refine j_aload_n dJ10_init_1 rfl rfl ?_
  refine j_put_ dJ10_init_2 fd_J10_1_16 cl_16 (fun r hr => ⟨(ft_16_3 r hr).1, Or.inr ⟨rfl, (ft_16_3 r hr).2.2⟩⟩) hb (Or.inr (by decide)) rfl rfl (Nat.le_of_ble_eq_true rfl) ?_
  show JW _ _ _ _ _ _ _ _ (j_put M b (.inr (16, [.int 0, .int 0, .int 0, .ref a])))
  refine j_aload_n dJ10_init_5 rfl rfl ?_
  refine j_objInit dJ10_init_6 q376 q150 q151 (Nat.le_of_ble_eq_true rfl) (Nat.le_of_ble_eq_true rfl) ?_
  refine j_aload_n dJ10_init_9 rfl rfl ?_
  refine j_iconst (v := (-1)) dJ10_init_10 (by decide) ?_
  refine j_put_ dJ10_init_11 fd_J10_13_16 cl_16 (fun r hr => ⟨(ft_16_1 r hr).1, Or.inl (ft_16_1 r hr).2.1⟩) j_peq (Or.inr (by decide)) rfl rfl (Nat.le_of_ble_eq_true rfl) ?_
  rw [j_pp]
  show JW _ _ _ _ _ _ _ _ (j_put M b (.inr (16, [.int 0, .int (-1), .int 0, .ref a])))
  refine j_aload_n dJ10_init_14 rfl rfl ?_
  refine j_aload_n dJ10_init_15 rfl rfl ?_
  refine j_get dJ10_init_16 fd_J10_1_16 j_peq rfl ?_
  refine j_get dJ10_init_19 fd_J10_17_11 (j_pne (j_nek (M := M) hA hb (Nat.ne_of_beq_eq_false rfl)) hA) rfl ?_
  refine j_put_ dJ10_init_22 fd_J10_22_16 cl_16 (fun r hr => ⟨(ft_16_2 r hr).1, Or.inl (ft_16_2 r hr).2.1⟩) j_peq (Or.inr (by decide)) rfl rfl (Nat.le_of_ble_eq_true rfl) ?_
  rw [j_pp]
  show JW _ _ _ _ _ _ _ _ (j_put M b (.inr (16, [.int 0, .int (-1), .int m, .ref a])))
  exact j_return dJ10_init_25 rfl (rfl)

theorem J2_iterator_m (hW : j_wf G M) {a e n : Nat} {m : Int32} (hA : M.1 a = some (.inr (11, [.int m, .ref e, .int (nI n)]))) : JM l G 2 yJ2_iterator wJ2_iterator [.ref a] M (jv (.ref M.2.1) (j_new M (.inr (16, [.int 0, .int (-1), .int m, .ref a])) 4)) := by
  refine JM.of pn_J2 (Nat.le_of_ble_eq_true rfl) (hW.1) ?_
  show JW l G 2 YJ2_iterator _ 0 [(0, .ref a)] [] M
  refine j_new_ dJ2_iterator_0 nw_J2_267 ?_
  refine j_dup dJ2_iterator_3 rfl ?_
  refine j_aload_n dJ2_iterator_4 rfl rfl ?_
  refine j_callI (J10_init_m (hW.new) (j_nne hW hA) j_neq) dJ2_iterator_5 mt_J10_init q373 q374 rfl rfl cd_J10_init (Nat.le_of_ble_eq_true rfl) rfl rfl (Nat.le_of_ble_eq_true rfl) (jk_n ?_) jx_n
  rw [j_newput]
  exact j_areturn dJ2_iterator_8 rfl rfl rfl (rfl)

theorem J10_hasNext_m (hW : j_wf G M) {a e n : Nat} {m : Int32} (hA : M.1 a = some (.inr (11, [.int m, .ref e, .int (nI n)]))) {b i : Nat} {lr : Int32} (hI : M.1 b = some (.inr (16, [.int (nI i), .int lr, .int m, .ref a]))) (hi : i ≤ n) (hn : n < 2 ^ 31) : JM l G 0 yJ10_hasNext wJ10_hasNext [.ref b] M (jv (.int (jb (decide (i < n)))) M) := by
  refine JM.of pn_J10 (Nat.le_of_ble_eq_true rfl) (hW.1) ?_
  show JW l G 0 YJ10_hasNext _ 0 [(0, .ref b)] [] M
  refine j_aload_n dJ10_hasNext_0 rfl rfl ?_
  refine j_get dJ10_hasNext_1 fd_J10_25_16 hI rfl ?_
  refine j_aload_n dJ10_hasNext_4 rfl rfl ?_
  refine j_get dJ10_hasNext_5 fd_J10_1_16 hI rfl ?_
  refine j_get dJ10_hasNext_8 fd_J10_28_11 hA rfl ?_
  refine j_icmp_eq (tgt := 18) dJ10_hasNext_11 (by decide) (fun c11 => ?_) (fun c11 => ?_)
  · refine j_iconst (v := 0) dJ10_hasNext_18 (by decide) ?_
    exact j_zreturn dJ10_hasNext_19 rfl rfl (jv_i (by rw [decide_eq_false (show ¬ i < n by have := (nI_eq (a := i) (b := n) (by omega) hn).mp c11; omega)]; rfl))
  · refine j_iconst (v := 1) dJ10_hasNext_14 (by decide) ?_
    refine j_goto (tgt := 19) dJ10_hasNext_15 (by decide) ?_
    exact j_zreturn dJ10_hasNext_19 rfl rfl (jv_i (by rw [decide_eq_true (show i < n by have := mt (nI_eq (a := i) (b := n) (by omega) hn).mpr c11; omega)]; rfl))

theorem J10_checkForComodification_m (hW : j_wf G M) {a e n : Nat} {m : Int32} (hA : M.1 a = some (.inr (11, [.int m, .ref e, .int (nI n)]))) {b i : Nat} {lr : Int32} (hI : M.1 b = some (.inr (16, [.int (nI i), .int lr, .int m, .ref a]))) : JM l G 0 yJ10_checkForComodification wJ10_checkForComodification [.ref b] M (jn M) := by
  refine JM.of pn_J10 (Nat.le_of_ble_eq_true rfl) (hW.1) ?_
  show JW l G 0 YJ10_checkForComodification _ 0 [(0, .ref b)] [] M
  refine j_aload_n dJ10_checkForComodification_0 rfl rfl ?_
  refine j_get dJ10_checkForComodification_1 fd_J10_1_16 hI rfl ?_
  refine j_get dJ10_checkForComodification_4 fd_J10_17_11 hA rfl ?_
  refine j_aload_n dJ10_checkForComodification_7 rfl rfl ?_
  refine j_get dJ10_checkForComodification_8 fd_J10_22_16 hI rfl ?_
  refine j_icmp_eq (tgt := 22) dJ10_checkForComodification_11 (by decide) (fun c11 => ?_) (fun c11 => ?_)
  · exact j_return dJ10_checkForComodification_22 rfl (rfl)
  · exact absurd rfl c11

theorem J10_next_m (hW : j_wf G M) {a e n : Nat} {m : Int32} (hA : M.1 a = some (.inr (11, [.int m, .ref e, .int (nI n)]))) {cap : Nat} {f : Nat → Option Nat} (hE : M.1 e = some (.inl (5, cap, .inr (.inr (.inr (.inr f)))))) {b i : Nat} {lr : Int32} (hI : M.1 b = some (.inr (16, [.int (nI i), .int lr, .int m, .ref a]))) {r : Nat} (hi : i < n) (hnc : n ≤ cap) (hc : cap < 2 ^ 31) (hf : f i = some r) : JM l G 1 yJ10_next wJ10_next [.ref b] M (jv (.ref r) (j_put M b (.inr (16, [.int (nI (i + 1)), .int (nI i), .int m, .ref a])))) := by
  refine JM.of pn_J10 (Nat.le_of_ble_eq_true rfl) (hW.1) ?_
  show JW l G 1 YJ10_next _ 0 [(0, .ref b)] [] M
  refine j_aload_n dJ10_next_0 rfl rfl ?_
  refine j_callV (J10_checkForComodification_m hW hA hI) dJ10_next_1 mt_J10_checkForComodification q839 q840 q841 hI (by decide) rfl cd_J10_checkForComodification (Nat.le_of_ble_eq_true rfl) rfl rfl (Nat.le_of_ble_eq_true rfl) (jk_n ?_) jx_n
  refine j_aload_n dJ10_next_4 rfl rfl ?_
  refine j_get dJ10_next_5 fd_J10_25_16 hI rfl ?_
  refine j_istore_n dJ10_next_8 (by decide) rfl ?_
  refine j_iload_n dJ10_next_9 rfl ?_
  refine j_aload_n dJ10_next_10 rfl rfl ?_
  refine j_get dJ10_next_11 fd_J10_1_16 hI rfl ?_
  refine j_get dJ10_next_14 fd_J10_28_11 hA rfl ?_
  refine j_icmp_lt (tgt := 28) dJ10_next_17 (by decide) (fun c17 => ?_) (fun c17 => ?_)
  · refine j_aload_n dJ10_next_28 rfl rfl ?_
    refine j_get dJ10_next_29 fd_J10_1_16 hI rfl ?_
    refine j_get dJ10_next_32 fd_J10_37_11 hA rfl ?_
    refine j_astore_n dJ10_next_35 rfl (by decide) rfl ?_
    refine j_iload_n dJ10_next_36 rfl ?_
    refine j_aload_n dJ10_next_37 rfl rfl ?_
    refine j_alen dJ10_next_38 hE (by decide) ?_
    refine j_icmp_lt (tgt := 50) dJ10_next_39 (by decide) (fun c39 => ?_) (fun c39 => ?_)
    · refine j_aload_n dJ10_next_50 rfl rfl ?_
      refine j_iload_n dJ10_next_51 rfl ?_
      refine j_iconst (v := 1) dJ10_next_52 (by decide) ?_
      refine j_iadd dJ10_next_53 ?_
      rw [nI_1]
      refine j_put_ dJ10_next_54 fd_J10_25_16 cl_16 (fun r hr => ⟨(ft_16_0 r hr).1, Or.inl (ft_16_0 r hr).2.1⟩) hI (Or.inr (by decide)) rfl rfl (Nat.le_of_ble_eq_true rfl) ?_
      show JW _ _ _ _ _ _ _ _ (j_put M b (.inr (16, [.int (nI (i + 1)), .int lr, .int m, .ref a])))
      refine j_aload_n dJ10_next_57 rfl rfl ?_
      refine j_aload_n dJ10_next_58 rfl rfl ?_
      refine j_iload_n dJ10_next_59 rfl ?_
      refine j_dup_x1 dJ10_next_60 rfl rfl ?_
      refine j_put_ dJ10_next_61 fd_J10_13_16 cl_16 (fun r hr => ⟨(ft_16_1 r hr).1, Or.inl (ft_16_1 r hr).2.1⟩) j_peq (Or.inr (by decide)) rfl rfl (Nat.le_of_ble_eq_true rfl) ?_
      rw [j_pp]
      show JW _ _ _ _ _ _ _ _ (j_put M b (.inr (16, [.int (nI (i + 1)), .int (nI i), .int m, .ref a])))
      refine j_aald (j := i) dJ10_next_64 (j_pne (j_nek (M := M) hE hI (Nat.ne_of_beq_eq_false rfl)) hE) (by decide) rfl (by omega) (by omega) ?_
      rw [hf]
      exact j_areturn dJ10_next_65 rfl rfl rfl (rfl)
    · exact absurd (nI_lt (by omega) hc) c39
  · exact absurd (nI_lt hi (by omega)) c17

end J1
