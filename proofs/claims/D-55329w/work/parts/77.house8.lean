section K8
variable {l : Launch} {G : j_G} {M : j_M} {W : jWt} {A : Nat → Nat} {H : HV}
theorem X7_init_m (hW : j_wf G M) {p : Nat} {x : Nat} (hp : M.1 p = some (.inr (7, [.null]))) : JM l G 1 yX7_init wX7_init [.ref p, .ref x] M (jn (j_put M p (.inr (7, [.ref x])))) := by
  refine JM.of pn_X7 (Nat.le_of_ble_eq_true rfl) (hW.1) ?_
  show JW l G 1 YX7_init _ 0 [(0, .ref p), (1, .ref x)] [] M
  refine j_aload_n dX7_init_0 rfl rfl ?_
  refine j_aload_n dX7_init_1 rfl rfl ?_
  refine j_put_ dX7_init_2 fd_X7_1_7 cl_7 (fun r hr => ⟨(ft_7_0 r hr).1, Or.inr ⟨rfl, (ft_7_0 r hr).2.2⟩⟩) hp (Or.inr (by decide)) rfl rfl (Nat.le_of_ble_eq_true rfl) ?_
  show JW _ _ _ _ _ _ _ _ (j_put M p (.inr (7, [.ref x])))
  refine j_aload_n dX7_init_5 rfl rfl ?_
  refine j_objInit dX7_init_6 q1517 q150 q151 (Nat.le_of_ble_eq_true rfl) (Nat.le_of_ble_eq_true rfl) ?_
  exact j_return dX7_init_9 rfl (rfl)

theorem X1_inCells_m (hH : HAt G W M A H) : JM l G 2 yX1_inCells wX1_inCells [.ref (A 0)] M (jv (.ref M.2.1) (j_new M (.inr (7, [.ref (A 0)])) 1)) := by
  refine JM.of pn_X1 (Nat.le_of_ble_eq_true rfl) (hH.wf.1) ?_
  show JW l G 2 YX1_inCells _ 0 [(0, .ref (A 0))] [] M
  refine j_new_ dX1_inCells_0 nw_X1_119 ?_
  refine j_dup dX1_inCells_3 rfl ?_
  refine j_aload_n dX1_inCells_4 rfl rfl ?_
  refine j_callI (X7_init_m (hH.wf.new) j_neq) dX1_inCells_5 mt_X7_init q1514 q1515 rfl rfl cd_X7_init (Nat.le_of_ble_eq_true rfl) rfl rfl (Nat.le_of_ble_eq_true rfl) (jk_n ?_) jx_n
  rw [j_newput]
  exact j_areturn dX1_inCells_8 rfl rfl rfl (rfl)

theorem X5_next_3_m (hH : HAt G W M A H) {b p : Nat} {x : Int32} (hI : M.1 b = some (.inr (5, [.int x, .ref p]))) (hP : M.1 p = some (.inr (7, [.ref (A 0)]))) {c : Nat} (hc : c ≤ 8) : JM l G 0 yX5_next_3 wX5_next_3 [.ref b, .int (nI c)] M (jv (.int (nI (hNx (H.2.1 0) c))) M) := by
  refine JM.of pn_X5 (Nat.le_of_ble_eq_true rfl) (hH.wf.1) ?_
  show JW l G 0 YX5_next_3 _ 0 [(0, .ref b), (1, .int (nI c))] [] M
  refine j_iload_n dX5_next_3_0 rfl ?_
  refine j_istore_n dX5_next_3_1 (by decide) rfl ?_
  have lp_ : ∀ (e k : Nat), k + e = 8 → nxC (H.2.1 0) e k = hNx (H.2.1 0) c → JW l G 0 YX5_next_3 (jv (.int (nI (hNx (H.2.1 0) c))) M) 2 [(0, .ref b), (1, .int (nI c)), (2, .int (nI k))] [] M := by
    intro e
    induction e with
    | zero =>
      intro k hk he_
      obtain rfl : k = 8 := by omega
      refine j_iload_n dX5_next_3_2 rfl ?_
      refine j_bipush (v := 8) dX5_next_3_3 (by decide) ?_
      refine j_icmp_ge (tgt := 31) dX5_next_3_5 (by decide) (fun c5 => ?_) (fun c5 => ?_)
      · refine j_iload_n dX5_next_3_31 rfl ?_
        exact j_ireturn dX5_next_3_32 rfl (by rw [← he_]; rfl)
      · exact absurd (by decide) c5
    | succ e ih =>
      intro k hk he_
      refine j_iload_n dX5_next_3_2 rfl ?_
      refine j_bipush (v := 8) dX5_next_3_3 (by decide) ?_
      refine j_icmp_ge (tgt := 31) dX5_next_3_5 (by decide) (fun c5 => ?_) (fun c5 => ?_)
      · exact absurd c5 (nI_ge (show k < 8 by omega) (by decide))
      · refine j_aload_n dX5_next_3_8 rfl rfl ?_
        refine j_get dX5_next_3_9 fd_X5_3_5 hI rfl ?_
        refine j_get dX5_next_3_12 fd_X5_23_7 hP rfl ?_
        refine j_get dX5_next_3_15 fd_X5_29_1 hH.house rfl ?_
        refine j_iload_n dX5_next_3_18 rfl ?_
        refine j_iald (j := k) dX5_next_3_19 hH.cells (by decide) rfl (by omega) (by omega) ?_
        refine j_bipush (v := (-15)) dX5_next_3_20 (by decide) ?_
        refine j_icmp_ne (tgt := 31) dX5_next_3_22 (by decide) (fun c22 => ?_) (fun c22 => ?_)
        · refine j_iload_n dX5_next_3_31 rfl ?_
          exact j_ireturn dX5_next_3_32 rfl (by rw [← he_]; unfold nxC; rw [if_neg c22]; rfl)
        · refine j_iinc (v := nI (k + 1)) dX5_next_3_25 rfl (nI_1 _) (by decide) rfl ?_
          refine j_goto (tgt := 2) dX5_next_3_28 (by decide) ?_
          refine j_locs (ls2 := [(0, .ref b), (1, .int (nI c)), (2, .int (nI (k + 1)))]) ⟨rfl, rfl, rfl, trivial⟩ (ih (k + 1) (by omega) ?_)
          rw [← he_]; conv => rhs; unfold nxC
          rw [if_pos c22]
  refine j_locs (ls2 := [(0, .ref b), (1, .int (nI c)), (2, .int (nI c))]) ⟨rfl, rfl, rfl, trivial⟩ (lp_ (8 - c) c (by omega) rfl)

theorem X5_init_m (hH : HAt G W M A H) {b p : Nat} (hb : M.1 b = some (.inr (5, [.int 0, .null]))) (hP : M.1 p = some (.inr (7, [.ref (A 0)]))) (hB : jB G ≤ b) : JM l G 1 yX5_init wX5_init [.ref b, .ref p] M (jn (j_put M b (.inr (5, [.int (nI (hNx (H.2.1 0) 0)), .ref p])))) := by
  refine JM.of pn_X5 (Nat.le_of_ble_eq_true rfl) (hH.wf.1) ?_
  show JW l G 1 YX5_init _ 0 [(0, .ref b), (1, .ref p)] [] M
  refine j_aload_n dX5_init_0 rfl rfl ?_
  refine j_aload_n dX5_init_1 rfl rfl ?_
  refine j_put_ dX5_init_2 fd_X5_3_5 cl_5 (fun r hr => ⟨(ft_5_1 r hr).1, Or.inr ⟨rfl, (ft_5_1 r hr).2.2⟩⟩) hb (Or.inr (by decide)) rfl rfl (Nat.le_of_ble_eq_true rfl) ?_
  show JW _ _ _ _ _ _ _ _ (j_put M b (.inr (5, [.int 0, .ref p])))
  refine j_aload_n dX5_init_5 rfl rfl ?_
  refine j_objInit dX5_init_6 q1336 q150 q151 (Nat.le_of_ble_eq_true rfl) (Nat.le_of_ble_eq_true rfl) ?_
  refine j_aload_n dX5_init_9 rfl rfl ?_
  refine j_aload_n dX5_init_10 rfl rfl ?_
  refine j_iconst (v := 0) dX5_init_11 (by decide) ?_
  have hH2_ := hH.putE (e := .inr (5, [.int 0, .ref p])) hb rfl hB
  refine j_callV (X5_next_3_m hH2_ j_peq (j_pne (j_nek (M := M) hP hb (Nat.ne_of_beq_eq_false rfl)) hP) (c := 0) (by omega)) dX5_init_12 mt_X5_next_3 q532 q534 qs1 j_peq (by decide) rfl cd_X5_next_3 (Nat.le_of_ble_eq_true rfl) rfl rfl (Nat.le_of_ble_eq_true rfl) (jk_v ?_) jx_v
  refine j_put_ dX5_init_15 fd_X5_19_5 cl_5 (fun r hr => ⟨(ft_5_0 r hr).1, Or.inl (ft_5_0 r hr).2.1⟩) j_peq (Or.inr (by decide)) rfl rfl (Nat.le_of_ble_eq_true rfl) ?_
  rw [j_pp]
  show JW _ _ _ _ _ _ _ _ (j_put M b (.inr (5, [.int (nI (hNx (H.2.1 0) 0)), .ref p])))
  exact j_return dX5_init_18 rfl (rfl)

theorem X7_iterator_m (hH : HAt G W M A H) {p : Nat} (hP : M.1 p = some (.inr (7, [.ref (A 0)]))) : JM l G 2 yX7_iterator wX7_iterator [.ref p] M (jv (.ref M.2.1) (j_new M (.inr (5, [.int (nI (hNx (H.2.1 0) 0)), .ref p])) 2)) := by
  refine JM.of pn_X7 (Nat.le_of_ble_eq_true rfl) (hH.wf.1) ?_
  show JW l G 2 YX7_iterator _ 0 [(0, .ref p)] [] M
  refine j_new_ dX7_iterator_0 nw_X7_13 ?_
  refine j_dup dX7_iterator_3 rfl ?_
  refine j_aload_n dX7_iterator_4 rfl rfl ?_
  have hH2_ := hH.newE (e := .inr (5, [.int 0, .null])) (n := 2)
  refine j_callI (X5_init_m hH2_ j_neq (j_nne hH.wf hP) hH.wf.1) dX7_iterator_5 mt_X5_init q1333 q1334 rfl rfl cd_X5_init (Nat.le_of_ble_eq_true rfl) rfl rfl (Nat.le_of_ble_eq_true rfl) (jk_n ?_) jx_n
  rw [j_newput]
  exact j_areturn dX7_iterator_8 rfl rfl rfl (rfl)

theorem X5_hasNext_m (hW : j_wf G M) {b p k : Nat} (hI : M.1 b = some (.inr (5, [.int (nI k), .ref p]))) (hk : k ≤ 8) : JM l G 0 yX5_hasNext wX5_hasNext [.ref b] M (jv (.int (jb (decide (k < 8)))) M) := by
  refine JM.of pn_X5 (Nat.le_of_ble_eq_true rfl) (hW.1) ?_
  show JW l G 0 YX5_hasNext _ 0 [(0, .ref b)] [] M
  refine j_aload_n dX5_hasNext_0 rfl rfl ?_
  refine j_get dX5_hasNext_1 fd_X5_19_5 hI rfl ?_
  refine j_bipush (v := 8) dX5_hasNext_4 (by decide) ?_
  refine j_icmp_ge (tgt := 13) dX5_hasNext_6 (by decide) (fun c6 => ?_) (fun c6 => ?_)
  · refine j_iconst (v := 0) dX5_hasNext_13 (by decide) ?_
    exact j_zreturn dX5_hasNext_14 rfl rfl (jv_i (by rw [decide_eq_false (show ¬ k < 8 by have := (nI_leI (a := 8) (b := k) (by decide) (by omega)).mp c6; omega)]; rfl))
  · refine j_iconst (v := 1) dX5_hasNext_9 (by decide) ?_
    refine j_goto (tgt := 14) dX5_hasNext_10 (by decide) ?_
    exact j_zreturn dX5_hasNext_14 rfl rfl (jv_i (by rw [decide_eq_true (show k < 8 by have := mt (nI_leI (a := 8) (b := k) (by decide) (by omega)).mpr c6; omega)]; rfl))

theorem X5_next_2_m (hH : HAt G W M A H) {b p k : Nat} (hI : M.1 b = some (.inr (5, [.int (nI k), .ref p]))) (hP : M.1 p = some (.inr (7, [.ref (A 0)]))) (hk : k < 8) {v : Nat} (hv : v < hn H) (he : H.2.1 0 k = nI v) : JM l G 3 yX5_next_2 wX5_next_2 [.ref b] M (jv (.ref (A (7 + v))) (j_put M b (.inr (5, [.int (nI (hNx (H.2.1 0) (k + 1))), .ref p])))) := by
  refine JM.of pn_X5 (Nat.le_of_ble_eq_true rfl) (hH.wf.1) ?_
  show JW l G 3 YX5_next_2 _ 0 [(0, .ref b)] [] M
  refine j_aload_n dX5_next_2_0 rfl rfl ?_
  refine j_get dX5_next_2_1 fd_X5_19_5 hI rfl ?_
  refine j_bipush (v := 8) dX5_next_2_4 (by decide) ?_
  refine j_icmp_lt (tgt := 17) dX5_next_2_6 (by decide) (fun c6 => ?_) (fun c6 => ?_)
  · refine j_aload_n dX5_next_2_17 rfl rfl ?_
    refine j_get dX5_next_2_18 fd_X5_3_5 hI rfl ?_
    refine j_get dX5_next_2_21 fd_X5_23_7 hP rfl ?_
    refine j_get dX5_next_2_24 fd_X5_38_1 hH.house rfl ?_
    refine j_aload_n dX5_next_2_27 rfl rfl ?_
    refine j_get dX5_next_2_28 fd_X5_3_5 hI rfl ?_
    refine j_get dX5_next_2_31 fd_X5_23_7 hP rfl ?_
    refine j_get dX5_next_2_34 fd_X5_29_1 hH.house rfl ?_
    refine j_aload_n dX5_next_2_37 rfl rfl ?_
    refine j_get dX5_next_2_38 fd_X5_19_5 hI rfl ?_
    refine j_iald (j := k) dX5_next_2_41 hH.cells (by decide) rfl (by omega) (by omega) ?_
    rw [he]
    refine j_callV (hH.get (b := v) hv) dX5_next_2_42 mt_J2_get q517 q518 q519 hH.al (by decide) rfl cd_J2_get (Nat.le_of_ble_eq_true rfl) rfl rfl (Nat.le_of_ble_eq_true rfl) (jk_v ?_) jx_v
    refine j_chk dX5_next_2_45 (hH.bro hv) (by decide) rfl q531 (Or.inl rfl) ?_
    refine j_astore_n dX5_next_2_48 rfl (by decide) rfl ?_
    refine j_aload_n dX5_next_2_49 rfl rfl ?_
    refine j_aload_n dX5_next_2_50 rfl rfl ?_
    refine j_aload_n dX5_next_2_51 rfl rfl ?_
    refine j_get dX5_next_2_52 fd_X5_19_5 hI rfl ?_
    refine j_iconst (v := 1) dX5_next_2_55 (by decide) ?_
    refine j_iadd dX5_next_2_56 ?_
    rw [nI_1]
    refine j_callV (X5_next_3_m hH hI hP (c := (k + 1)) (by omega)) dX5_next_2_57 mt_X5_next_3 q532 q534 qs1 hI (by decide) rfl cd_X5_next_3 (Nat.le_of_ble_eq_true rfl) rfl rfl (Nat.le_of_ble_eq_true rfl) (jk_v ?_) jx_v
    refine j_put_ dX5_next_2_60 fd_X5_19_5 cl_5 (fun r hr => ⟨(ft_5_0 r hr).1, Or.inl (ft_5_0 r hr).2.1⟩) hI (Or.inr (by decide)) rfl rfl (Nat.le_of_ble_eq_true rfl) ?_
    show JW _ _ _ _ _ _ _ _ (j_put M b (.inr (5, [.int (nI (hNx (H.2.1 0) (k + 1))), .ref p])))
    refine j_aload_n dX5_next_2_63 rfl rfl ?_
    exact j_areturn dX5_next_2_64 rfl rfl rfl (rfl)
  · exact absurd (nI_lt hk (by decide)) c6

theorem X5_next_m (hH : HAt G W M A H) {b p k : Nat} (hI : M.1 b = some (.inr (5, [.int (nI k), .ref p]))) (hP : M.1 p = some (.inr (7, [.ref (A 0)]))) (hk : k < 8) {v : Nat} (hv : v < hn H) (he : H.2.1 0 k = nI v) : JM l G 4 yX5_next wX5_next [.ref b] M (jv (.ref (A (7 + v))) (j_put M b (.inr (5, [.int (nI (hNx (H.2.1 0) (k + 1))), .ref p])))) := by
  refine JM.of pn_X5 (Nat.le_of_ble_eq_true rfl) (hH.wf.1) ?_
  show JW l G 4 YX5_next _ 0 [(0, .ref b)] [] M
  refine j_aload_n dX5_next_0 rfl rfl ?_
  refine j_callV (X5_next_2_m hH hI hP hk hv he) dX5_next_1 mt_X5_next_2 q447 q448 q449 hI (by decide) rfl cd_X5_next_2 (Nat.le_of_ble_eq_true rfl) rfl rfl (Nat.le_of_ble_eq_true rfl) (jk_v ?_) jx_v
  exact j_areturn dX5_next_4 rfl rfl rfl (rfl)

end K8
