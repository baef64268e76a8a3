section K9
variable {l : Launch} {G : j_G} {M : j_M} {W : jWt} {A : Nat → Nat} {H : HV}
theorem X1_ages_m (hH : HAt G W M A H) (hCO_ : hCO H) : JM l G 5 yX1_ages wX1_ages [.ref (A 0)] M (jr (fun v M' => v = some (.int (msum (hCs H (fun b => hb H b 2)) 8)) ∧ jEx G M M' 2 3)) := by
  refine JM.of pn_X1 (Nat.le_of_ble_eq_true rfl) (hH.wf.1) ?_
  show JW l G 5 YX1_ages _ 0 [(0, .ref (A 0))] [] M
  refine j_iconst (v := 0) dX1_ages_0 (by decide) ?_
  refine j_istore_n dX1_ages_1 (by decide) rfl ?_
  refine j_aload_n dX1_ages_2 rfl rfl ?_
  refine j_callV (X1_inCells_m hH) dX1_ages_3 mt_X1_inCells q1508 q1509 q1510 hH.house (by decide) rfl cd_X1_inCells (Nat.le_of_ble_eq_true rfl) rfl rfl (Nat.le_of_ble_eq_true rfl) (jk_v ?_) jx_v
  obtain ⟨p2_, hp2_⟩ : ∃ q : Nat, q = M.2.1 := ⟨_, rfl⟩
  obtain ⟨L2_, hL2_⟩ : ∃ X : j_M, X = j_new M (.inr (7, [.ref (A 0)])) 1 := ⟨_, rfl⟩
  rw [← hp2_, ← hL2_]
  have hA2_ : HAt G W L2_ A H := by rw [hL2_]; exact hH.newE
  have hP2_ : L2_.1 p2_ = some (.inr (7, [.ref (A 0)])) := by rw [hL2_, hp2_]; exact j_neq
  have hD2_ : jEx G M L2_ 1 1 := by rw [hL2_]; exact jFr.new hH.wf
  refine j_callF (X7_iterator_m hA2_ hP2_) dX1_ages_6 mt_X7_iterator q1524 (by decide +kernel) rfl q1327 q1329 hP2_ (by decide) rfl cd_X7_iterator (Nat.le_of_ble_eq_true rfl) rfl rfl (Nat.le_of_ble_eq_true rfl) (jk_v ?_) jx_v
  obtain ⟨it2_, hit2_⟩ : ∃ q : Nat, q = L2_.2.1 := ⟨_, rfl⟩
  obtain ⟨M2_, hM2_⟩ : ∃ X : j_M, X = j_new L2_ (.inr (5, [.int (nI (hNx (H.2.1 0) 0)), .ref p2_])) 2 := ⟨_, rfl⟩
  rw [← hit2_, ← hM2_]
  have hI2_ : M2_.1 it2_ = some (.inr (5, [.int (nI (hNx (H.2.1 0) 0)), .ref p2_])) := by rw [hM2_, hit2_]; exact j_neq
  have hH2_ : HAt G W M2_ A H := by rw [hM2_]; exact hA2_.newE
  have hE2_ : jEx G M M2_ 2 3 := by rw [hM2_]; exact hD2_.stepn
  have hQ2_ : M2_.1 p2_ = some (.inr (7, [.ref (A 0)])) := by rw [hM2_]; exact j_nne hA2_.wf hP2_
  have hqm2_ : M.2.1 ≤ it2_ := by rw [hit2_]; exact hD2_.2.1.1
  have hq2_ : jB G ≤ it2_ := Nat.le_trans hH.wf.1 hqm2_
  have hnp2_ : p2_ ≠ it2_ := by rw [hit2_]; exact Nat.ne_of_lt (hA2_.wf.2 _ _ hP2_)
  refine j_astore_n dX1_ages_11 rfl (by decide) rfl ?_
  have lp2_ : ∀ (e k : Nat) (M_ : j_M) (acc : Int32) , 8 ≤ k + e → k ≤ 8 → (k < 8 → H.2.1 0 k ≠ -15) → HAt G W M_ A H → M_.1 it2_ = some (.inr (5, [.int (nI k), .ref p2_])) → M_.1 p2_ = some (.inr (7, [.ref (A 0)])) → jFr G jNo M M_ 2 3 → acc = msum (hCs H (fun b => hb H b 2)) k → JW l G 5 YX1_ages (jr (fun v M' => v = some (.int (msum (hCs H (fun b => hb H b 2)) 8)) ∧ jEx G M M' 2 3)) 12 [(0, .ref (A 0)), (1, .int acc), (2, .ref it2_)] [] M_ := by
    intro e
    induction e with
    | zero =>
      intro k M_ acc hek hk8_ hne_ hA_ hI_ hP_ hf_  hacc
      refine j_aload_n dX1_ages_12 rfl rfl ?_
      refine j_callF (X5_hasNext_m hA_.wf hI_ hk8_) dX1_ages_13 mt_X5_hasNext q393 (by decide +kernel) rfl q397 q399 hI_ (by decide) rfl cd_X5_hasNext (Nat.le_of_ble_eq_true rfl) rfl rfl (Nat.le_of_ble_eq_true rfl) (jk_v ?_) jx_v
      refine j_ifeqB (tgt := 41) dX1_ages_18 (by decide) (fun c18 => ?_) (fun c18 => ?_)
      · have hkn_ : k = 8 := by have := of_decide_eq_false c18; omega
        refine j_iload_n dX1_ages_41 rfl ?_
        exact j_ireturn dX1_ages_42 rfl (jr_i ⟨by rw [hacc, hkn_]; first | done | rfl, hf_⟩)
      · exact absurd (of_decide_eq_true c18) (by omega)
    | succ e ih_ =>
      intro k M_ acc hek hk8_ hne_ hA_ hI_ hP_ hf_  hacc
      refine j_aload_n dX1_ages_12 rfl rfl ?_
      refine j_callF (X5_hasNext_m hA_.wf hI_ hk8_) dX1_ages_13 mt_X5_hasNext q393 (by decide +kernel) rfl q397 q399 hI_ (by decide) rfl cd_X5_hasNext (Nat.le_of_ble_eq_true rfl) rfl rfl (Nat.le_of_ble_eq_true rfl) (jk_v ?_) jx_v
      refine j_ifeqB (tgt := 41) dX1_ages_18 (by decide) (fun c18 => ?_) (fun c18 => ?_)
      · have hkn_ : k = 8 := by have := of_decide_eq_false c18; omega
        refine j_iload_n dX1_ages_41 rfl ?_
        exact j_ireturn dX1_ages_42 rfl (jr_i ⟨by rw [hacc, hkn_]; first | done | rfl, hf_⟩)
      · have hk_ : k < 8 := of_decide_eq_true c18
        obtain ⟨v, hv0_, hev_⟩ : ∃ v, v < hn H ∧ H.2.1 0 k = nI v := (hCO_ k hk_).resolve_left (hne_ hk_)
        have hv16_ : v < 16 := Nat.lt_of_lt_of_le hv0_ hH2_.2.1.1
        have hv_ : v < hn H := hv0_
        have hev2_ : H.2.1 0 k = nI v := hev_
        refine j_aload_n dX1_ages_21 rfl rfl ?_
        refine j_callF (X5_next_m hA_ hI_ hP_ hk_ hv_ hev2_) dX1_ages_22 mt_X5_next q439 (by decide +kernel) rfl q442 q444 hI_ (by decide) rfl cd_X5_next (Nat.le_of_ble_eq_true rfl) rfl rfl (Nat.le_of_ble_eq_true rfl) (jk_v ?_) jx_v
        obtain ⟨M2_, hM2_⟩ : ∃ X : j_M, X = j_put M_ it2_ (.inr (5, [.int (nI (hNx (H.2.1 0) (k + 1))), .ref p2_])) := ⟨_, rfl⟩
        refine j_mem (M' := M2_) hM2_ ?_
        have hA2_ : HAt G W M2_ A H := by rw [hM2_]; exact hA_.putE hI_ rfl hq2_
        have hI2_ : M2_.1 it2_ = some (.inr (5, [.int (nI (hNx (H.2.1 0) (k + 1))), .ref p2_])) := by rw [hM2_]; exact j_peq
        have hP2_ : M2_.1 p2_ = some (.inr (7, [.ref (A 0)])) := by rw [hM2_]; exact j_pne hnp2_ hP_
        have hf2_ : jFr G jNo M M2_ 2 3 := by rw [hM2_]; exact hf_.stepp hI_ (fun h => absurd h (by omega))
        refine j_chk dX1_ages_27 (hA2_.bro hv_) (by decide) rfl q857 (Or.inl rfl) ?_
        refine j_astore_n dX1_ages_30 rfl (by decide) rfl ?_
        refine j_iload_n dX1_ages_31 rfl ?_
        refine j_aload_n dX1_ages_32 rfl rfl ?_
        refine j_get dX1_ages_33 fd_X1_235_3 (hA2_.bro hv_) rfl ?_
        refine j_iadd dX1_ages_36 ?_
        refine j_istore_n dX1_ages_37 (by decide) rfl ?_
        refine j_goto (tgt := 12) dX1_ages_38 (by decide) ?_
        have hg_ := hNx_ge (f := H.2.1 0) (c := k + 1) (by omega)
        refine j_locs (ls2 := [(0, .ref (A 0)), (1, .int (acc + (hb H v 2))), (2, .ref it2_)]) ⟨rfl, rfl, rfl, trivial⟩ ?_
        exact ih_ (hNx (H.2.1 0) (k + 1)) _ (acc + (hb H v 2)) (by omega) hg_.2 (fun h => hNx_at (by omega) h) hA2_ hI2_ hP2_ hf2_  (((by rw [hacc]; show _ = msum _ k + hCs H _ k; rw [hCs_at (hne_ hk_) hev_ hv16_]; (try dsimp only); first | done | rfl) : (acc + (hb H v 2)) = msum (hCs H (fun b => hb H b 2)) (k + 1)).trans (msum_skip hg_.1 (fun c h1 h2 => if_pos (hNx_no h1 h2))).symm)
  have hg2_ := hNx_ge (f := H.2.1 0) (c := 0) (by decide)
  refine j_locs (ls2 := [(0, .ref (A 0)), (1, .int 0), (2, .ref it2_)]) ⟨rfl, rfl, rfl, trivial⟩ ?_
  exact lp2_ 8 (hNx (H.2.1 0) 0) M2_ 0 (by omega) hg2_.2 (fun h => hNx_at (by decide) h) hH2_ hI2_ hQ2_ (hE2_.mono (fun _ _ q => False.elim q) (by decide) (by decide))  (msum_skip (f := hCs H (fun b => hb H b 2)) hg2_.1 (fun c h1 h2 => if_pos (hNx_no h1 h2))).symm

theorem X1_underBan_m (hH : HAt G W M A H) (hCO_ : hCO H) : JM l G 5 yX1_underBan wX1_underBan [.ref (A 0)] M (jr (fun v M' => v = some (.int (msum (hCs H (fun b => jb (decide (0 < hb H b 6)))) 8)) ∧ jEx G M M' 2 3)) := by
  refine JM.of pn_X1 (Nat.le_of_ble_eq_true rfl) (hH.wf.1) ?_
  show JW l G 5 YX1_underBan _ 0 [(0, .ref (A 0))] [] M
  refine j_iconst (v := 0) dX1_underBan_0 (by decide) ?_
  refine j_istore_n dX1_underBan_1 (by decide) rfl ?_
  refine j_aload_n dX1_underBan_2 rfl rfl ?_
  refine j_callV (X1_inCells_m hH) dX1_underBan_3 mt_X1_inCells q1508 q1509 q1510 hH.house (by decide) rfl cd_X1_inCells (Nat.le_of_ble_eq_true rfl) rfl rfl (Nat.le_of_ble_eq_true rfl) (jk_v ?_) jx_v
  obtain ⟨p3_, hp3_⟩ : ∃ q : Nat, q = M.2.1 := ⟨_, rfl⟩
  obtain ⟨L3_, hL3_⟩ : ∃ X : j_M, X = j_new M (.inr (7, [.ref (A 0)])) 1 := ⟨_, rfl⟩
  rw [← hp3_, ← hL3_]
  have hA3_ : HAt G W L3_ A H := by rw [hL3_]; exact hH.newE
  have hP3_ : L3_.1 p3_ = some (.inr (7, [.ref (A 0)])) := by rw [hL3_, hp3_]; exact j_neq
  have hD3_ : jEx G M L3_ 1 1 := by rw [hL3_]; exact jFr.new hH.wf
  refine j_callF (X7_iterator_m hA3_ hP3_) dX1_underBan_6 mt_X7_iterator q1524 (by decide +kernel) rfl q1327 q1329 hP3_ (by decide) rfl cd_X7_iterator (Nat.le_of_ble_eq_true rfl) rfl rfl (Nat.le_of_ble_eq_true rfl) (jk_v ?_) jx_v
  obtain ⟨it3_, hit3_⟩ : ∃ q : Nat, q = L3_.2.1 := ⟨_, rfl⟩
  obtain ⟨M3_, hM3_⟩ : ∃ X : j_M, X = j_new L3_ (.inr (5, [.int (nI (hNx (H.2.1 0) 0)), .ref p3_])) 2 := ⟨_, rfl⟩
  rw [← hit3_, ← hM3_]
  have hI3_ : M3_.1 it3_ = some (.inr (5, [.int (nI (hNx (H.2.1 0) 0)), .ref p3_])) := by rw [hM3_, hit3_]; exact j_neq
  have hH3_ : HAt G W M3_ A H := by rw [hM3_]; exact hA3_.newE
  have hE3_ : jEx G M M3_ 2 3 := by rw [hM3_]; exact hD3_.stepn
  have hQ3_ : M3_.1 p3_ = some (.inr (7, [.ref (A 0)])) := by rw [hM3_]; exact j_nne hA3_.wf hP3_
  have hqm3_ : M.2.1 ≤ it3_ := by rw [hit3_]; exact hD3_.2.1.1
  have hq3_ : jB G ≤ it3_ := Nat.le_trans hH.wf.1 hqm3_
  have hnp3_ : p3_ ≠ it3_ := by rw [hit3_]; exact Nat.ne_of_lt (hA3_.wf.2 _ _ hP3_)
  refine j_astore_n dX1_underBan_11 rfl (by decide) rfl ?_
  have lp3_ : ∀ (e k : Nat) (M_ : j_M) (acc : Int32) , 8 ≤ k + e → k ≤ 8 → (k < 8 → H.2.1 0 k ≠ -15) → HAt G W M_ A H → M_.1 it3_ = some (.inr (5, [.int (nI k), .ref p3_])) → M_.1 p3_ = some (.inr (7, [.ref (A 0)])) → jFr G jNo M M_ 2 3 → acc = msum (hCs H (fun b => jb (decide (0 < hb H b 6)))) k → JW l G 5 YX1_underBan (jr (fun v M' => v = some (.int (msum (hCs H (fun b => jb (decide (0 < hb H b 6)))) 8)) ∧ jEx G M M' 2 3)) 12 [(0, .ref (A 0)), (1, .int acc), (2, .ref it3_)] [] M_ := by
    intro e
    induction e with
    | zero =>
      intro k M_ acc hek hk8_ hne_ hA_ hI_ hP_ hf_  hacc
      refine j_aload_n dX1_underBan_12 rfl rfl ?_
      refine j_callF (X5_hasNext_m hA_.wf hI_ hk8_) dX1_underBan_13 mt_X5_hasNext q393 (by decide +kernel) rfl q397 q399 hI_ (by decide) rfl cd_X5_hasNext (Nat.le_of_ble_eq_true rfl) rfl rfl (Nat.le_of_ble_eq_true rfl) (jk_v ?_) jx_v
      refine j_ifeqB (tgt := 49) dX1_underBan_18 (by decide) (fun c18 => ?_) (fun c18 => ?_)
      · have hkn_ : k = 8 := by have := of_decide_eq_false c18; omega
        refine j_iload_n dX1_underBan_49 rfl ?_
        exact j_ireturn dX1_underBan_50 rfl (jr_i ⟨by rw [hacc, hkn_]; first | done | rfl, hf_⟩)
      · exact absurd (of_decide_eq_true c18) (by omega)
    | succ e ih_ =>
      intro k M_ acc hek hk8_ hne_ hA_ hI_ hP_ hf_  hacc
      refine j_aload_n dX1_underBan_12 rfl rfl ?_
      refine j_callF (X5_hasNext_m hA_.wf hI_ hk8_) dX1_underBan_13 mt_X5_hasNext q393 (by decide +kernel) rfl q397 q399 hI_ (by decide) rfl cd_X5_hasNext (Nat.le_of_ble_eq_true rfl) rfl rfl (Nat.le_of_ble_eq_true rfl) (jk_v ?_) jx_v
      refine j_ifeqB (tgt := 49) dX1_underBan_18 (by decide) (fun c18 => ?_) (fun c18 => ?_)
      · have hkn_ : k = 8 := by have := of_decide_eq_false c18; omega
        refine j_iload_n dX1_underBan_49 rfl ?_
        exact j_ireturn dX1_underBan_50 rfl (jr_i ⟨by rw [hacc, hkn_]; first | done | rfl, hf_⟩)
      · have hk_ : k < 8 := of_decide_eq_true c18
        obtain ⟨v, hv0_, hev_⟩ : ∃ v, v < hn H ∧ H.2.1 0 k = nI v := (hCO_ k hk_).resolve_left (hne_ hk_)
        have hv16_ : v < 16 := Nat.lt_of_lt_of_le hv0_ hH3_.2.1.1
        have hv_ : v < hn H := hv0_
        have hev2_ : H.2.1 0 k = nI v := hev_
        refine j_aload_n dX1_underBan_21 rfl rfl ?_
        refine j_callF (X5_next_m hA_ hI_ hP_ hk_ hv_ hev2_) dX1_underBan_22 mt_X5_next q439 (by decide +kernel) rfl q442 q444 hI_ (by decide) rfl cd_X5_next (Nat.le_of_ble_eq_true rfl) rfl rfl (Nat.le_of_ble_eq_true rfl) (jk_v ?_) jx_v
        obtain ⟨M2_, hM2_⟩ : ∃ X : j_M, X = j_put M_ it3_ (.inr (5, [.int (nI (hNx (H.2.1 0) (k + 1))), .ref p3_])) := ⟨_, rfl⟩
        refine j_mem (M' := M2_) hM2_ ?_
        have hA2_ : HAt G W M2_ A H := by rw [hM2_]; exact hA_.putE hI_ rfl hq3_
        have hI2_ : M2_.1 it3_ = some (.inr (5, [.int (nI (hNx (H.2.1 0) (k + 1))), .ref p3_])) := by rw [hM2_]; exact j_peq
        have hP2_ : M2_.1 p3_ = some (.inr (7, [.ref (A 0)])) := by rw [hM2_]; exact j_pne hnp3_ hP_
        have hf2_ : jFr G jNo M M2_ 2 3 := by rw [hM2_]; exact hf_.stepp hI_ (fun h => absurd h (by omega))
        refine j_chk dX1_underBan_27 (hA2_.bro hv_) (by decide) rfl q857 (Or.inl rfl) ?_
        refine j_astore_n dX1_underBan_30 rfl (by decide) rfl ?_
        refine j_iload_n dX1_underBan_31 rfl ?_
        refine j_aload_n dX1_underBan_32 rfl rfl ?_
        refine j_get dX1_underBan_33 fd_X1_161_3 (hA2_.bro hv_) rfl ?_
        refine j_if_le (tgt := 43) dX1_underBan_36 (by decide) (fun c36 => ?_) (fun c36 => ?_)
        · refine j_iconst (v := 0) dX1_underBan_43 (by decide) ?_
          refine j_iadd dX1_underBan_44 ?_
          refine j_istore_n dX1_underBan_45 (by decide) rfl ?_
          refine j_goto (tgt := 12) dX1_underBan_46 (by decide) ?_
          have hg_ := hNx_ge (f := H.2.1 0) (c := k + 1) (by omega)
          refine j_locs (ls2 := [(0, .ref (A 0)), (1, .int (acc + 0)), (2, .ref it3_)]) ⟨rfl, rfl, rfl, trivial⟩ ?_
          exact ih_ (hNx (H.2.1 0) (k + 1)) _ (acc + 0) (by omega) hg_.2 (fun h => hNx_at (by omega) h) hA2_ hI2_ hP2_ hf2_  (((by rw [hacc]; show _ = msum _ k + hCs H _ k; rw [hCs_at (hne_ hk_) hev_ hv16_]; (try dsimp only); first | rw [decide_eq_true (Int32.not_le.mp c36)]; rfl | rw [decide_eq_false (Int32.not_lt.mpr c36)]; rfl) : (acc + 0) = msum (hCs H (fun b => jb (decide (0 < hb H b 6)))) (k + 1)).trans (msum_skip hg_.1 (fun c h1 h2 => if_pos (hNx_no h1 h2))).symm)
        · refine j_iconst (v := 1) dX1_underBan_39 (by decide) ?_
          refine j_goto (tgt := 44) dX1_underBan_40 (by decide) ?_
          refine j_iadd dX1_underBan_44 ?_
          refine j_istore_n dX1_underBan_45 (by decide) rfl ?_
          refine j_goto (tgt := 12) dX1_underBan_46 (by decide) ?_
          have hg_ := hNx_ge (f := H.2.1 0) (c := k + 1) (by omega)
          refine j_locs (ls2 := [(0, .ref (A 0)), (1, .int (acc + 1)), (2, .ref it3_)]) ⟨rfl, rfl, rfl, trivial⟩ ?_
          exact ih_ (hNx (H.2.1 0) (k + 1)) _ (acc + 1) (by omega) hg_.2 (fun h => hNx_at (by omega) h) hA2_ hI2_ hP2_ hf2_  (((by rw [hacc]; show _ = msum _ k + hCs H _ k; rw [hCs_at (hne_ hk_) hev_ hv16_]; (try dsimp only); first | rw [decide_eq_true (Int32.not_le.mp c36)]; rfl | rw [decide_eq_false (Int32.not_lt.mpr c36)]; rfl) : (acc + 1) = msum (hCs H (fun b => jb (decide (0 < hb H b 6)))) (k + 1)).trans (msum_skip hg_.1 (fun c h1 h2 => if_pos (hNx_no h1 h2))).symm)
  have hg3_ := hNx_ge (f := H.2.1 0) (c := 0) (by decide)
  refine j_locs (ls2 := [(0, .ref (A 0)), (1, .int 0), (2, .ref it3_)]) ⟨rfl, rfl, rfl, trivial⟩ ?_
  exact lp3_ 8 (hNx (H.2.1 0) 0) M3_ 0 (by omega) hg3_.2 (fun h => hNx_at (by decide) h) hH3_ hI3_ hQ3_ (hE3_.mono (fun _ _ q => False.elim q) (by decide) (by decide))  (msum_skip (f := hCs H (fun b => jb (decide (0 < hb H b 6)))) hg3_.1 (fun c h1 h2 => if_pos (hNx_no h1 h2))).symm

theorem X1_entitledMany_m (hH : HAt G W M A H) (hCO_ : hCO H) : JM l G 5 yX1_entitledMany wX1_entitledMany [.ref (A 0)] M (jr (fun v M' => v = some (.int (msum (hCs H (fun b => jb (decide (hb H b 3 = 1) && decide (hb H b 6 = 0)))) 8)) ∧ jEx G M M' 2 3)) := by
  refine JM.of pn_X1 (Nat.le_of_ble_eq_true rfl) (hH.wf.1) ?_
  show JW l G 5 YX1_entitledMany _ 0 [(0, .ref (A 0))] [] M
  refine j_iconst (v := 0) dX1_entitledMany_0 (by decide) ?_
  refine j_istore_n dX1_entitledMany_1 (by decide) rfl ?_
  refine j_aload_n dX1_entitledMany_2 rfl rfl ?_
  refine j_callV (X1_inCells_m hH) dX1_entitledMany_3 mt_X1_inCells q1508 q1509 q1510 hH.house (by decide) rfl cd_X1_inCells (Nat.le_of_ble_eq_true rfl) rfl rfl (Nat.le_of_ble_eq_true rfl) (jk_v ?_) jx_v
  obtain ⟨p4_, hp4_⟩ : ∃ q : Nat, q = M.2.1 := ⟨_, rfl⟩
  obtain ⟨L4_, hL4_⟩ : ∃ X : j_M, X = j_new M (.inr (7, [.ref (A 0)])) 1 := ⟨_, rfl⟩
  rw [← hp4_, ← hL4_]
  have hA4_ : HAt G W L4_ A H := by rw [hL4_]; exact hH.newE
  have hP4_ : L4_.1 p4_ = some (.inr (7, [.ref (A 0)])) := by rw [hL4_, hp4_]; exact j_neq
  have hD4_ : jEx G M L4_ 1 1 := by rw [hL4_]; exact jFr.new hH.wf
  refine j_callF (X7_iterator_m hA4_ hP4_) dX1_entitledMany_6 mt_X7_iterator q1524 (by decide +kernel) rfl q1327 q1329 hP4_ (by decide) rfl cd_X7_iterator (Nat.le_of_ble_eq_true rfl) rfl rfl (Nat.le_of_ble_eq_true rfl) (jk_v ?_) jx_v
  obtain ⟨it4_, hit4_⟩ : ∃ q : Nat, q = L4_.2.1 := ⟨_, rfl⟩
  obtain ⟨M4_, hM4_⟩ : ∃ X : j_M, X = j_new L4_ (.inr (5, [.int (nI (hNx (H.2.1 0) 0)), .ref p4_])) 2 := ⟨_, rfl⟩
  rw [← hit4_, ← hM4_]
  have hI4_ : M4_.1 it4_ = some (.inr (5, [.int (nI (hNx (H.2.1 0) 0)), .ref p4_])) := by rw [hM4_, hit4_]; exact j_neq
  have hH4_ : HAt G W M4_ A H := by rw [hM4_]; exact hA4_.newE
  have hE4_ : jEx G M M4_ 2 3 := by rw [hM4_]; exact hD4_.stepn
  have hQ4_ : M4_.1 p4_ = some (.inr (7, [.ref (A 0)])) := by rw [hM4_]; exact j_nne hA4_.wf hP4_
  have hqm4_ : M.2.1 ≤ it4_ := by rw [hit4_]; exact hD4_.2.1.1
  have hq4_ : jB G ≤ it4_ := Nat.le_trans hH.wf.1 hqm4_
  have hnp4_ : p4_ ≠ it4_ := by rw [hit4_]; exact Nat.ne_of_lt (hA4_.wf.2 _ _ hP4_)
  refine j_astore_n dX1_entitledMany_11 rfl (by decide) rfl ?_
  have lp4_ : ∀ (e k : Nat) (M_ : j_M) (acc : Int32) , 8 ≤ k + e → k ≤ 8 → (k < 8 → H.2.1 0 k ≠ -15) → HAt G W M_ A H → M_.1 it4_ = some (.inr (5, [.int (nI k), .ref p4_])) → M_.1 p4_ = some (.inr (7, [.ref (A 0)])) → jFr G jNo M M_ 2 3 → acc = msum (hCs H (fun b => jb (decide (hb H b 3 = 1) && decide (hb H b 6 = 0)))) k → JW l G 5 YX1_entitledMany (jr (fun v M' => v = some (.int (msum (hCs H (fun b => jb (decide (hb H b 3 = 1) && decide (hb H b 6 = 0)))) 8)) ∧ jEx G M M' 2 3)) 12 [(0, .ref (A 0)), (1, .int acc), (2, .ref it4_)] [] M_ := by
    intro e
    induction e with
    | zero =>
      intro k M_ acc hek hk8_ hne_ hA_ hI_ hP_ hf_  hacc
      refine j_aload_n dX1_entitledMany_12 rfl rfl ?_
      refine j_callF (X5_hasNext_m hA_.wf hI_ hk8_) dX1_entitledMany_13 mt_X5_hasNext q393 (by decide +kernel) rfl q397 q399 hI_ (by decide) rfl cd_X5_hasNext (Nat.le_of_ble_eq_true rfl) rfl rfl (Nat.le_of_ble_eq_true rfl) (jk_v ?_) jx_v
      refine j_ifeqB (tgt := 49) dX1_entitledMany_18 (by decide) (fun c18 => ?_) (fun c18 => ?_)
      · have hkn_ : k = 8 := by have := of_decide_eq_false c18; omega
        refine j_iload_n dX1_entitledMany_49 rfl ?_
        exact j_ireturn dX1_entitledMany_50 rfl (jr_i ⟨by rw [hacc, hkn_]; first | done | rfl, hf_⟩)
      · exact absurd (of_decide_eq_true c18) (by omega)
    | succ e ih_ =>
      intro k M_ acc hek hk8_ hne_ hA_ hI_ hP_ hf_  hacc
      refine j_aload_n dX1_entitledMany_12 rfl rfl ?_
      refine j_callF (X5_hasNext_m hA_.wf hI_ hk8_) dX1_entitledMany_13 mt_X5_hasNext q393 (by decide +kernel) rfl q397 q399 hI_ (by decide) rfl cd_X5_hasNext (Nat.le_of_ble_eq_true rfl) rfl rfl (Nat.le_of_ble_eq_true rfl) (jk_v ?_) jx_v
      refine j_ifeqB (tgt := 49) dX1_entitledMany_18 (by decide) (fun c18 => ?_) (fun c18 => ?_)
      · have hkn_ : k = 8 := by have := of_decide_eq_false c18; omega
        refine j_iload_n dX1_entitledMany_49 rfl ?_
        exact j_ireturn dX1_entitledMany_50 rfl (jr_i ⟨by rw [hacc, hkn_]; first | done | rfl, hf_⟩)
      · have hk_ : k < 8 := of_decide_eq_true c18
        obtain ⟨v, hv0_, hev_⟩ : ∃ v, v < hn H ∧ H.2.1 0 k = nI v := (hCO_ k hk_).resolve_left (hne_ hk_)
        have hv16_ : v < 16 := Nat.lt_of_lt_of_le hv0_ hH4_.2.1.1
        have hv_ : v < hn H := hv0_
        have hev2_ : H.2.1 0 k = nI v := hev_
        refine j_aload_n dX1_entitledMany_21 rfl rfl ?_
        refine j_callF (X5_next_m hA_ hI_ hP_ hk_ hv_ hev2_) dX1_entitledMany_22 mt_X5_next q439 (by decide +kernel) rfl q442 q444 hI_ (by decide) rfl cd_X5_next (Nat.le_of_ble_eq_true rfl) rfl rfl (Nat.le_of_ble_eq_true rfl) (jk_v ?_) jx_v
        obtain ⟨M2_, hM2_⟩ : ∃ X : j_M, X = j_put M_ it4_ (.inr (5, [.int (nI (hNx (H.2.1 0) (k + 1))), .ref p4_])) := ⟨_, rfl⟩
        refine j_mem (M' := M2_) hM2_ ?_
        have hA2_ : HAt G W M2_ A H := by rw [hM2_]; exact hA_.putE hI_ rfl hq4_
        have hI2_ : M2_.1 it4_ = some (.inr (5, [.int (nI (hNx (H.2.1 0) (k + 1))), .ref p4_])) := by rw [hM2_]; exact j_peq
        have hP2_ : M2_.1 p4_ = some (.inr (7, [.ref (A 0)])) := by rw [hM2_]; exact j_pne hnp4_ hP_
        have hf2_ : jFr G jNo M M2_ 2 3 := by rw [hM2_]; exact hf_.stepp hI_ (fun h => absurd h (by omega))
        refine j_chk dX1_entitledMany_27 (hA2_.bro hv_) (by decide) rfl q857 (Or.inl rfl) ?_
        refine j_astore_n dX1_entitledMany_30 rfl (by decide) rfl ?_
        refine j_iload_n dX1_entitledMany_31 rfl ?_
        refine j_aload_n dX1_entitledMany_32 rfl rfl ?_
        refine j_callV (X3_isEntitled_m hA2_.wf (hA2_.bro hv_)) dX1_entitledMany_33 mt_X3_isEntitled q1525 q1526 q1527 (hA2_.bro hv_) (by decide) rfl cd_X3_isEntitled (Nat.le_of_ble_eq_true rfl) rfl rfl (Nat.le_of_ble_eq_true rfl) (jk_v ?_) jx_v
        refine j_ifeqB (tgt := 43) dX1_entitledMany_36 (by decide) (fun c36 => ?_) (fun c36 => ?_)
        · refine j_iconst (v := 0) dX1_entitledMany_43 (by decide) ?_
          refine j_iadd dX1_entitledMany_44 ?_
          refine j_istore_n dX1_entitledMany_45 (by decide) rfl ?_
          refine j_goto (tgt := 12) dX1_entitledMany_46 (by decide) ?_
          have hg_ := hNx_ge (f := H.2.1 0) (c := k + 1) (by omega)
          refine j_locs (ls2 := [(0, .ref (A 0)), (1, .int (acc + 0)), (2, .ref it4_)]) ⟨rfl, rfl, rfl, trivial⟩ ?_
          exact ih_ (hNx (H.2.1 0) (k + 1)) _ (acc + 0) (by omega) hg_.2 (fun h => hNx_at (by omega) h) hA2_ hI2_ hP2_ hf2_  (((by rw [hacc]; show _ = msum _ k + hCs H _ k; rw [hCs_at (hne_ hk_) hev_ hv16_]; (try dsimp only); rw [c36]; rfl) : (acc + 0) = msum (hCs H (fun b => jb (decide (hb H b 3 = 1) && decide (hb H b 6 = 0)))) (k + 1)).trans (msum_skip hg_.1 (fun c h1 h2 => if_pos (hNx_no h1 h2))).symm)
        · refine j_iconst (v := 1) dX1_entitledMany_39 (by decide) ?_
          refine j_goto (tgt := 44) dX1_entitledMany_40 (by decide) ?_
          refine j_iadd dX1_entitledMany_44 ?_
          refine j_istore_n dX1_entitledMany_45 (by decide) rfl ?_
          refine j_goto (tgt := 12) dX1_entitledMany_46 (by decide) ?_
          have hg_ := hNx_ge (f := H.2.1 0) (c := k + 1) (by omega)
          refine j_locs (ls2 := [(0, .ref (A 0)), (1, .int (acc + 1)), (2, .ref it4_)]) ⟨rfl, rfl, rfl, trivial⟩ ?_
          exact ih_ (hNx (H.2.1 0) (k + 1)) _ (acc + 1) (by omega) hg_.2 (fun h => hNx_at (by omega) h) hA2_ hI2_ hP2_ hf2_  (((by rw [hacc]; show _ = msum _ k + hCs H _ k; rw [hCs_at (hne_ hk_) hev_ hv16_]; (try dsimp only); rw [c36]; rfl) : (acc + 1) = msum (hCs H (fun b => jb (decide (hb H b 3 = 1) && decide (hb H b 6 = 0)))) (k + 1)).trans (msum_skip hg_.1 (fun c h1 h2 => if_pos (hNx_no h1 h2))).symm)
  have hg4_ := hNx_ge (f := H.2.1 0) (c := 0) (by decide)
  refine j_locs (ls2 := [(0, .ref (A 0)), (1, .int 0), (2, .ref it4_)]) ⟨rfl, rfl, rfl, trivial⟩ ?_
  exact lp4_ 8 (hNx (H.2.1 0) 0) M4_ 0 (by omega) hg4_.2 (fun h => hNx_at (by decide) h) hH4_ hI4_ hQ4_ (hE4_.mono (fun _ _ q => False.elim q) (by decide) (by decide))  (msum_skip (f := hCs H (fun b => jb (decide (hb H b 3 = 1) && decide (hb H b 6 = 0)))) hg4_.1 (fun c h1 h2 => if_pos (hNx_no h1 h2))).symm

end K9
