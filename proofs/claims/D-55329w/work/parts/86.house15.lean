section K15
variable {l : Launch} {G : j_G} {M : j_M} {W : jWt} {A : Nat → Nat} {H : HV}
theorem X3_checkWaits_no (hW : j_wf G M) {a k : Nat} {x0 x1 x2 x3 x4 x5 x6 x7 x8 : Int32} (hB : M.1 a = some (.inr (3, [.int x0, .int x1, .int x2, .int x3, .int x4, .int x5, .int x6, .int x7, .int x8, .ref k]))) (h : x3 = 0) : JM l G 5 yX3_checkWaits wX3_checkWaits [.ref a] M (jn M) := by
  refine JM.of pn_X3 (Nat.le_of_ble_eq_true rfl) (hW.1) ?_
  show JW l G 5 YX3_checkWaits _ 0 [(0, .ref a)] [] M
  refine j_aload_n dX3_checkWaits_0 rfl rfl ?_
  refine j_get dX3_checkWaits_1 fd_X3_9_3 hB rfl ?_
  refine j_if_eq (tgt := 11) dX3_checkWaits_4 (by decide) (fun c4 => ?_) (fun c4 => ?_)
  · refine j_iconst (v := 0) dX3_checkWaits_11 (by decide) ?_
    refine j_iconst (v := 2) dX3_checkWaits_12 (by decide) ?_
    refine j_aload_n dX3_checkWaits_13 rfl rfl ?_
    refine j_get dX3_checkWaits_14 fd_X3_9_3 hB rfl ?_
    refine j_callSN (X0_refuse_no hW 2 x3) dX3_checkWaits_17 mt_X0_refuse q1167 q1076 cd_X0_refuse (Nat.le_of_ble_eq_true rfl) rfl rfl (Nat.le_of_ble_eq_true rfl) (jk_n ?_) jx_n
    exact j_return dX3_checkWaits_20 rfl (rfl)
  · exact absurd h c4

theorem X3_checkWaits_yes (hW : j_wf G M) {a k : Nat} {x0 x1 x2 x3 x4 x5 x6 x7 x8 : Int32} (hB : M.1 a = some (.inr (3, [.int x0, .int x1, .int x2, .int x3, .int x4, .int x5, .int x6, .int x7, .int x8, .ref k]))) (hG : jGd G W) (h : ¬ x3 = 0) : JM l G 5 yX3_checkWaits wX3_checkWaits [.ref a] M (jq M.2.1 (j_new M (rfd 2 x3) 8)) := by
  refine JM.of pn_X3 (Nat.le_of_ble_eq_true rfl) (hW.1) ?_
  show JW l G 5 YX3_checkWaits _ 0 [(0, .ref a)] [] M
  refine j_aload_n dX3_checkWaits_0 rfl rfl ?_
  refine j_get dX3_checkWaits_1 fd_X3_9_3 hB rfl ?_
  refine j_if_eq (tgt := 11) dX3_checkWaits_4 (by decide) (fun c4 => ?_) (fun c4 => ?_)
  · exact absurd c4 h
  · refine j_iconst (v := 1) dX3_checkWaits_7 (by decide) ?_
    refine j_goto (tgt := 12) dX3_checkWaits_8 (by decide) ?_
    refine j_iconst (v := 2) dX3_checkWaits_12 (by decide) ?_
    refine j_aload_n dX3_checkWaits_13 rfl rfl ?_
    refine j_get dX3_checkWaits_14 fd_X3_9_3 hB rfl ?_
    refine j_callSN (X0_refuse_yes hW hG 2 x3) dX3_checkWaits_17 mt_X0_refuse q1167 q1076 cd_X0_refuse (Nat.le_of_ble_eq_true rfl) rfl rfl (Nat.le_of_ble_eq_true rfl) jk_q (jx_q ?_)
    exact j_out j_neq (by decide) rfl (fun _ h => by cases h) rfl

theorem X3_checkCell_no (hW : j_wf G M) {a k : Nat} {x0 x1 x2 x3 x4 x5 x6 x7 x8 : Int32} (hB : M.1 a = some (.inr (3, [.int x0, .int x1, .int x2, .int x3, .int x4, .int x5, .int x6, .int x7, .int x8, .ref k]))) (h : x3 = 1) : JM l G 5 yX3_checkCell wX3_checkCell [.ref a] M (jn M) := by
  refine JM.of pn_X3 (Nat.le_of_ble_eq_true rfl) (hW.1) ?_
  show JW l G 5 YX3_checkCell _ 0 [(0, .ref a)] [] M
  refine j_aload_n dX3_checkCell_0 rfl rfl ?_
  refine j_get dX3_checkCell_1 fd_X3_9_3 hB rfl ?_
  refine j_iconst (v := 1) dX3_checkCell_4 (by decide) ?_
  refine j_icmp_eq (tgt := 12) dX3_checkCell_5 (by decide) (fun c5 => ?_) (fun c5 => ?_)
  · refine j_iconst (v := 0) dX3_checkCell_12 (by decide) ?_
    refine j_iconst (v := 3) dX3_checkCell_13 (by decide) ?_
    refine j_aload_n dX3_checkCell_14 rfl rfl ?_
    refine j_get dX3_checkCell_15 fd_X3_9_3 hB rfl ?_
    refine j_callSN (X0_refuse_no hW 3 x3) dX3_checkCell_18 mt_X0_refuse q1167 q1076 cd_X0_refuse (Nat.le_of_ble_eq_true rfl) rfl rfl (Nat.le_of_ble_eq_true rfl) (jk_n ?_) jx_n
    exact j_return dX3_checkCell_21 rfl (rfl)
  · exact absurd h c5

theorem X3_checkCell_yes (hW : j_wf G M) {a k : Nat} {x0 x1 x2 x3 x4 x5 x6 x7 x8 : Int32} (hB : M.1 a = some (.inr (3, [.int x0, .int x1, .int x2, .int x3, .int x4, .int x5, .int x6, .int x7, .int x8, .ref k]))) (hG : jGd G W) (h : ¬ x3 = 1) : JM l G 5 yX3_checkCell wX3_checkCell [.ref a] M (jq M.2.1 (j_new M (rfd 3 x3) 8)) := by
  refine JM.of pn_X3 (Nat.le_of_ble_eq_true rfl) (hW.1) ?_
  show JW l G 5 YX3_checkCell _ 0 [(0, .ref a)] [] M
  refine j_aload_n dX3_checkCell_0 rfl rfl ?_
  refine j_get dX3_checkCell_1 fd_X3_9_3 hB rfl ?_
  refine j_iconst (v := 1) dX3_checkCell_4 (by decide) ?_
  refine j_icmp_eq (tgt := 12) dX3_checkCell_5 (by decide) (fun c5 => ?_) (fun c5 => ?_)
  · exact absurd c5 h
  · refine j_iconst (v := 1) dX3_checkCell_8 (by decide) ?_
    refine j_goto (tgt := 13) dX3_checkCell_9 (by decide) ?_
    refine j_iconst (v := 3) dX3_checkCell_13 (by decide) ?_
    refine j_aload_n dX3_checkCell_14 rfl rfl ?_
    refine j_get dX3_checkCell_15 fd_X3_9_3 hB rfl ?_
    refine j_callSN (X0_refuse_yes hW hG 3 x3) dX3_checkCell_18 mt_X0_refuse q1167 q1076 cd_X0_refuse (Nat.le_of_ble_eq_true rfl) rfl rfl (Nat.le_of_ble_eq_true rfl) jk_q (jx_q ?_)
    exact j_out j_neq (by decide) rfl (fun _ h => by cases h) rfl

end K15
