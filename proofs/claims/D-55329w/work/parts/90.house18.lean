section K18
variable {l : Launch} {G : j_G} {M : j_M} {W : jWt} {A : Nat → Nat} {H : HV}
theorem X1_leaves_m (hH : HAt G W M A H) (hG : jGd G W) (hx16_ : ∀ x, x ∈ hs H → x < 16) (hOK_ : hOK H) (hCO_ : hCO H) (hCB_ : hCB H) {c : Nat} (hc : c < 8) : JM l G 8 yX1_leaves wX1_leaves [.ref (A 0), .int (nI c)] M (hQ (hLeaveNot H c) M (fun v M' => ∃ b, b < hn H ∧ H.2.1 0 c = nI b ∧ v = some (.int (nI b)) ∧ hTo G W M A H 1 5 (fun m => hGoes H b c 3 m) M')) := by
  refine JM.of pn_X1 (Nat.le_of_ble_eq_true rfl) (hH.wf.1) ?_
  show JW l G 8 YX1_leaves _ 0 [(0, .ref (A 0)), (1, .int (nI c))] [] M
  refine j_aload_n dX1_leaves_0 rfl rfl ?_
  refine j_get dX1_leaves_1 fd_X1_30_1 hH.house rfl ?_
  refine j_iload_n dX1_leaves_4 rfl ?_
  refine j_iald (j := c) dX1_leaves_5 hH.cells (by decide) rfl (by omega) (by omega) ?_
  refine j_istore_n dX1_leaves_6 (by decide) rfl ?_
  refine j_iload_n dX1_leaves_7 rfl ?_
  refine j_bipush (v := (-15)) dX1_leaves_8 (by decide) ?_
  refine j_icmp_ne (tgt := 17) dX1_leaves_10 (by decide) (fun c10 => ?_) (fun c10 => ?_)
  · refine j_iconst (v := 0) dX1_leaves_17 (by decide) ?_
    refine j_bipush (v := 7) dX1_leaves_18 (by decide) ?_
    refine j_iload_n dX1_leaves_20 rfl ?_
    refine j_callSN (X0_refuse_no hH.wf 7 (nI c)) dX1_leaves_21 mt_X0_refuse q1075 q1076 cd_X0_refuse (Nat.le_of_ble_eq_true rfl) rfl rfl (Nat.le_of_ble_eq_true rfl) (jk_n ?_) jx_n
    obtain ⟨b, hbn, eb_⟩ := (hCO_ c hc).resolve_left c10
    refine j_aload_n dX1_leaves_24 rfl rfl ?_
    refine j_aload_n dX1_leaves_25 rfl rfl ?_
    refine j_get dX1_leaves_26 fd_X1_14_1 hH.house rfl ?_
    refine j_iload_n dX1_leaves_29 rfl ?_
    rw [eb_]
    refine j_callV (hH.get (b := b) hbn) dX1_leaves_30 mt_J2_get q1162 q518 q519 hH.al (by decide) rfl cd_J2_get (Nat.le_of_ble_eq_true rfl) rfl rfl (Nat.le_of_ble_eq_true rfl) (jk_v ?_) jx_v
    refine j_chk dX1_leaves_33 (hH.bro hbn) (by decide) rfl q857 (Or.inl rfl) ?_
    refine j_iconst (v := 3) dX1_leaves_36 (by decide) ?_
    refine j_callV (X1_goes_m hH hG hx16_ hbn hc (hOK_ b hbn).1 (hCB_ c b hc hbn eb_) 3) dX1_leaves_37 mt_X1_goes q1427 q1429 qs17 hH.house (by decide) rfl cd_X1_goes (Nat.le_of_ble_eq_true rfl) rfl rfl (Nat.le_of_ble_eq_true rfl) (jk_r (fun v_ M9_ hp_ => ?_)) jx_r
    obtain ⟨rfl, hp2_⟩ := hp_
    show JW _ _ _ _ _ _ _ [] M9_
    refine j_iload_n dX1_leaves_40 rfl ?_
    exact j_ireturn dX1_leaves_41 rfl (hQ_ok (by unfold hLeaveNot; rw [if_neg c10]) ⟨b, hbn, (by first | exact eb_ | rfl), rfl, hp2_⟩)
  · refine j_iconst (v := 1) dX1_leaves_13 (by decide) ?_
    refine j_goto (tgt := 18) dX1_leaves_14 (by decide) ?_
    refine j_bipush (v := 7) dX1_leaves_18 (by decide) ?_
    refine j_iload_n dX1_leaves_20 rfl ?_
    refine j_callSN (X0_refuse_yes hH.wf hG 7 (nI c)) dX1_leaves_21 mt_X0_refuse q1075 q1076 cd_X0_refuse (Nat.le_of_ble_eq_true rfl) rfl rfl (Nat.le_of_ble_eq_true rfl) jk_q (jx_q ?_)
    exact j_out j_neq (by decide) rfl (fun _ h => by cases h) (hQ_no (by unfold hLeaveNot; rw [if_pos c10]))

end K18
