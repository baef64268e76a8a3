section K17
variable {l : Launch} {G : j_G} {M : j_M} {W : jWt} {A : Nat → Nat} {H : HV}
theorem X1_gives_m (hH : HAt G W M A H) (hG : jGd G W) {b w : Nat} (hbn : b < hn H) (hwn : w < hn H) : JM l G 6 yX1_gives wX1_gives [.ref (A 0), .int (nI b), .int (nI w)] M (hQ (hGivesNot H b w) M (fun v M' => v = some (.int (hVoices (hGives H b w) w)) ∧ HAt G W M' A (hGives H b w) ∧ jFr G (hF A H) M M' 1 4)) := by
  refine JM.of pn_X1 (Nat.le_of_ble_eq_true rfl) (hH.wf.1) ?_
  show JW l G 6 YX1_gives _ 0 [(0, .ref (A 0)), (1, .int (nI b)), (2, .int (nI w))] [] M
  refine j_aload_n dX1_gives_0 rfl rfl ?_
  refine j_get dX1_gives_1 fd_X1_14_1 hH.house rfl ?_
  refine j_iload_n dX1_gives_4 rfl ?_
  refine j_callV (hH.get (b := b) hbn) dX1_gives_5 mt_J2_get q1162 q518 q519 hH.al (by decide) rfl cd_J2_get (Nat.le_of_ble_eq_true rfl) rfl rfl (Nat.le_of_ble_eq_true rfl) (jk_v ?_) jx_v
  refine j_chk dX1_gives_8 (hH.bro hbn) (by decide) rfl q857 (Or.inl rfl) ?_
  refine j_astore_n dX1_gives_11 rfl (by decide) rfl ?_
  refine j_aload_n dX1_gives_12 rfl rfl ?_
  by_cases h3_ : hb H b 3 = 1
  · refine j_callV (X3_checkCell_no hH.wf (hH.bro hbn) h3_) dX1_gives_13 mt_X3_checkCell q1285 q1286 q1287 (hH.bro hbn) (by decide) rfl cd_X3_checkCell (Nat.le_of_ble_eq_true rfl) rfl rfl (Nat.le_of_ble_eq_true rfl) (jk_n ?_) jx_n
    refine j_aload_n dX1_gives_16 rfl rfl ?_
    refine j_get dX1_gives_17 fd_X1_161_3 (hH.bro hbn) rfl ?_
    refine j_if_le (tgt := 27) dX1_gives_20 (by decide) (fun c20 => ?_) (fun c20 => ?_)
    · refine j_iconst (v := 0) dX1_gives_27 (by decide) ?_
      refine j_iconst (v := 4) dX1_gives_28 (by decide) ?_
      refine j_aload_n dX1_gives_29 rfl rfl ?_
      refine j_get dX1_gives_30 fd_X1_161_3 (hH.bro hbn) rfl ?_
      refine j_callSN (X0_refuse_no hH.wf 4 (hb H b 6)) dX1_gives_33 mt_X0_refuse q1075 q1076 cd_X0_refuse (Nat.le_of_ble_eq_true rfl) rfl rfl (Nat.le_of_ble_eq_true rfl) (jk_n ?_) jx_n
      refine j_aload_n dX1_gives_36 rfl rfl ?_
      refine j_get dX1_gives_37 fd_X1_14_1 hH.house rfl ?_
      refine j_iload_n dX1_gives_40 rfl ?_
      refine j_callV (hH.get (b := w) hwn) dX1_gives_41 mt_J2_get q1162 q518 q519 hH.al (by decide) rfl cd_J2_get (Nat.le_of_ble_eq_true rfl) rfl rfl (Nat.le_of_ble_eq_true rfl) (jk_v ?_) jx_v
      refine j_chk dX1_gives_44 (hH.bro hwn) (by decide) rfl q857 (Or.inl rfl) ?_
      by_cases h4_ : hb H w 3 = 0
      · refine j_callV (X3_checkWaits_no hH.wf (hH.bro hwn) h4_) dX1_gives_47 mt_X3_checkWaits q1163 q1164 q1165 (hH.bro hwn) (by decide) rfl cd_X3_checkWaits (Nat.le_of_ble_eq_true rfl) rfl rfl (Nat.le_of_ble_eq_true rfl) (jk_n ?_) jx_n
        refine j_aload_n dX1_gives_50 rfl rfl ?_
        refine j_iload_n dX1_gives_51 rfl ?_
        refine j_put_ dX1_gives_52 fd_X1_133_3 cl_3 (fun r hr => ⟨(ft_3_8 r hr).1, Or.inl (ft_3_8 r hr).2.1⟩) (hH.bro hbn) (Or.inr (by decide)) rfl rfl (Nat.le_of_ble_eq_true rfl) ?_
        have hX6_ := (hH.setb' (b := b) (f := (va_up (H.2.1 (2 + b)) 8 (nI w))) (e := .inr (3, [.int (hb H b 0), .int (hb H b 1), .int (hb H b 2), .int (hb H b 3), .int (hb H b 4), .int (hb H b 5), .int (hb H b 6), .int (hb H b 7), .int (nI w), .ref (A (23 + b))])) hbn rfl)
        obtain ⟨N6_, hN6_⟩ : ∃ X : j_M, X = (j_put M (A (7 + b)) (.inr (3, [.int (hb H b 0), .int (hb H b 1), .int (hb H b 2), .int (hb H b 3), .int (hb H b 4), .int (hb H b 5), .int (hb H b 6), .int (hb H b 7), .int (nI w), .ref (A (23 + b))]))) := ⟨_, rfl⟩
        rw [← hN6_] at hX6_
        refine j_mem (M' := N6_) hN6_ ?_
        refine j_aload_n dX1_gives_55 rfl rfl ?_
        refine j_iload_n dX1_gives_56 rfl ?_
        refine j_callV (X1_voices_m hX6_.1 (b := w) hwn) dX1_gives_57 mt_X1_voices q1289 q1290 q1291 hX6_.1.house (by decide) rfl cd_X1_voices (Nat.le_of_ble_eq_true rfl) rfl rfl (Nat.le_of_ble_eq_true rfl) (jk_r (fun v_ M_ hp_ => ?_)) jx_r
        obtain ⟨rfl, hX7_⟩ := hp_
        obtain ⟨N7_, hN7_⟩ : ∃ X : j_M, X = M_ := ⟨_, rfl⟩
        subst hN7_
        show JW _ _ _ _ _ _ _ [.int (hVoices (hGives H b w) w)] N7_
        have hY7_ := hX6_.1.ex hX7_
        exact j_ireturn dX1_gives_60 rfl (hQ_ok (by unfold hGivesNot; rw [if_pos h3_, if_neg (Int32.not_lt.mpr c20), if_pos h4_]) ⟨rfl, hY7_, (((jFr.refl hH.wf : jFr G (hF A H) M M 0 0).trans hX6_.2 (fun _ _ h => h) (fun _ _ h => h) (Nat.le_refl _) (Nat.le_refl _)).trans hX7_ (fun _ _ h => h) (fun _ _ h => False.elim h) (by decide) (by decide) : jFr G (hF A H) M N7_ 1 4)⟩)
      · refine j_callV (X3_checkWaits_yes hH.wf (hH.bro hwn) hG h4_) dX1_gives_47 mt_X3_checkWaits q1163 q1164 q1165 (hH.bro hwn) (by decide) rfl cd_X3_checkWaits (Nat.le_of_ble_eq_true rfl) rfl rfl (Nat.le_of_ble_eq_true rfl) jk_q (jx_q ?_)
        exact j_out j_neq (by decide) rfl (fun _ h => by cases h) (hQ_no (by unfold hGivesNot; rw [if_pos h3_, if_neg (Int32.not_lt.mpr c20), if_neg h4_]))
    · refine j_iconst (v := 1) dX1_gives_23 (by decide) ?_
      refine j_goto (tgt := 28) dX1_gives_24 (by decide) ?_
      refine j_iconst (v := 4) dX1_gives_28 (by decide) ?_
      refine j_aload_n dX1_gives_29 rfl rfl ?_
      refine j_get dX1_gives_30 fd_X1_161_3 (hH.bro hbn) rfl ?_
      refine j_callSN (X0_refuse_yes hH.wf hG 4 (hb H b 6)) dX1_gives_33 mt_X0_refuse q1075 q1076 cd_X0_refuse (Nat.le_of_ble_eq_true rfl) rfl rfl (Nat.le_of_ble_eq_true rfl) jk_q (jx_q ?_)
      exact j_out j_neq (by decide) rfl (fun _ h => by cases h) (hQ_no (by unfold hGivesNot; rw [if_pos h3_, if_pos (Int32.not_le.mp c20)]))
  · refine j_callV (X3_checkCell_yes hH.wf (hH.bro hbn) hG h3_) dX1_gives_13 mt_X3_checkCell q1285 q1286 q1287 (hH.bro hbn) (by decide) rfl cd_X3_checkCell (Nat.le_of_ble_eq_true rfl) rfl rfl (Nat.le_of_ble_eq_true rfl) jk_q (jx_q ?_)
    exact j_out j_neq (by decide) rfl (fun _ h => by cases h) (hQ_no (by unfold hGivesNot; rw [if_neg h3_]))

end K17
