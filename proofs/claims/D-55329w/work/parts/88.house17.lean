section K17
variable {l : Launch} {G : j_G} {M : j_M} {W : jWt} {A : Nat → Nat} {H : HV}
theorem X1_gives_m (hH : HAt G W M A H) (hG : jGd G W) {b w : Nat} (hbn : b < hn H) (hwn : w < hn H) : JM l G 6 yX1_gives wX1_gives [.ref (A 0), .int (nI b), .int (nI w)] M (hQ (hGivesNot H b w) M (fun v M' => v = some (.int (hVoices (hGives H b w) w)) ∧ HAt G W M' A (hGives H b w) ∧ jFr G (hF A H) M M' 1 4)) := by
  refine JM.of pn_X1 (Nat.le_of_ble_eq_true rfl) (hH.wf.1) ?_
  show JW l G 6 YX1_gives _ 0 [(0, .ref (A 0)), (1, .int (nI b)), (2, .int (nI w))] [] M
  refine j_aload_n dX1_gives_0 rfl rfl ?_
  refine j_get dX1_gives_1 fd_X1_14_1 hH.house rfl ?_
  refine j_iload_n dX1_gives_4 rfl ?_
  refine j_callV (hH.get (b := b) hbn) dX1_gives_5 mt_J2_get q1162 q518 q519 hH.al (by decide) rfl cd_J2_get (Nat.le_of_ble_eq_true rfl) rfl rfl (Nat.le_of_ble_eq_true rfl) (jk_v ?_) jx_v
  refine j_chk dX1_gives_8 (hH.bro hbn) (by decide) rfl q857 (Or.inl rfl) ?_
  refine j_astore_n dX1_gives_11 rfl (by decide) rfl ?_
  refine j_aload_n dX1_gives_12 rfl rfl ?_
  by_cases h3_ : hb H b 3 = 1
  · refine j_callV (X3_checkCell_no hH.wf (hH.bro hbn) h3_) dX1_gives_13 mt_X3_checkCell q1285 q1286 q1287 (hH.bro hbn) (by decide) rfl cd_X3_checkCell (Nat.le_of_ble_eq_true rfl) rfl rfl (Nat.le_of_ble_eq_true rfl) (jk_n ?_) jx_n
    refine j_aload_n dX1_gives_16 rfl rfl ?_
    refine j_get dX1_gives_17 fd_X1_161_3 (hH.bro hbn) rfl ?_
    refine j_if_le (tgt := 27) dX1_gives_20 (by decide) (fun c20 => ?_) (fun c20 => ?_)
    · refine j_iconst (v := 0) dX1_gives_27 (by decide) ?_
      refine j_iconst (v := 4) dX1_gives_28 (by decide) ?_
      refine j_aload_n dX1_gives_29 rfl rfl ?_
      refine j_get dX1_gives_30 fd_X1_161_3 (hH.bro hbn) rfl ?_
      refine j_callSN (X0_refuse_no hH.wf 4 (hb H b 6)) dX1_gives_33 mt_X0_refuse q1075 q1076 cd_X0_refuse (Nat.le_of_ble_eq_true rfl) rfl rfl (Nat.le_of_ble_eq_true rfl) (jk_n ?_) jx_n
      refine j_aload_n dX1_gives_36 rfl rfl ?_
      refine j_get dX1_gives_37 fd_X1_14_1 hH.house rfl ?_
      refine j_iload_n dX1_gives_40 rfl ?_
      refine j_callV (hH.get (b := w) hwn) dX1_gives_41 mt_J2_get q1162 q518 q519 hH.al (by decide) rfl cd_J2_get (Nat.le_of_ble_eq_true rfl) rfl rfl (Nat.le_of_ble_eq_true rfl) (jk_v ?_) jx_v
      refine j_chk dX1_gives_44 (hH.bro hwn) (by decide) rfl q857 (Or.inl rfl) ?_
      by_cases h4_ : hb H w 3 = 0
      · refine j_callV (X3_checkWaits_no hH.wf (hH.bro hwn) h4_) dX1_gives_47 mt_X3_checkWaits q1163 q1164 q1165 (hH.bro hwn) (by decide) rfl cd_X3_checkWaits (Nat.le_of_ble_eq_true rfl) rfl rfl (Nat.le_of_ble_eq_true rfl) (jk_n ?_) jx_n
        refine j_aload_n dX1_gives_50 rfl rfl ?_
        refine j_iload_n dX1_gives_51 rfl ?_
        refine j_put_ dX1_gives_52 fd_X1_133_3 cl_3 (fun r hr => ⟨(ft_3_8 r hr).1, Or.inl (ft_3_8 r hr).2.1⟩) (hH.bro hbn) (Or.inr (by decide)) rfl rfl (Nat.le_of_ble_eq_true rfl) ?_
        have hX6_ := (hH.setb' (b := b) (f := (va_up (H.2.1 (2 + b)) 8 (nI w))) (e := .inr (3, [.int (hb H b 0), .int (hb H b 1), .int (hb H b 2), .int (hb H b 3), .int (hb H b 4), .int (hb H b 5), .int (hb H b 6), .int (hb H b 7), .int (nI w), .ref (A (23 + b))])) hbn rfl)
        obtain ⟨N6_, hN6_⟩ : ∃ X : j_M, X = (j_put M (A (7 + b)) (.inr (3, [.int (hb H b 0), .int (hb H b 1), .int (hb H b 2), .int (hb H b 3), .int (hb H b 4), .int (hb H b 5), .int (hb H b 6), .int (hb H b 7), .int (nI w), .ref (A (23 + b))]))) := ⟨_, rfl⟩
        rw [← hN6_] at hX6_
        refine j_mem (M' := N6_) hN6_ ?_
        refine j_aload_n dX1_gives_55 rfl rfl ?_
        refine j_iload_n dX1_gives_56 rfl ?_
        refine j_callV (X1_voices_m hX6_.1 (b := w) hwn) dX1_gives_57 mt_X1_voices q1289 q1290 q1291 hX6_.1.house (by decide) rfl cd_X1_voices (Nat.le_of_ble_eq_true rfl) rfl rfl (Nat.le_of_ble_eq_true rfl) (jk_r (fun v_ M_ hp_ => ?_)) jx_r
        obtain ⟨rfl, hX7_⟩ := hp_
        obtain ⟨N7_, hN7_⟩ : ∃ X : j_M, X = M_ := ⟨_, rfl⟩
        subst hN7_
        show JW _ _ _ _ _ _ _ [.int (hVoices (hGives H b w) w)] N7_
        have hY7_ := hX6_.1.ex hX7_
        exact j_ireturn dX1_gives_60 rfl (hQ_ok (by unfold hGivesNot; rw [if_pos h3_, if_neg (Int32.not_lt.mpr c20), if_pos h4_]) ⟨rfl, hY7_, (((jFr.refl hH.wf : jFr G (hF A H) M M 0 0).trans hX6_.2 (fun _ _ h => h) (fun _ _ h => h) (Nat.le_refl _) (Nat.le_refl _)).trans hX7_ (fun _ _ h => h) (fun _ _ h => False.elim h) (by decide) (by decide) : jFr G (hF A H) M N7_ 1 4)⟩)
      · refine j_callV (X3_checkWaits_yes hH.wf (hH.bro hwn) hG h4_) dX1_gives_47 mt_X3_checkWaits q1163 q1164 q1165 (hH.bro hwn) (by decide) rfl cd_X3_checkWaits (Nat.le_of_ble_eq_true rfl) rfl rfl (Nat.le_of_ble_eq_true rfl) jk_q (jx_q ?_)
        exact j_out j_neq (by decide) rfl (fun _ h => by cases h) (hQ_no (by unfold hGivesNot; rw [if_pos h3_, if_neg (Int32.not_lt.mpr c20), if_neg h4_]))
    · refine j_iconst (v := 1) dX1_gives_23 (by decide) ?_
      refine j_goto (tgt := 28) dX1_gives_24 (by decide) ?_
      refine j_iconst (v := 4) dX1_gives_28 (by decide) ?_
      refine j_aload_n dX1_gives_29 rfl rfl ?_
      refine j_get dX1_gives_30 fd_X1_161_3 (hH.bro hbn) rfl ?_
      refine j_callSN (X0_refuse_yes hH.wf hG 4 (hb H b 6)) dX1_gives_33 mt_X0_refuse q1075 q1076 cd_X0_refuse (Nat.le_of_ble_eq_true rfl) rfl rfl (Nat.le_of_ble_eq_true rfl) jk_q (jx_q ?_)
      exact j_out j_neq (by decide) rfl (fun _ h => by cases h) (hQ_no (by unfold hGivesNot; rw [if_pos h3_, if_pos (Int32.not_le.mp c20)]))
  · refine j_callV (X3_checkCell_yes hH.wf (hH.bro hbn) hG h3_) dX1_gives_13 mt_X3_checkCell q1285 q1286 q1287 (hH.bro hbn) (by decide) rfl cd_X3_checkCell (Nat.le_of_ble_eq_true rfl) rfl rfl (Nat.le_of_ble_eq_true rfl) jk_q (jx_q ?_)
    exact j_out j_neq (by decide) rfl (fun _ h => by cases h) (hQ_no (by unfold hGivesNot; rw [if_neg h3_]))

theorem X1_pardoned_m (hH : HAt G W M A H) (hG : jGd G W) {b : Nat} (hbn : b < hn H) : JM l G 6 yX1_pardoned wX1_pardoned [.ref (A 0), .int (nI b)] M (hQ (hPardonNot H b) M (fun v M' => v = some (.int (hb H b 6)) ∧ HAt G W M' A (hPardon H b) ∧ jFr G (hF A H) M M' 0 0)) := by
  refine JM.of pn_X1 (Nat.le_of_ble_eq_true rfl) (hH.wf.1) ?_
  show JW l G 6 YX1_pardoned _ 0 [(0, .ref (A 0)), (1, .int (nI b))] [] M
  refine j_aload_n dX1_pardoned_0 rfl rfl ?_
  refine j_get dX1_pardoned_1 fd_X1_14_1 hH.house rfl ?_
  refine j_iload_n dX1_pardoned_4 rfl ?_
  refine j_callV (hH.get (b := b) hbn) dX1_pardoned_5 mt_J2_get q1162 q518 q519 hH.al (by decide) rfl cd_J2_get (Nat.le_of_ble_eq_true rfl) rfl rfl (Nat.le_of_ble_eq_true rfl) (jk_v ?_) jx_v
  refine j_chk dX1_pardoned_8 (hH.bro hbn) (by decide) rfl q857 (Or.inl rfl) ?_
  refine j_astore_n dX1_pardoned_11 rfl (by decide) rfl ?_
  refine j_aload_n dX1_pardoned_12 rfl rfl ?_
  by_cases h3_ : hb H b 3 = 1
  · refine j_callV (X3_checkCell_no hH.wf (hH.bro hbn) h3_) dX1_pardoned_13 mt_X3_checkCell q1285 q1286 q1287 (hH.bro hbn) (by decide) rfl cd_X3_checkCell (Nat.le_of_ble_eq_true rfl) rfl rfl (Nat.le_of_ble_eq_true rfl) (jk_n ?_) jx_n
    refine j_aload_n dX1_pardoned_16 rfl rfl ?_
    refine j_get dX1_pardoned_17 fd_X1_161_3 (hH.bro hbn) rfl ?_
    refine j_if_ne (tgt := 27) dX1_pardoned_20 (by decide) (fun c20 => ?_) (fun c20 => ?_)
    · refine j_iconst (v := 0) dX1_pardoned_27 (by decide) ?_
      refine j_bipush (v := 10) dX1_pardoned_28 (by decide) ?_
      refine j_iload_n dX1_pardoned_30 rfl ?_
      refine j_callSN (X0_refuse_no hH.wf 10 (nI b)) dX1_pardoned_31 mt_X0_refuse q1075 q1076 cd_X0_refuse (Nat.le_of_ble_eq_true rfl) rfl rfl (Nat.le_of_ble_eq_true rfl) (jk_n ?_) jx_n
      refine j_aload_n dX1_pardoned_34 rfl rfl ?_
      refine j_get dX1_pardoned_35 fd_X1_109_1 hH.house rfl ?_
      refine j_iconst (v := 2) dX1_pardoned_38 (by decide) ?_
      refine j_icmp_ne (tgt := 46) dX1_pardoned_39 (by decide) (fun c39 => ?_) (fun c39 => ?_)
      · refine j_iconst (v := 0) dX1_pardoned_46 (by decide) ?_
        refine j_bipush (v := 9) dX1_pardoned_47 (by decide) ?_
        refine j_iconst (v := 2) dX1_pardoned_49 (by decide) ?_
        refine j_callSN (X0_refuse_no hH.wf 9 2) dX1_pardoned_50 mt_X0_refuse q1075 q1076 cd_X0_refuse (Nat.le_of_ble_eq_true rfl) rfl rfl (Nat.le_of_ble_eq_true rfl) (jk_n ?_) jx_n
        refine j_aload_n dX1_pardoned_53 rfl rfl ?_
        refine j_get dX1_pardoned_54 fd_X1_161_3 (hH.bro hbn) rfl ?_
        refine j_istore_n dX1_pardoned_57 (by decide) rfl ?_
        refine j_aload_n dX1_pardoned_58 rfl rfl ?_
        refine j_iconst (v := 0) dX1_pardoned_59 (by decide) ?_
        refine j_put_ dX1_pardoned_60 fd_X1_161_3 cl_3 (fun r hr => ⟨(ft_3_6 r hr).1, Or.inl (ft_3_6 r hr).2.1⟩) (hH.bro hbn) (Or.inr (by decide)) rfl rfl (Nat.le_of_ble_eq_true rfl) ?_
        have hX8_ := (hH.setb' (b := b) (f := (va_up (H.2.1 (2 + b)) 6 0)) (e := .inr (3, [.int (hb H b 0), .int (hb H b 1), .int (hb H b 2), .int (hb H b 3), .int (hb H b 4), .int (hb H b 5), .int 0, .int (hb H b 7), .int (hb H b 8), .ref (A (23 + b))])) hbn rfl)
        obtain ⟨N8_, hN8_⟩ : ∃ X : j_M, X = (j_put M (A (7 + b)) (.inr (3, [.int (hb H b 0), .int (hb H b 1), .int (hb H b 2), .int (hb H b 3), .int (hb H b 4), .int (hb H b 5), .int 0, .int (hb H b 7), .int (hb H b 8), .ref (A (23 + b))]))) := ⟨_, rfl⟩
        rw [← hN8_] at hX8_
        refine j_mem (M' := N8_) hN8_ ?_
        refine j_aload_n dX1_pardoned_63 rfl rfl ?_
        refine j_dup dX1_pardoned_64 rfl ?_
        refine j_get dX1_pardoned_65 fd_X1_109_1 hX8_.1.house rfl ?_
        refine j_iconst (v := 1) dX1_pardoned_68 (by decide) ?_
        refine j_iadd dX1_pardoned_69 ?_
        refine j_put_ dX1_pardoned_70 fd_X1_109_1 cl_1 (fun r hr => ⟨(ft_1_12 r hr).1, Or.inl (ft_1_12 r hr).2.1⟩) hX8_.1.house (Or.inr (by decide)) rfl rfl (Nat.le_of_ble_eq_true rfl) ?_
        have hX9_ := (hX8_.1.setz (k := 12) (v := (((hsa H (2 + b) (va_up (H.2.1 (2 + b)) 6 0)).1 12) + 1)) (e := .inr (1, [.ref (A 1), .ref (A 3), .ref (A 4), .ref (A 5), .ref (A 6), .int ((hsa H (2 + b) (va_up (H.2.1 (2 + b)) 6 0)).1 5), .int ((hsa H (2 + b) (va_up (H.2.1 (2 + b)) 6 0)).1 6), .int ((hsa H (2 + b) (va_up (H.2.1 (2 + b)) 6 0)).1 7), .int ((hsa H (2 + b) (va_up (H.2.1 (2 + b)) 6 0)).1 8), .int ((hsa H (2 + b) (va_up (H.2.1 (2 + b)) 6 0)).1 9), .int ((hsa H (2 + b) (va_up (H.2.1 (2 + b)) 6 0)).1 10), .int ((hsa H (2 + b) (va_up (H.2.1 (2 + b)) 6 0)).1 11), .int (((hsa H (2 + b) (va_up (H.2.1 (2 + b)) 6 0)).1 12) + 1)])) (by decide) rfl)
        obtain ⟨N9_, hN9_⟩ : ∃ X : j_M, X = (j_put N8_ (A 0) (.inr (1, [.ref (A 1), .ref (A 3), .ref (A 4), .ref (A 5), .ref (A 6), .int ((hsa H (2 + b) (va_up (H.2.1 (2 + b)) 6 0)).1 5), .int ((hsa H (2 + b) (va_up (H.2.1 (2 + b)) 6 0)).1 6), .int ((hsa H (2 + b) (va_up (H.2.1 (2 + b)) 6 0)).1 7), .int ((hsa H (2 + b) (va_up (H.2.1 (2 + b)) 6 0)).1 8), .int ((hsa H (2 + b) (va_up (H.2.1 (2 + b)) 6 0)).1 9), .int ((hsa H (2 + b) (va_up (H.2.1 (2 + b)) 6 0)).1 10), .int ((hsa H (2 + b) (va_up (H.2.1 (2 + b)) 6 0)).1 11), .int (((hsa H (2 + b) (va_up (H.2.1 (2 + b)) 6 0)).1 12) + 1)]))) := ⟨_, rfl⟩
        rw [← hN9_] at hX9_
        refine j_mem (M' := N9_) hN9_ ?_
        refine j_iload_n dX1_pardoned_73 rfl ?_
        exact j_ireturn dX1_pardoned_74 rfl (hQ_ok (by unfold hPardonNot; rw [if_pos h3_, if_neg c20, if_neg c39]) ⟨rfl, hX9_.1, (((jFr.refl hH.wf : jFr G (hF A H) M M 0 0).trans hX8_.2 (fun _ _ h => h) (fun _ _ h => h) (Nat.le_refl _) (Nat.le_refl _)).trans hX9_.2 (fun _ _ h => h) (fun _ _ h => h) (Nat.le_refl _) (Nat.le_refl _))⟩)
      · refine j_iconst (v := 1) dX1_pardoned_42 (by decide) ?_
        refine j_goto (tgt := 47) dX1_pardoned_43 (by decide) ?_
        refine j_bipush (v := 9) dX1_pardoned_47 (by decide) ?_
        refine j_iconst (v := 2) dX1_pardoned_49 (by decide) ?_
        refine j_callSN (X0_refuse_yes hH.wf hG 9 2) dX1_pardoned_50 mt_X0_refuse q1075 q1076 cd_X0_refuse (Nat.le_of_ble_eq_true rfl) rfl rfl (Nat.le_of_ble_eq_true rfl) jk_q (jx_q ?_)
        exact j_out j_neq (by decide) rfl (fun _ h => by cases h) (hQ_no (by unfold hPardonNot; rw [if_pos h3_, if_neg c20, if_pos c39]))
    · refine j_iconst (v := 1) dX1_pardoned_23 (by decide) ?_
      refine j_goto (tgt := 28) dX1_pardoned_24 (by decide) ?_
      refine j_bipush (v := 10) dX1_pardoned_28 (by decide) ?_
      refine j_iload_n dX1_pardoned_30 rfl ?_
      refine j_callSN (X0_refuse_yes hH.wf hG 10 (nI b)) dX1_pardoned_31 mt_X0_refuse q1075 q1076 cd_X0_refuse (Nat.le_of_ble_eq_true rfl) rfl rfl (Nat.le_of_ble_eq_true rfl) jk_q (jx_q ?_)
      exact j_out j_neq (by decide) rfl (fun _ h => by cases h) (hQ_no (by unfold hPardonNot; rw [if_pos h3_, if_pos c20]))
  · refine j_callV (X3_checkCell_yes hH.wf (hH.bro hbn) hG h3_) dX1_pardoned_13 mt_X3_checkCell q1285 q1286 q1287 (hH.bro hbn) (by decide) rfl cd_X3_checkCell (Nat.le_of_ble_eq_true rfl) rfl rfl (Nat.le_of_ble_eq_true rfl) jk_q (jx_q ?_)
    exact j_out j_neq (by decide) rfl (fun _ h => by cases h) (hQ_no (by unfold hPardonNot; rw [if_neg h3_]))

theorem X1_tellsFeast_m (hH : HAt G W M A H) (hG : jGd G W) {w : Nat} (hw : w < 52) (p : Int32) : JM l G 6 yX1_tellsFeast wX1_tellsFeast [.ref (A 0), .int (nI w), .int p] M (hQ (hFeastNot H w) M (fun v M' => v = some (.int (hFeasts (hTellsF H w p))) ∧ HAt G W M' A (hTellsF H w p) ∧ jFr G (hF A H) M M' 0 0)) := by
  refine JM.of pn_X1 (Nat.le_of_ble_eq_true rfl) (hH.wf.1) ?_
  show JW l G 6 YX1_tellsFeast _ 0 [(0, .ref (A 0)), (1, .int (nI w)), (2, .int p)] [] M
  refine j_aload_n dX1_tellsFeast_0 rfl rfl ?_
  refine j_get dX1_tellsFeast_1 fd_X1_34_1 hH.house rfl ?_
  refine j_iload_n dX1_tellsFeast_4 rfl ?_
  refine j_iald (j := w) dX1_tellsFeast_5 hH.feasts (by decide) rfl (by omega) (by omega) ?_
  refine j_if_ne (tgt := 22) dX1_tellsFeast_6 (by decide) (fun c6 => ?_) (fun c6 => ?_)
  · refine j_iconst (v := 0) dX1_tellsFeast_22 (by decide) ?_
    refine j_bipush (v := 8) dX1_tellsFeast_23 (by decide) ?_
    refine j_bipush (v := 6) dX1_tellsFeast_25 (by decide) ?_
    refine j_callSN (X0_refuse_no hH.wf 8 6) dX1_tellsFeast_27 mt_X0_refuse q1075 q1076 cd_X0_refuse (Nat.le_of_ble_eq_true rfl) rfl rfl (Nat.le_of_ble_eq_true rfl) (jk_n ?_) jx_n
    refine j_aload_n dX1_tellsFeast_30 rfl rfl ?_
    refine j_get dX1_tellsFeast_31 fd_X1_34_1 hH.house rfl ?_
    refine j_iload_n dX1_tellsFeast_34 rfl ?_
    refine j_iload_n dX1_tellsFeast_35 rfl ?_
    refine j_iast (j := w) dX1_tellsFeast_36 hH.feasts rfl (by omega) (by omega) ?_
    have hX10_ := (hH.setf (f := (va_up (H.2.1 1) w p)) (e := .inl (0, 52, .inl (va_up (H.2.1 1) w p))) rfl)
    obtain ⟨N10_, hN10_⟩ : ∃ X : j_M, X = (j_put M (A 6) (.inl (0, 52, .inl (va_up (H.2.1 1) w p)))) := ⟨_, rfl⟩
    rw [← hN10_] at hX10_
    refine j_mem (M' := N10_) hN10_ ?_
    refine j_aload_n dX1_tellsFeast_37 rfl rfl ?_
    refine j_callV (X1_feasts_m hX10_.1) dX1_tellsFeast_38 mt_X1_feasts q1442 q1443 q1444 hX10_.1.house (by decide) rfl cd_X1_feasts (Nat.le_of_ble_eq_true rfl) rfl rfl (Nat.le_of_ble_eq_true rfl) (jk_v ?_) jx_v
    exact j_ireturn dX1_tellsFeast_41 rfl (hQ_ok (by unfold hFeastNot; rw [if_neg (fun h => c6 h.1)]) ⟨rfl, hX10_.1, ((jFr.refl hH.wf : jFr G (hF A H) M M 0 0).trans hX10_.2 (fun _ _ h => h) (fun _ _ h => h) (Nat.le_refl _) (Nat.le_refl _))⟩)
  · refine j_aload_n dX1_tellsFeast_9 rfl rfl ?_
    refine j_callV (X1_feasts_m hH) dX1_tellsFeast_10 mt_X1_feasts q1442 q1443 q1444 hH.house (by decide) rfl cd_X1_feasts (Nat.le_of_ble_eq_true rfl) rfl rfl (Nat.le_of_ble_eq_true rfl) (jk_v ?_) jx_v
    refine j_bipush (v := 6) dX1_tellsFeast_13 (by decide) ?_
    refine j_icmp_ne (tgt := 22) dX1_tellsFeast_15 (by decide) (fun c15 => ?_) (fun c15 => ?_)
    · refine j_iconst (v := 0) dX1_tellsFeast_22 (by decide) ?_
      refine j_bipush (v := 8) dX1_tellsFeast_23 (by decide) ?_
      refine j_bipush (v := 6) dX1_tellsFeast_25 (by decide) ?_
      refine j_callSN (X0_refuse_no hH.wf 8 6) dX1_tellsFeast_27 mt_X0_refuse q1075 q1076 cd_X0_refuse (Nat.le_of_ble_eq_true rfl) rfl rfl (Nat.le_of_ble_eq_true rfl) (jk_n ?_) jx_n
      refine j_aload_n dX1_tellsFeast_30 rfl rfl ?_
      refine j_get dX1_tellsFeast_31 fd_X1_34_1 hH.house rfl ?_
      refine j_iload_n dX1_tellsFeast_34 rfl ?_
      refine j_iload_n dX1_tellsFeast_35 rfl ?_
      refine j_iast (j := w) dX1_tellsFeast_36 hH.feasts rfl (by omega) (by omega) ?_
      have hX11_ := (hH.setf (f := (va_up (H.2.1 1) w p)) (e := .inl (0, 52, .inl (va_up (H.2.1 1) w p))) rfl)
      obtain ⟨N11_, hN11_⟩ : ∃ X : j_M, X = (j_put M (A 6) (.inl (0, 52, .inl (va_up (H.2.1 1) w p)))) := ⟨_, rfl⟩
      rw [← hN11_] at hX11_
      refine j_mem (M' := N11_) hN11_ ?_
      refine j_aload_n dX1_tellsFeast_37 rfl rfl ?_
      refine j_callV (X1_feasts_m hX11_.1) dX1_tellsFeast_38 mt_X1_feasts q1442 q1443 q1444 hX11_.1.house (by decide) rfl cd_X1_feasts (Nat.le_of_ble_eq_true rfl) rfl rfl (Nat.le_of_ble_eq_true rfl) (jk_v ?_) jx_v
      exact j_ireturn dX1_tellsFeast_41 rfl (hQ_ok (by unfold hFeastNot; rw [if_neg (fun h => c15 h.2)]) ⟨rfl, hX11_.1, ((jFr.refl hH.wf : jFr G (hF A H) M M 0 0).trans hX11_.2 (fun _ _ h => h) (fun _ _ h => h) (Nat.le_refl _) (Nat.le_refl _))⟩)
    · refine j_iconst (v := 1) dX1_tellsFeast_18 (by decide) ?_
      refine j_goto (tgt := 23) dX1_tellsFeast_19 (by decide) ?_
      refine j_bipush (v := 8) dX1_tellsFeast_23 (by decide) ?_
      refine j_bipush (v := 6) dX1_tellsFeast_25 (by decide) ?_
      refine j_callSN (X0_refuse_yes hH.wf hG 8 6) dX1_tellsFeast_27 mt_X0_refuse q1075 q1076 cd_X0_refuse (Nat.le_of_ble_eq_true rfl) rfl rfl (Nat.le_of_ble_eq_true rfl) jk_q (jx_q ?_)
      exact j_out j_neq (by decide) rfl (fun _ h => by cases h) (hQ_no (by unfold hFeastNot; rw [if_pos ⟨c6, c15⟩]))

end K17
