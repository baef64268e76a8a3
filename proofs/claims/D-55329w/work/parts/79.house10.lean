section K10
variable {l : Launch} {G : j_G} {M : j_M} {W : jWt} {A : Nat → Nat} {H : HV}
theorem X1_feastIsHeld_m (hH : HAt G W M A H) (hCO_ : hCO H) (hWk_ : hWk H) : JM l G 6 yX1_feastIsHeld wX1_feastIsHeld [.ref (A 0)] M (jr (fun v M' => v = some (.int (hFeastIs H).1) ∧ HAt G W M' A (hFeastIs H).2 ∧ jFr G (hF A H) M M' 4 6)) := by
  refine JM.of pn_X1 (Nat.le_of_ble_eq_true rfl) (hH.wf.1) ?_
  show JW l G 6 YX1_feastIsHeld _ 0 [(0, .ref (A 0))] [] M
  obtain ⟨wk, hwk_, ew_⟩ := hWk_
  have eN_ : mN (H.1 6) = wk := by rw [ew_]; exact mN_nI (by omega)
  have hp_ : hFp H = H.2.1 1 wk := by
    show H.2.1 1 (mN (H.1 6)) = _
    rw [eN_]
  refine j_aload_n dX1_feastIsHeld_0 rfl rfl ?_
  refine j_callV (X1_entitledMany_m hH hCO_) dX1_feastIsHeld_1 mt_X1_entitledMany q1504 q1505 q1506 hH.house (by decide) rfl cd_X1_entitledMany (Nat.le_of_ble_eq_true rfl) rfl rfl (Nat.le_of_ble_eq_true rfl) (jk_r (fun v_ M_ hp_ => ?_)) jx_r
  obtain ⟨rfl, hX6_⟩ := hp_
  obtain ⟨N6_, hN6_⟩ : ∃ X : j_M, X = M_ := ⟨_, rfl⟩
  subst hN6_
  show JW _ _ _ _ _ _ _ [.int (hEnt H)] N6_
  have hY6_ := hH.ex hX6_
  refine j_istore_n dX1_feastIsHeld_4 (by decide) rfl ?_
  refine j_aload_n dX1_feastIsHeld_5 rfl rfl ?_
  refine j_get dX1_feastIsHeld_6 fd_X1_34_1 hY6_.house rfl ?_
  refine j_aload_n dX1_feastIsHeld_9 rfl rfl ?_
  refine j_get dX1_feastIsHeld_10 fd_X1_94_1 hY6_.house rfl ?_
  refine j_iald (j := wk) dX1_feastIsHeld_13 hY6_.feasts (by decide) ew_ (by omega) (by decide) ?_
  refine j_if_eq (tgt := 21) dX1_feastIsHeld_14 (by decide) (fun c14 => ?_) (fun c14 => ?_)
  · refine j_iconst (v := 0) dX1_feastIsHeld_21 (by decide) ?_
    exact j_ireturn dX1_feastIsHeld_22 rfl (jr_i ⟨by unfold hFeastIs; first | rw [if_pos (by rw [hp_]; exact c14)] | rw [if_neg (by rw [hp_]; exact c14), if_pos c18], HAt.cast hY6_ (by unfold hFeastIs; first | rw [if_pos (by rw [hp_]; exact c14)] | rw [if_neg (by rw [hp_]; exact c14), if_pos c18]), ((jFr.refl hH.wf : jFr G (hF A H) M M 0 0).trans hX6_ (fun _ _ h => h) (fun _ _ h => False.elim h) (by decide) (by decide) : jFr G (hF A H) M N6_ 2 3).mono (fun _ _ h => h) (by decide) (by decide)⟩)
  · refine j_iload_n dX1_feastIsHeld_17 rfl ?_
    refine j_if_ne (tgt := 23) dX1_feastIsHeld_18 (by decide) (fun c18 => ?_) (fun c18 => ?_)
    · refine j_aload_n dX1_feastIsHeld_23 rfl rfl ?_
      refine j_get dX1_feastIsHeld_24 fd_X1_34_1 hY6_.house rfl ?_
      refine j_aload_n dX1_feastIsHeld_27 rfl rfl ?_
      refine j_get dX1_feastIsHeld_28 fd_X1_94_1 hY6_.house rfl ?_
      refine j_iald (j := wk) dX1_feastIsHeld_31 hY6_.feasts (by decide) ew_ (by omega) (by decide) ?_
      refine j_iload_n dX1_feastIsHeld_32 rfl ?_
      refine j_imul dX1_feastIsHeld_33 ?_
      refine j_aload_n dX1_feastIsHeld_34 rfl rfl ?_
      refine j_get dX1_feastIsHeld_35 fd_X1_37_1 hY6_.house rfl ?_
      refine j_icmp_gt (tgt := 53) dX1_feastIsHeld_38 (by decide) (fun c38 => ?_) (fun c38 => ?_)
      · refine j_aload_n dX1_feastIsHeld_53 rfl rfl ?_
        refine j_get dX1_feastIsHeld_54 fd_X1_37_1 hY6_.house rfl ?_
        refine j_iload_n dX1_feastIsHeld_57 rfl ?_
        refine j_idiv dX1_feastIsHeld_58 c18 ?_
        refine j_istore_n dX1_feastIsHeld_59 (by decide) rfl ?_
        rw [show (((H.1 7) / (hEnt H))) = hEachP H from (by unfold hEachP; rw [hp_]; first | rw [if_neg (Int32.not_le.mpr c38)] | rw [if_pos (Int32.not_lt.mp c38)])]
        refine j_aload_n dX1_feastIsHeld_60 rfl rfl ?_
        have hb0_ := ((jFr.refl hH.wf : jFr G (hF A H) M M 0 0).trans hX6_ (fun _ _ h => h) (fun _ _ h => False.elim h) (by decide) (by decide) : jFr G (hF A H) M N6_ 2 3)
        refine j_callV (X1_inCells_m hY6_) dX1_feastIsHeld_61 mt_X1_inCells q1508 q1509 q1510 hY6_.house (by decide) rfl cd_X1_inCells (Nat.le_of_ble_eq_true rfl) rfl rfl (Nat.le_of_ble_eq_true rfl) (jk_v ?_) jx_v
        obtain ⟨p2_, hp2_⟩ : ∃ q : Nat, q = N6_.2.1 := ⟨_, rfl⟩
        obtain ⟨L2_, hL2_⟩ : ∃ X : j_M, X = j_new N6_ (.inr (7, [.ref (A 0)])) 1 := ⟨_, rfl⟩
        rw [← hp2_, ← hL2_]
        have hA2_ : HAt G W L2_ A H := by rw [hL2_]; exact hY6_.newE
        have hP2_ : L2_.1 p2_ = some (.inr (7, [.ref (A 0)])) := by rw [hL2_, hp2_]; exact j_neq
        have hD2_ : jEx G N6_ L2_ 1 1 := by rw [hL2_]; exact jFr.new hY6_.wf
        refine j_callF (X7_iterator_m hA2_ hP2_) dX1_feastIsHeld_64 mt_X7_iterator q1524 (by decide +kernel) rfl q1327 q1329 hP2_ (by decide) rfl cd_X7_iterator (Nat.le_of_ble_eq_true rfl) rfl rfl (Nat.le_of_ble_eq_true rfl) (jk_v ?_) jx_v
        obtain ⟨it2_, hit2_⟩ : ∃ q : Nat, q = L2_.2.1 := ⟨_, rfl⟩
        obtain ⟨M2_, hM2_⟩ : ∃ X : j_M, X = j_new L2_ (.inr (5, [.int (nI (hNx (H.2.1 0) 0)), .ref p2_])) 2 := ⟨_, rfl⟩
        rw [← hit2_, ← hM2_]
        have hI2_ : M2_.1 it2_ = some (.inr (5, [.int (nI (hNx (H.2.1 0) 0)), .ref p2_])) := by rw [hM2_, hit2_]; exact j_neq
        have hH2_ : HAt G W M2_ A H := by rw [hM2_]; exact hA2_.newE
        have hE2_ : jEx G N6_ M2_ 2 3 := by rw [hM2_]; exact hD2_.stepn
        have hQ2_ : M2_.1 p2_ = some (.inr (7, [.ref (A 0)])) := by rw [hM2_]; exact j_nne hA2_.wf hP2_
        have hqm2_ : N6_.2.1 ≤ it2_ := by rw [hit2_]; exact hD2_.2.1.1
        have hq2_ : jB G ≤ it2_ := Nat.le_trans hY6_.wf.1 hqm2_
        have hnp2_ : p2_ ≠ it2_ := by rw [hit2_]; exact Nat.ne_of_lt (hA2_.wf.2 _ _ hP2_)
        refine j_astore_n dX1_feastIsHeld_69 rfl (by decide) rfl ?_
        have lp2_ : ∀ (e k : Nat) (M_ : j_M) , 8 ≤ k + e → k ≤ 8 → (k < 8 → H.2.1 0 k ≠ -15) → HAt G W M_ A (mfold (hCel (H.2.1 0) 7 (gGive (hEachP H))) H k) → M_.1 it2_ = some (.inr (5, [.int (nI k), .ref p2_])) → M_.1 p2_ = some (.inr (7, [.ref (A 0)])) → jFr G (hF A H) N6_ M_ 2 3 → JW l G 6 YX1_feastIsHeld (jr (fun v M' => v = some (.int (hFeastIs H).1) ∧ HAt G W M' A (hFeastIs H).2 ∧ jFr G (hF A H) M M' 4 6)) 70 [(0, .ref (A 0)), (1, .int (hEnt H)), (2, .int (hEachP H)), (3, .ref it2_)] [] M_ := by
          intro e
          induction e with
          | zero =>
            intro k M_  hek hk8_ hne_ hA_ hI_ hP_ hf_  
            have h22_ : (mfold (hCel (H.2.1 0) 7 (gGive (hEachP H))) H k).2.2 = H.2.2 := hCel_22 _ _ _ _ _
            have hn22_ : hn (mfold (hCel (H.2.1 0) 7 (gGive (hEachP H))) H k) = hn H := congrArg (·.1) h22_
            have h0_ : (mfold (hCel (H.2.1 0) 7 (gGive (hEachP H))) H k).2.1 0 = H.2.1 0 := hCel_0 _ _ _ _ _
            refine j_aload_n dX1_feastIsHeld_70 rfl rfl ?_
            refine j_callF (X5_hasNext_m hA_.wf hI_ hk8_) dX1_feastIsHeld_71 mt_X5_hasNext q393 (by decide +kernel) rfl q397 q399 hI_ (by decide) rfl cd_X5_hasNext (Nat.le_of_ble_eq_true rfl) rfl rfl (Nat.le_of_ble_eq_true rfl) (jk_v ?_) jx_v
            refine j_ifeqB (tgt := 116) dX1_feastIsHeld_76 (by decide) (fun c76 => ?_) (fun c76 => ?_)
            · have hkn_ : k = 8 := by have := of_decide_eq_false c76; omega
              subst hkn_
              have hA9_ : HAt G W M_ A (hGiveAll H (hEachP H)) := hA_
              have hf9_ : jFr G (hF A H) M M_ 4 6 := hb0_.trans hf_ (fun _ _ h => h) (fun _ _ h => h) (by decide) (by decide)
              refine j_aload_n dX1_feastIsHeld_116 rfl rfl ?_
              refine j_dup dX1_feastIsHeld_117 rfl ?_
              refine j_get dX1_feastIsHeld_118 fd_X1_37_1 hA9_.house rfl ?_
              refine j_iload_n dX1_feastIsHeld_121 rfl ?_
              refine j_iload_n dX1_feastIsHeld_122 rfl ?_
              refine j_imul dX1_feastIsHeld_123 ?_
              refine j_isub dX1_feastIsHeld_124 ?_
              refine j_put_ dX1_feastIsHeld_125 fd_X1_37_1 cl_1 (fun r hr => ⟨(ft_1_7 r hr).1, Or.inl (ft_1_7 r hr).2.1⟩) hA9_.house (Or.inr (by decide)) rfl rfl (Nat.le_of_ble_eq_true rfl) ?_
              have hX7_ := (hA9_.setz (k := 7) (v := (((hGiveAll H (hEachP H)).1 7) - ((hEachP H) * (hEnt H)))) (e := .inr (1, [.ref (A 1), .ref (A 3), .ref (A 4), .ref (A 5), .ref (A 6), .int ((hGiveAll H (hEachP H)).1 5), .int ((hGiveAll H (hEachP H)).1 6), .int (((hGiveAll H (hEachP H)).1 7) - ((hEachP H) * (hEnt H))), .int ((hGiveAll H (hEachP H)).1 8), .int ((hGiveAll H (hEachP H)).1 9), .int ((hGiveAll H (hEachP H)).1 10), .int ((hGiveAll H (hEachP H)).1 11), .int ((hGiveAll H (hEachP H)).1 12)])) (by decide) rfl)
              obtain ⟨N7_, hN7_⟩ : ∃ X : j_M, X = (j_put M_ (A 0) (.inr (1, [.ref (A 1), .ref (A 3), .ref (A 4), .ref (A 5), .ref (A 6), .int ((hGiveAll H (hEachP H)).1 5), .int ((hGiveAll H (hEachP H)).1 6), .int (((hGiveAll H (hEachP H)).1 7) - ((hEachP H) * (hEnt H))), .int ((hGiveAll H (hEachP H)).1 8), .int ((hGiveAll H (hEachP H)).1 9), .int ((hGiveAll H (hEachP H)).1 10), .int ((hGiveAll H (hEachP H)).1 11), .int ((hGiveAll H (hEachP H)).1 12)]))) := ⟨_, rfl⟩
              rw [← hN7_] at hX7_
              refine j_mem (M' := N7_) hN7_ ?_
              refine j_aload_n dX1_feastIsHeld_128 rfl rfl ?_
              refine j_dup dX1_feastIsHeld_129 rfl ?_
              refine j_get dX1_feastIsHeld_130 fd_X1_100_1 hX7_.1.house rfl ?_
              refine j_iload_n dX1_feastIsHeld_133 rfl ?_
              refine j_iload_n dX1_feastIsHeld_134 rfl ?_
              refine j_imul dX1_feastIsHeld_135 ?_
              refine j_iadd dX1_feastIsHeld_136 ?_
              refine j_put_ dX1_feastIsHeld_137 fd_X1_100_1 cl_1 (fun r hr => ⟨(ft_1_9 r hr).1, Or.inl (ft_1_9 r hr).2.1⟩) hX7_.1.house (Or.inr (by decide)) rfl rfl (Nat.le_of_ble_eq_true rfl) ?_
              have hX8_ := (hX7_.1.setz (k := 9) (v := (((hsz (hGiveAll H (hEachP H)) 7 (((hGiveAll H (hEachP H)).1 7) - ((hEachP H) * (hEnt H)))).1 9) + ((hEachP H) * (hEnt H)))) (e := .inr (1, [.ref (A 1), .ref (A 3), .ref (A 4), .ref (A 5), .ref (A 6), .int ((hsz (hGiveAll H (hEachP H)) 7 (((hGiveAll H (hEachP H)).1 7) - ((hEachP H) * (hEnt H)))).1 5), .int ((hsz (hGiveAll H (hEachP H)) 7 (((hGiveAll H (hEachP H)).1 7) - ((hEachP H) * (hEnt H)))).1 6), .int ((hsz (hGiveAll H (hEachP H)) 7 (((hGiveAll H (hEachP H)).1 7) - ((hEachP H) * (hEnt H)))).1 7), .int ((hsz (hGiveAll H (hEachP H)) 7 (((hGiveAll H (hEachP H)).1 7) - ((hEachP H) * (hEnt H)))).1 8), .int (((hsz (hGiveAll H (hEachP H)) 7 (((hGiveAll H (hEachP H)).1 7) - ((hEachP H) * (hEnt H)))).1 9) + ((hEachP H) * (hEnt H))), .int ((hsz (hGiveAll H (hEachP H)) 7 (((hGiveAll H (hEachP H)).1 7) - ((hEachP H) * (hEnt H)))).1 10), .int ((hsz (hGiveAll H (hEachP H)) 7 (((hGiveAll H (hEachP H)).1 7) - ((hEachP H) * (hEnt H)))).1 11), .int ((hsz (hGiveAll H (hEachP H)) 7 (((hGiveAll H (hEachP H)).1 7) - ((hEachP H) * (hEnt H)))).1 12)])) (by decide) rfl)
              obtain ⟨N8_, hN8_⟩ : ∃ X : j_M, X = (j_put N7_ (A 0) (.inr (1, [.ref (A 1), .ref (A 3), .ref (A 4), .ref (A 5), .ref (A 6), .int ((hsz (hGiveAll H (hEachP H)) 7 (((hGiveAll H (hEachP H)).1 7) - ((hEachP H) * (hEnt H)))).1 5), .int ((hsz (hGiveAll H (hEachP H)) 7 (((hGiveAll H (hEachP H)).1 7) - ((hEachP H) * (hEnt H)))).1 6), .int ((hsz (hGiveAll H (hEachP H)) 7 (((hGiveAll H (hEachP H)).1 7) - ((hEachP H) * (hEnt H)))).1 7), .int ((hsz (hGiveAll H (hEachP H)) 7 (((hGiveAll H (hEachP H)).1 7) - ((hEachP H) * (hEnt H)))).1 8), .int (((hsz (hGiveAll H (hEachP H)) 7 (((hGiveAll H (hEachP H)).1 7) - ((hEachP H) * (hEnt H)))).1 9) + ((hEachP H) * (hEnt H))), .int ((hsz (hGiveAll H (hEachP H)) 7 (((hGiveAll H (hEachP H)).1 7) - ((hEachP H) * (hEnt H)))).1 10), .int ((hsz (hGiveAll H (hEachP H)) 7 (((hGiveAll H (hEachP H)).1 7) - ((hEachP H) * (hEnt H)))).1 11), .int ((hsz (hGiveAll H (hEachP H)) 7 (((hGiveAll H (hEachP H)).1 7) - ((hEachP H) * (hEnt H)))).1 12)]))) := ⟨_, rfl⟩
              rw [← hN8_] at hX8_
              refine j_mem (M' := N8_) hN8_ ?_
              refine j_iload_n dX1_feastIsHeld_140 rfl ?_
              refine j_iload_n dX1_feastIsHeld_141 rfl ?_
              refine j_imul dX1_feastIsHeld_142 ?_
              exact j_ireturn dX1_feastIsHeld_143 rfl (jr_i ⟨by unfold hFeastIs; rw [if_neg (by rw [hp_]; exact c14), if_neg c18], HAt.cast hX8_.1 (by unfold hFeastIs; rw [if_neg (by rw [hp_]; exact c14), if_neg c18]), ((hf9_.trans hX7_.2 (fun _ _ h => h) (fun _ _ h => hF_of (hCel_22 _ _ _ _ _) h) (Nat.le_refl _) (Nat.le_refl _)).trans hX8_.2 (fun _ _ h => h) (fun _ _ h => hF_of (hCel_22 _ _ _ _ _) h) (Nat.le_refl _) (Nat.le_refl _))⟩)
            · exact absurd (of_decide_eq_true c76) (by omega)
          | succ e ih_ =>
            intro k M_  hek hk8_ hne_ hA_ hI_ hP_ hf_  
            have h22_ : (mfold (hCel (H.2.1 0) 7 (gGive (hEachP H))) H k).2.2 = H.2.2 := hCel_22 _ _ _ _ _
            have hn22_ : hn (mfold (hCel (H.2.1 0) 7 (gGive (hEachP H))) H k) = hn H := congrArg (·.1) h22_
            have h0_ : (mfold (hCel (H.2.1 0) 7 (gGive (hEachP H))) H k).2.1 0 = H.2.1 0 := hCel_0 _ _ _ _ _
            refine j_aload_n dX1_feastIsHeld_70 rfl rfl ?_
            refine j_callF (X5_hasNext_m hA_.wf hI_ hk8_) dX1_feastIsHeld_71 mt_X5_hasNext q393 (by decide +kernel) rfl q397 q399 hI_ (by decide) rfl cd_X5_hasNext (Nat.le_of_ble_eq_true rfl) rfl rfl (Nat.le_of_ble_eq_true rfl) (jk_v ?_) jx_v
            refine j_ifeqB (tgt := 116) dX1_feastIsHeld_76 (by decide) (fun c76 => ?_) (fun c76 => ?_)
            · have hkn_ : k = 8 := by have := of_decide_eq_false c76; omega
              subst hkn_
              have hA9_ : HAt G W M_ A (hGiveAll H (hEachP H)) := hA_
              have hf9_ : jFr G (hF A H) M M_ 4 6 := hb0_.trans hf_ (fun _ _ h => h) (fun _ _ h => h) (by decide) (by decide)
              refine j_aload_n dX1_feastIsHeld_116 rfl rfl ?_
              refine j_dup dX1_feastIsHeld_117 rfl ?_
              refine j_get dX1_feastIsHeld_118 fd_X1_37_1 hA9_.house rfl ?_
              refine j_iload_n dX1_feastIsHeld_121 rfl ?_
              refine j_iload_n dX1_feastIsHeld_122 rfl ?_
              refine j_imul dX1_feastIsHeld_123 ?_
              refine j_isub dX1_feastIsHeld_124 ?_
              refine j_put_ dX1_feastIsHeld_125 fd_X1_37_1 cl_1 (fun r hr => ⟨(ft_1_7 r hr).1, Or.inl (ft_1_7 r hr).2.1⟩) hA9_.house (Or.inr (by decide)) rfl rfl (Nat.le_of_ble_eq_true rfl) ?_
              have hX9_ := (hA9_.setz (k := 7) (v := (((hGiveAll H (hEachP H)).1 7) - ((hEachP H) * (hEnt H)))) (e := .inr (1, [.ref (A 1), .ref (A 3), .ref (A 4), .ref (A 5), .ref (A 6), .int ((hGiveAll H (hEachP H)).1 5), .int ((hGiveAll H (hEachP H)).1 6), .int (((hGiveAll H (hEachP H)).1 7) - ((hEachP H) * (hEnt H))), .int ((hGiveAll H (hEachP H)).1 8), .int ((hGiveAll H (hEachP H)).1 9), .int ((hGiveAll H (hEachP H)).1 10), .int ((hGiveAll H (hEachP H)).1 11), .int ((hGiveAll H (hEachP H)).1 12)])) (by decide) rfl)
              obtain ⟨N9_, hN9_⟩ : ∃ X : j_M, X = (j_put M_ (A 0) (.inr (1, [.ref (A 1), .ref (A 3), .ref (A 4), .ref (A 5), .ref (A 6), .int ((hGiveAll H (hEachP H)).1 5), .int ((hGiveAll H (hEachP H)).1 6), .int (((hGiveAll H (hEachP H)).1 7) - ((hEachP H) * (hEnt H))), .int ((hGiveAll H (hEachP H)).1 8), .int ((hGiveAll H (hEachP H)).1 9), .int ((hGiveAll H (hEachP H)).1 10), .int ((hGiveAll H (hEachP H)).1 11), .int ((hGiveAll H (hEachP H)).1 12)]))) := ⟨_, rfl⟩
              rw [← hN9_] at hX9_
              refine j_mem (M' := N9_) hN9_ ?_
              refine j_aload_n dX1_feastIsHeld_128 rfl rfl ?_
              refine j_dup dX1_feastIsHeld_129 rfl ?_
              refine j_get dX1_feastIsHeld_130 fd_X1_100_1 hX9_.1.house rfl ?_
              refine j_iload_n dX1_feastIsHeld_133 rfl ?_
              refine j_iload_n dX1_feastIsHeld_134 rfl ?_
              refine j_imul dX1_feastIsHeld_135 ?_
              refine j_iadd dX1_feastIsHeld_136 ?_
              refine j_put_ dX1_feastIsHeld_137 fd_X1_100_1 cl_1 (fun r hr => ⟨(ft_1_9 r hr).1, Or.inl (ft_1_9 r hr).2.1⟩) hX9_.1.house (Or.inr (by decide)) rfl rfl (Nat.le_of_ble_eq_true rfl) ?_
              have hX10_ := (hX9_.1.setz (k := 9) (v := (((hsz (hGiveAll H (hEachP H)) 7 (((hGiveAll H (hEachP H)).1 7) - ((hEachP H) * (hEnt H)))).1 9) + ((hEachP H) * (hEnt H)))) (e := .inr (1, [.ref (A 1), .ref (A 3), .ref (A 4), .ref (A 5), .ref (A 6), .int ((hsz (hGiveAll H (hEachP H)) 7 (((hGiveAll H (hEachP H)).1 7) - ((hEachP H) * (hEnt H)))).1 5), .int ((hsz (hGiveAll H (hEachP H)) 7 (((hGiveAll H (hEachP H)).1 7) - ((hEachP H) * (hEnt H)))).1 6), .int ((hsz (hGiveAll H (hEachP H)) 7 (((hGiveAll H (hEachP H)).1 7) - ((hEachP H) * (hEnt H)))).1 7), .int ((hsz (hGiveAll H (hEachP H)) 7 (((hGiveAll H (hEachP H)).1 7) - ((hEachP H) * (hEnt H)))).1 8), .int (((hsz (hGiveAll H (hEachP H)) 7 (((hGiveAll H (hEachP H)).1 7) - ((hEachP H) * (hEnt H)))).1 9) + ((hEachP H) * (hEnt H))), .int ((hsz (hGiveAll H (hEachP H)) 7 (((hGiveAll H (hEachP H)).1 7) - ((hEachP H) * (hEnt H)))).1 10), .int ((hsz (hGiveAll H (hEachP H)) 7 (((hGiveAll H (hEachP H)).1 7) - ((hEachP H) * (hEnt H)))).1 11), .int ((hsz (hGiveAll H (hEachP H)) 7 (((hGiveAll H (hEachP H)).1 7) - ((hEachP H) * (hEnt H)))).1 12)])) (by decide) rfl)
              obtain ⟨N10_, hN10_⟩ : ∃ X : j_M, X = (j_put N9_ (A 0) (.inr (1, [.ref (A 1), .ref (A 3), .ref (A 4), .ref (A 5), .ref (A 6), .int ((hsz (hGiveAll H (hEachP H)) 7 (((hGiveAll H (hEachP H)).1 7) - ((hEachP H) * (hEnt H)))).1 5), .int ((hsz (hGiveAll H (hEachP H)) 7 (((hGiveAll H (hEachP H)).1 7) - ((hEachP H) * (hEnt H)))).1 6), .int ((hsz (hGiveAll H (hEachP H)) 7 (((hGiveAll H (hEachP H)).1 7) - ((hEachP H) * (hEnt H)))).1 7), .int ((hsz (hGiveAll H (hEachP H)) 7 (((hGiveAll H (hEachP H)).1 7) - ((hEachP H) * (hEnt H)))).1 8), .int (((hsz (hGiveAll H (hEachP H)) 7 (((hGiveAll H (hEachP H)).1 7) - ((hEachP H) * (hEnt H)))).1 9) + ((hEachP H) * (hEnt H))), .int ((hsz (hGiveAll H (hEachP H)) 7 (((hGiveAll H (hEachP H)).1 7) - ((hEachP H) * (hEnt H)))).1 10), .int ((hsz (hGiveAll H (hEachP H)) 7 (((hGiveAll H (hEachP H)).1 7) - ((hEachP H) * (hEnt H)))).1 11), .int ((hsz (hGiveAll H (hEachP H)) 7 (((hGiveAll H (hEachP H)).1 7) - ((hEachP H) * (hEnt H)))).1 12)]))) := ⟨_, rfl⟩
              rw [← hN10_] at hX10_
              refine j_mem (M' := N10_) hN10_ ?_
              refine j_iload_n dX1_feastIsHeld_140 rfl ?_
              refine j_iload_n dX1_feastIsHeld_141 rfl ?_
              refine j_imul dX1_feastIsHeld_142 ?_
              exact j_ireturn dX1_feastIsHeld_143 rfl (jr_i ⟨by unfold hFeastIs; rw [if_neg (by rw [hp_]; exact c14), if_neg c18], HAt.cast hX10_.1 (by unfold hFeastIs; rw [if_neg (by rw [hp_]; exact c14), if_neg c18]), ((hf9_.trans hX9_.2 (fun _ _ h => h) (fun _ _ h => hF_of (hCel_22 _ _ _ _ _) h) (Nat.le_refl _) (Nat.le_refl _)).trans hX10_.2 (fun _ _ h => h) (fun _ _ h => hF_of (hCel_22 _ _ _ _ _) h) (Nat.le_refl _) (Nat.le_refl _))⟩)
            · have hk_ : k < 8 := of_decide_eq_true c76
              obtain ⟨v, hv0_, hev_⟩ : ∃ v, v < hn H ∧ H.2.1 0 k = nI v := (hCO_ k hk_).resolve_left (hne_ hk_)
              have hv16_ : v < 16 := Nat.lt_of_lt_of_le hv0_ hH2_.2.1.1
              have hv_ : v < hn (mfold (hCel (H.2.1 0) 7 (gGive (hEachP H))) H k) := by rw [hn22_]; exact hv0_
              have hev2_ : (mfold (hCel (H.2.1 0) 7 (gGive (hEachP H))) H k).2.1 0 k = nI v := by rw [h0_]; exact hev_
              refine j_aload_n dX1_feastIsHeld_79 rfl rfl ?_
              refine j_callF (X5_next_m hA_ hI_ hP_ hk_ hv_ hev2_) dX1_feastIsHeld_80 mt_X5_next q439 (by decide +kernel) rfl q442 q444 hI_ (by decide) rfl cd_X5_next (Nat.le_of_ble_eq_true rfl) rfl rfl (Nat.le_of_ble_eq_true rfl) (jk_v ?_) jx_v
              rw [h0_]
              obtain ⟨M2_, hM2_⟩ : ∃ X : j_M, X = j_put M_ it2_ (.inr (5, [.int (nI (hNx (H.2.1 0) (k + 1))), .ref p2_])) := ⟨_, rfl⟩
              refine j_mem (M' := M2_) hM2_ ?_
              have hA2_ : HAt G W M2_ A (mfold (hCel (H.2.1 0) 7 (gGive (hEachP H))) H k) := by rw [hM2_]; exact hA_.putE hI_ rfl hq2_
              have hI2_ : M2_.1 it2_ = some (.inr (5, [.int (nI (hNx (H.2.1 0) (k + 1))), .ref p2_])) := by rw [hM2_]; exact j_peq
              have hP2_ : M2_.1 p2_ = some (.inr (7, [.ref (A 0)])) := by rw [hM2_]; exact j_pne hnp2_ hP_
              have hf2_ : jFr G (hF A H) N6_ M2_ 2 3 := by rw [hM2_]; exact hf_.stepp hI_ (fun h => absurd h (by omega))
              refine j_chk dX1_feastIsHeld_85 (hA2_.bro hv_) (by decide) rfl q857 (Or.inl rfl) ?_
              refine j_astore dX1_feastIsHeld_88 rfl (by decide) rfl ?_
              refine j_aload dX1_feastIsHeld_90 rfl rfl ?_
              refine j_dup dX1_feastIsHeld_92 rfl ?_
              refine j_get dX1_feastIsHeld_93 fd_X1_223_3 (hA2_.bro hv_) rfl ?_
              refine j_aload dX1_feastIsHeld_96 rfl rfl ?_
              refine j_callV (X3_isEntitled_m hA2_.wf (hA2_.bro hv_)) dX1_feastIsHeld_98 mt_X3_isEntitled q1525 q1526 q1527 (hA2_.bro hv_) (by decide) rfl cd_X3_isEntitled (Nat.le_of_ble_eq_true rfl) rfl rfl (Nat.le_of_ble_eq_true rfl) (jk_v ?_) jx_v
              refine j_ifeqB (tgt := 108) dX1_feastIsHeld_101 (by decide) (fun c101 => ?_) (fun c101 => ?_)
              · refine j_iconst (v := 0) dX1_feastIsHeld_108 (by decide) ?_
                refine j_iadd dX1_feastIsHeld_109 ?_
                refine j_put_ dX1_feastIsHeld_110 fd_X1_223_3 cl_3 (fun r hr => ⟨(ft_3_7 r hr).1, Or.inl (ft_3_7 r hr).2.1⟩) (hA2_.bro hv_) (Or.inr (by decide)) rfl rfl (Nat.le_of_ble_eq_true rfl) ?_
                have hX11_ := (hA2_.setb' (b := v) (f := (va_up ((mfold (hCel (H.2.1 0) 7 (gGive (hEachP H))) H k).2.1 (2 + v)) 7 ((hb (mfold (hCel (H.2.1 0) 7 (gGive (hEachP H))) H k) v 7) + 0))) (e := .inr (3, [.int (hb (mfold (hCel (H.2.1 0) 7 (gGive (hEachP H))) H k) v 0), .int (hb (mfold (hCel (H.2.1 0) 7 (gGive (hEachP H))) H k) v 1), .int (hb (mfold (hCel (H.2.1 0) 7 (gGive (hEachP H))) H k) v 2), .int (hb (mfold (hCel (H.2.1 0) 7 (gGive (hEachP H))) H k) v 3), .int (hb (mfold (hCel (H.2.1 0) 7 (gGive (hEachP H))) H k) v 4), .int (hb (mfold (hCel (H.2.1 0) 7 (gGive (hEachP H))) H k) v 5), .int (hb (mfold (hCel (H.2.1 0) 7 (gGive (hEachP H))) H k) v 6), .int ((hb (mfold (hCel (H.2.1 0) 7 (gGive (hEachP H))) H k) v 7) + 0), .int (hb (mfold (hCel (H.2.1 0) 7 (gGive (hEachP H))) H k) v 8), .ref (A (23 + v))])) hv_ rfl)
                obtain ⟨N11_, hN11_⟩ : ∃ X : j_M, X = (j_put M2_ (A (7 + v)) (.inr (3, [.int (hb (mfold (hCel (H.2.1 0) 7 (gGive (hEachP H))) H k) v 0), .int (hb (mfold (hCel (H.2.1 0) 7 (gGive (hEachP H))) H k) v 1), .int (hb (mfold (hCel (H.2.1 0) 7 (gGive (hEachP H))) H k) v 2), .int (hb (mfold (hCel (H.2.1 0) 7 (gGive (hEachP H))) H k) v 3), .int (hb (mfold (hCel (H.2.1 0) 7 (gGive (hEachP H))) H k) v 4), .int (hb (mfold (hCel (H.2.1 0) 7 (gGive (hEachP H))) H k) v 5), .int (hb (mfold (hCel (H.2.1 0) 7 (gGive (hEachP H))) H k) v 6), .int ((hb (mfold (hCel (H.2.1 0) 7 (gGive (hEachP H))) H k) v 7) + 0), .int (hb (mfold (hCel (H.2.1 0) 7 (gGive (hEachP H))) H k) v 8), .ref (A (23 + v))]))) := ⟨_, rfl⟩
                rw [← hN11_] at hX11_
                refine j_mem (M' := N11_) hN11_ ?_
                refine j_goto (tgt := 70) dX1_feastIsHeld_113 (by decide) ?_
                have hg_ := hNx_ge (f := H.2.1 0) (c := k + 1) (by omega)
                refine j_locs (ls2 := [(0, .ref (A 0)), (1, .int (hEnt H)), (2, .int (hEachP H)), (3, .ref it2_)]) ⟨rfl, rfl, rfl, rfl, trivial⟩ ?_
                exact ih_ (hNx (H.2.1 0) (k + 1)) _  (by omega) hg_.2 (fun h => hNx_at (by omega) h) (HAt.cast (H' := (mfold (hCel (H.2.1 0) 7 (gGive (hEachP H))) H (hNx (H.2.1 0) (k + 1)))) hX11_.1 ((((show (hsa (mfold (hCel (H.2.1 0) 7 (gGive (hEachP H))) H k) (2 + v) (va_up ((mfold (hCel (H.2.1 0) 7 (gGive (hEachP H))) H k).2.1 (2 + v)) 7 ((hb (mfold (hCel (H.2.1 0) 7 (gGive (hEachP H))) H k) v 7) + 0))) = hCel (H.2.1 0) 7 (gGive (hEachP H)) (mfold (hCel (H.2.1 0) 7 (gGive (hEachP H))) H k) k by rw [hCel_at (hne_ hk_) hev_ hv16_]; unfold hUps; first | rw [gGive_t (T := (mfold (hCel (H.2.1 0) 7 (gGive (hEachP H))) H k)) (v := v) c101] | rw [gGive_f (T := (mfold (hCel (H.2.1 0) 7 (gGive (hEachP H))) H k)) (v := v) c101])) : (hsa (mfold (hCel (H.2.1 0) 7 (gGive (hEachP H))) H k) (2 + v) (va_up ((mfold (hCel (H.2.1 0) 7 (gGive (hEachP H))) H k).2.1 (2 + v)) 7 ((hb (mfold (hCel (H.2.1 0) 7 (gGive (hEachP H))) H k) v 7) + 0))) = (mfold (hCel (H.2.1 0) 7 (gGive (hEachP H))) H (k + 1))).trans (mfold_skip hg_.1 (fun c t h1 h2 => if_pos (hNx_no h1 h2))).symm)) (hX11_.2.cell hA2_.wf hI2_ (hA2_.off hI2_ rfl)) (hX11_.2.cell hA2_.wf hP2_ (hA2_.off hP2_ rfl)) (hf2_.trans hX11_.2 (fun _ _ h => h) (fun _ _ h => hF_of h22_ h) (Nat.le_refl _) (Nat.le_refl _))  
              · refine j_iload_n dX1_feastIsHeld_104 rfl ?_
                refine j_goto (tgt := 109) dX1_feastIsHeld_105 (by decide) ?_
                refine j_iadd dX1_feastIsHeld_109 ?_
                refine j_put_ dX1_feastIsHeld_110 fd_X1_223_3 cl_3 (fun r hr => ⟨(ft_3_7 r hr).1, Or.inl (ft_3_7 r hr).2.1⟩) (hA2_.bro hv_) (Or.inr (by decide)) rfl rfl (Nat.le_of_ble_eq_true rfl) ?_
                have hX12_ := (hA2_.setb' (b := v) (f := (va_up ((mfold (hCel (H.2.1 0) 7 (gGive (hEachP H))) H k).2.1 (2 + v)) 7 ((hb (mfold (hCel (H.2.1 0) 7 (gGive (hEachP H))) H k) v 7) + (hEachP H)))) (e := .inr (3, [.int (hb (mfold (hCel (H.2.1 0) 7 (gGive (hEachP H))) H k) v 0), .int (hb (mfold (hCel (H.2.1 0) 7 (gGive (hEachP H))) H k) v 1), .int (hb (mfold (hCel (H.2.1 0) 7 (gGive (hEachP H))) H k) v 2), .int (hb (mfold (hCel (H.2.1 0) 7 (gGive (hEachP H))) H k) v 3), .int (hb (mfold (hCel (H.2.1 0) 7 (gGive (hEachP H))) H k) v 4), .int (hb (mfold (hCel (H.2.1 0) 7 (gGive (hEachP H))) H k) v 5), .int (hb (mfold (hCel (H.2.1 0) 7 (gGive (hEachP H))) H k) v 6), .int ((hb (mfold (hCel (H.2.1 0) 7 (gGive (hEachP H))) H k) v 7) + (hEachP H)), .int (hb (mfold (hCel (H.2.1 0) 7 (gGive (hEachP H))) H k) v 8), .ref (A (23 + v))])) hv_ rfl)
                obtain ⟨N12_, hN12_⟩ : ∃ X : j_M, X = (j_put M2_ (A (7 + v)) (.inr (3, [.int (hb (mfold (hCel (H.2.1 0) 7 (gGive (hEachP H))) H k) v 0), .int (hb (mfold (hCel (H.2.1 0) 7 (gGive (hEachP H))) H k) v 1), .int (hb (mfold (hCel (H.2.1 0) 7 (gGive (hEachP H))) H k) v 2), .int (hb (mfold (hCel (H.2.1 0) 7 (gGive (hEachP H))) H k) v 3), .int (hb (mfold (hCel (H.2.1 0) 7 (gGive (hEachP H))) H k) v 4), .int (hb (mfold (hCel (H.2.1 0) 7 (gGive (hEachP H))) H k) v 5), .int (hb (mfold (hCel (H.2.1 0) 7 (gGive (hEachP H))) H k) v 6), .int ((hb (mfold (hCel (H.2.1 0) 7 (gGive (hEachP H))) H k) v 7) + (hEachP H)), .int (hb (mfold (hCel (H.2.1 0) 7 (gGive (hEachP H))) H k) v 8), .ref (A (23 + v))]))) := ⟨_, rfl⟩
                rw [← hN12_] at hX12_
                refine j_mem (M' := N12_) hN12_ ?_
                refine j_goto (tgt := 70) dX1_feastIsHeld_113 (by decide) ?_
                have hg_ := hNx_ge (f := H.2.1 0) (c := k + 1) (by omega)
                refine j_locs (ls2 := [(0, .ref (A 0)), (1, .int (hEnt H)), (2, .int (hEachP H)), (3, .ref it2_)]) ⟨rfl, rfl, rfl, rfl, trivial⟩ ?_
                exact ih_ (hNx (H.2.1 0) (k + 1)) _  (by omega) hg_.2 (fun h => hNx_at (by omega) h) (HAt.cast (H' := (mfold (hCel (H.2.1 0) 7 (gGive (hEachP H))) H (hNx (H.2.1 0) (k + 1)))) hX12_.1 ((((show (hsa (mfold (hCel (H.2.1 0) 7 (gGive (hEachP H))) H k) (2 + v) (va_up ((mfold (hCel (H.2.1 0) 7 (gGive (hEachP H))) H k).2.1 (2 + v)) 7 ((hb (mfold (hCel (H.2.1 0) 7 (gGive (hEachP H))) H k) v 7) + (hEachP H)))) = hCel (H.2.1 0) 7 (gGive (hEachP H)) (mfold (hCel (H.2.1 0) 7 (gGive (hEachP H))) H k) k by rw [hCel_at (hne_ hk_) hev_ hv16_]; unfold hUps; first | rw [gGive_t (T := (mfold (hCel (H.2.1 0) 7 (gGive (hEachP H))) H k)) (v := v) c101] | rw [gGive_f (T := (mfold (hCel (H.2.1 0) 7 (gGive (hEachP H))) H k)) (v := v) c101])) : (hsa (mfold (hCel (H.2.1 0) 7 (gGive (hEachP H))) H k) (2 + v) (va_up ((mfold (hCel (H.2.1 0) 7 (gGive (hEachP H))) H k).2.1 (2 + v)) 7 ((hb (mfold (hCel (H.2.1 0) 7 (gGive (hEachP H))) H k) v 7) + (hEachP H)))) = (mfold (hCel (H.2.1 0) 7 (gGive (hEachP H))) H (k + 1))).trans (mfold_skip hg_.1 (fun c t h1 h2 => if_pos (hNx_no h1 h2))).symm)) (hX12_.2.cell hA2_.wf hI2_ (hA2_.off hI2_ rfl)) (hX12_.2.cell hA2_.wf hP2_ (hA2_.off hP2_ rfl)) (hf2_.trans hX12_.2 (fun _ _ h => h) (fun _ _ h => hF_of h22_ h) (Nat.le_refl _) (Nat.le_refl _))  
        have hg2_ := hNx_ge (f := H.2.1 0) (c := 0) (by decide)
        refine j_locs (ls2 := [(0, .ref (A 0)), (1, .int (hEnt H)), (2, .int (hEachP H)), (3, .ref it2_)]) ⟨rfl, rfl, rfl, rfl, trivial⟩ ?_
        exact lp2_ 8 (hNx (H.2.1 0) 0) M2_  (by omega) hg2_.2 (fun h => hNx_at (by decide) h) (HAt.cast (H' := (mfold (hCel (H.2.1 0) 7 (gGive (hEachP H))) H (hNx (H.2.1 0) 0))) hH2_ (mfold_skip (a := H) hg2_.1 (fun c t h1 h2 => if_pos (hNx_no h1 h2))).symm) hI2_ hQ2_ (hE2_.mono (fun _ _ q => False.elim q) (by decide) (by decide))  
      · refine j_aload_n dX1_feastIsHeld_41 rfl rfl ?_
        refine j_get dX1_feastIsHeld_42 fd_X1_34_1 hY6_.house rfl ?_
        refine j_aload_n dX1_feastIsHeld_45 rfl rfl ?_
        refine j_get dX1_feastIsHeld_46 fd_X1_94_1 hY6_.house rfl ?_
        refine j_iald (j := wk) dX1_feastIsHeld_49 hY6_.feasts (by decide) ew_ (by omega) (by decide) ?_
        refine j_goto (tgt := 59) dX1_feastIsHeld_50 (by decide) ?_
        refine j_istore_n dX1_feastIsHeld_59 (by decide) rfl ?_
        rw [show (((H.2.1 1) wk)) = hEachP H from (by unfold hEachP; rw [hp_]; first | rw [if_neg (Int32.not_le.mpr c38)] | rw [if_pos (Int32.not_lt.mp c38)])]
        refine j_aload_n dX1_feastIsHeld_60 rfl rfl ?_
        have hb0_ := ((jFr.refl hH.wf : jFr G (hF A H) M M 0 0).trans hX6_ (fun _ _ h => h) (fun _ _ h => False.elim h) (by decide) (by decide) : jFr G (hF A H) M N6_ 2 3)
        refine j_callV (X1_inCells_m hY6_) dX1_feastIsHeld_61 mt_X1_inCells q1508 q1509 q1510 hY6_.house (by decide) rfl cd_X1_inCells (Nat.le_of_ble_eq_true rfl) rfl rfl (Nat.le_of_ble_eq_true rfl) (jk_v ?_) jx_v
        obtain ⟨p3_, hp3_⟩ : ∃ q : Nat, q = N6_.2.1 := ⟨_, rfl⟩
        obtain ⟨L3_, hL3_⟩ : ∃ X : j_M, X = j_new N6_ (.inr (7, [.ref (A 0)])) 1 := ⟨_, rfl⟩
        rw [← hp3_, ← hL3_]
        have hA3_ : HAt G W L3_ A H := by rw [hL3_]; exact hY6_.newE
        have hP3_ : L3_.1 p3_ = some (.inr (7, [.ref (A 0)])) := by rw [hL3_, hp3_]; exact j_neq
        have hD3_ : jEx G N6_ L3_ 1 1 := by rw [hL3_]; exact jFr.new hY6_.wf
        refine j_callF (X7_iterator_m hA3_ hP3_) dX1_feastIsHeld_64 mt_X7_iterator q1524 (by decide +kernel) rfl q1327 q1329 hP3_ (by decide) rfl cd_X7_iterator (Nat.le_of_ble_eq_true rfl) rfl rfl (Nat.le_of_ble_eq_true rfl) (jk_v ?_) jx_v
        obtain ⟨it3_, hit3_⟩ : ∃ q : Nat, q = L3_.2.1 := ⟨_, rfl⟩
        obtain ⟨M3_, hM3_⟩ : ∃ X : j_M, X = j_new L3_ (.inr (5, [.int (nI (hNx (H.2.1 0) 0)), .ref p3_])) 2 := ⟨_, rfl⟩
        rw [← hit3_, ← hM3_]
        have hI3_ : M3_.1 it3_ = some (.inr (5, [.int (nI (hNx (H.2.1 0) 0)), .ref p3_])) := by rw [hM3_, hit3_]; exact j_neq
        have hH3_ : HAt G W M3_ A H := by rw [hM3_]; exact hA3_.newE
        have hE3_ : jEx G N6_ M3_ 2 3 := by rw [hM3_]; exact hD3_.stepn
        have hQ3_ : M3_.1 p3_ = some (.inr (7, [.ref (A 0)])) := by rw [hM3_]; exact j_nne hA3_.wf hP3_
        have hqm3_ : N6_.2.1 ≤ it3_ := by rw [hit3_]; exact hD3_.2.1.1
        have hq3_ : jB G ≤ it3_ := Nat.le_trans hY6_.wf.1 hqm3_
        have hnp3_ : p3_ ≠ it3_ := by rw [hit3_]; exact Nat.ne_of_lt (hA3_.wf.2 _ _ hP3_)
        refine j_astore_n dX1_feastIsHeld_69 rfl (by decide) rfl ?_
        have lp3_ : ∀ (e k : Nat) (M_ : j_M) , 8 ≤ k + e → k ≤ 8 → (k < 8 → H.2.1 0 k ≠ -15) → HAt G W M_ A (mfold (hCel (H.2.1 0) 7 (gGive (hEachP H))) H k) → M_.1 it3_ = some (.inr (5, [.int (nI k), .ref p3_])) → M_.1 p3_ = some (.inr (7, [.ref (A 0)])) → jFr G (hF A H) N6_ M_ 2 3 → JW l G 6 YX1_feastIsHeld (jr (fun v M' => v = some (.int (hFeastIs H).1) ∧ HAt G W M' A (hFeastIs H).2 ∧ jFr G (hF A H) M M' 4 6)) 70 [(0, .ref (A 0)), (1, .int (hEnt H)), (2, .int (hEachP H)), (3, .ref it3_)] [] M_ := by
          intro e
          induction e with
          | zero =>
            intro k M_  hek hk8_ hne_ hA_ hI_ hP_ hf_  
            have h22_ : (mfold (hCel (H.2.1 0) 7 (gGive (hEachP H))) H k).2.2 = H.2.2 := hCel_22 _ _ _ _ _
            have hn22_ : hn (mfold (hCel (H.2.1 0) 7 (gGive (hEachP H))) H k) = hn H := congrArg (·.1) h22_
            have h0_ : (mfold (hCel (H.2.1 0) 7 (gGive (hEachP H))) H k).2.1 0 = H.2.1 0 := hCel_0 _ _ _ _ _
            refine j_aload_n dX1_feastIsHeld_70 rfl rfl ?_
            refine j_callF (X5_hasNext_m hA_.wf hI_ hk8_) dX1_feastIsHeld_71 mt_X5_hasNext q393 (by decide +kernel) rfl q397 q399 hI_ (by decide) rfl cd_X5_hasNext (Nat.le_of_ble_eq_true rfl) rfl rfl (Nat.le_of_ble_eq_true rfl) (jk_v ?_) jx_v
            refine j_ifeqB (tgt := 116) dX1_feastIsHeld_76 (by decide) (fun c76 => ?_) (fun c76 => ?_)
            · have hkn_ : k = 8 := by have := of_decide_eq_false c76; omega
              subst hkn_
              have hA9_ : HAt G W M_ A (hGiveAll H (hEachP H)) := hA_
              have hf9_ : jFr G (hF A H) M M_ 4 6 := hb0_.trans hf_ (fun _ _ h => h) (fun _ _ h => h) (by decide) (by decide)
              refine j_aload_n dX1_feastIsHeld_116 rfl rfl ?_
              refine j_dup dX1_feastIsHeld_117 rfl ?_
              refine j_get dX1_feastIsHeld_118 fd_X1_37_1 hA9_.house rfl ?_
              refine j_iload_n dX1_feastIsHeld_121 rfl ?_
              refine j_iload_n dX1_feastIsHeld_122 rfl ?_
              refine j_imul dX1_feastIsHeld_123 ?_
              refine j_isub dX1_feastIsHeld_124 ?_
              refine j_put_ dX1_feastIsHeld_125 fd_X1_37_1 cl_1 (fun r hr => ⟨(ft_1_7 r hr).1, Or.inl (ft_1_7 r hr).2.1⟩) hA9_.house (Or.inr (by decide)) rfl rfl (Nat.le_of_ble_eq_true rfl) ?_
              have hX13_ := (hA9_.setz (k := 7) (v := (((hGiveAll H (hEachP H)).1 7) - ((hEachP H) * (hEnt H)))) (e := .inr (1, [.ref (A 1), .ref (A 3), .ref (A 4), .ref (A 5), .ref (A 6), .int ((hGiveAll H (hEachP H)).1 5), .int ((hGiveAll H (hEachP H)).1 6), .int (((hGiveAll H (hEachP H)).1 7) - ((hEachP H) * (hEnt H))), .int ((hGiveAll H (hEachP H)).1 8), .int ((hGiveAll H (hEachP H)).1 9), .int ((hGiveAll H (hEachP H)).1 10), .int ((hGiveAll H (hEachP H)).1 11), .int ((hGiveAll H (hEachP H)).1 12)])) (by decide) rfl)
              obtain ⟨N13_, hN13_⟩ : ∃ X : j_M, X = (j_put M_ (A 0) (.inr (1, [.ref (A 1), .ref (A 3), .ref (A 4), .ref (A 5), .ref (A 6), .int ((hGiveAll H (hEachP H)).1 5), .int ((hGiveAll H (hEachP H)).1 6), .int (((hGiveAll H (hEachP H)).1 7) - ((hEachP H) * (hEnt H))), .int ((hGiveAll H (hEachP H)).1 8), .int ((hGiveAll H (hEachP H)).1 9), .int ((hGiveAll H (hEachP H)).1 10), .int ((hGiveAll H (hEachP H)).1 11), .int ((hGiveAll H (hEachP H)).1 12)]))) := ⟨_, rfl⟩
              rw [← hN13_] at hX13_
              refine j_mem (M' := N13_) hN13_ ?_
              refine j_aload_n dX1_feastIsHeld_128 rfl rfl ?_
              refine j_dup dX1_feastIsHeld_129 rfl ?_
              refine j_get dX1_feastIsHeld_130 fd_X1_100_1 hX13_.1.house rfl ?_
              refine j_iload_n dX1_feastIsHeld_133 rfl ?_
              refine j_iload_n dX1_feastIsHeld_134 rfl ?_
              refine j_imul dX1_feastIsHeld_135 ?_
              refine j_iadd dX1_feastIsHeld_136 ?_
              refine j_put_ dX1_feastIsHeld_137 fd_X1_100_1 cl_1 (fun r hr => ⟨(ft_1_9 r hr).1, Or.inl (ft_1_9 r hr).2.1⟩) hX13_.1.house (Or.inr (by decide)) rfl rfl (Nat.le_of_ble_eq_true rfl) ?_
              have hX14_ := (hX13_.1.setz (k := 9) (v := (((hsz (hGiveAll H (hEachP H)) 7 (((hGiveAll H (hEachP H)).1 7) - ((hEachP H) * (hEnt H)))).1 9) + ((hEachP H) * (hEnt H)))) (e := .inr (1, [.ref (A 1), .ref (A 3), .ref (A 4), .ref (A 5), .ref (A 6), .int ((hsz (hGiveAll H (hEachP H)) 7 (((hGiveAll H (hEachP H)).1 7) - ((hEachP H) * (hEnt H)))).1 5), .int ((hsz (hGiveAll H (hEachP H)) 7 (((hGiveAll H (hEachP H)).1 7) - ((hEachP H) * (hEnt H)))).1 6), .int ((hsz (hGiveAll H (hEachP H)) 7 (((hGiveAll H (hEachP H)).1 7) - ((hEachP H) * (hEnt H)))).1 7), .int ((hsz (hGiveAll H (hEachP H)) 7 (((hGiveAll H (hEachP H)).1 7) - ((hEachP H) * (hEnt H)))).1 8), .int (((hsz (hGiveAll H (hEachP H)) 7 (((hGiveAll H (hEachP H)).1 7) - ((hEachP H) * (hEnt H)))).1 9) + ((hEachP H) * (hEnt H))), .int ((hsz (hGiveAll H (hEachP H)) 7 (((hGiveAll H (hEachP H)).1 7) - ((hEachP H) * (hEnt H)))).1 10), .int ((hsz (hGiveAll H (hEachP H)) 7 (((hGiveAll H (hEachP H)).1 7) - ((hEachP H) * (hEnt H)))).1 11), .int ((hsz (hGiveAll H (hEachP H)) 7 (((hGiveAll H (hEachP H)).1 7) - ((hEachP H) * (hEnt H)))).1 12)])) (by decide) rfl)
              obtain ⟨N14_, hN14_⟩ : ∃ X : j_M, X = (j_put N13_ (A 0) (.inr (1, [.ref (A 1), .ref (A 3), .ref (A 4), .ref (A 5), .ref (A 6), .int ((hsz (hGiveAll H (hEachP H)) 7 (((hGiveAll H (hEachP H)).1 7) - ((hEachP H) * (hEnt H)))).1 5), .int ((hsz (hGiveAll H (hEachP H)) 7 (((hGiveAll H (hEachP H)).1 7) - ((hEachP H) * (hEnt H)))).1 6), .int ((hsz (hGiveAll H (hEachP H)) 7 (((hGiveAll H (hEachP H)).1 7) - ((hEachP H) * (hEnt H)))).1 7), .int ((hsz (hGiveAll H (hEachP H)) 7 (((hGiveAll H (hEachP H)).1 7) - ((hEachP H) * (hEnt H)))).1 8), .int (((hsz (hGiveAll H (hEachP H)) 7 (((hGiveAll H (hEachP H)).1 7) - ((hEachP H) * (hEnt H)))).1 9) + ((hEachP H) * (hEnt H))), .int ((hsz (hGiveAll H (hEachP H)) 7 (((hGiveAll H (hEachP H)).1 7) - ((hEachP H) * (hEnt H)))).1 10), .int ((hsz (hGiveAll H (hEachP H)) 7 (((hGiveAll H (hEachP H)).1 7) - ((hEachP H) * (hEnt H)))).1 11), .int ((hsz (hGiveAll H (hEachP H)) 7 (((hGiveAll H (hEachP H)).1 7) - ((hEachP H) * (hEnt H)))).1 12)]))) := ⟨_, rfl⟩
              rw [← hN14_] at hX14_
              refine j_mem (M' := N14_) hN14_ ?_
              refine j_iload_n dX1_feastIsHeld_140 rfl ?_
              refine j_iload_n dX1_feastIsHeld_141 rfl ?_
              refine j_imul dX1_feastIsHeld_142 ?_
              exact j_ireturn dX1_feastIsHeld_143 rfl (jr_i ⟨by unfold hFeastIs; rw [if_neg (by rw [hp_]; exact c14), if_neg c18], HAt.cast hX14_.1 (by unfold hFeastIs; rw [if_neg (by rw [hp_]; exact c14), if_neg c18]), ((hf9_.trans hX13_.2 (fun _ _ h => h) (fun _ _ h => hF_of (hCel_22 _ _ _ _ _) h) (Nat.le_refl _) (Nat.le_refl _)).trans hX14_.2 (fun _ _ h => h) (fun _ _ h => hF_of (hCel_22 _ _ _ _ _) h) (Nat.le_refl _) (Nat.le_refl _))⟩)
            · exact absurd (of_decide_eq_true c76) (by omega)
          | succ e ih_ =>
            intro k M_  hek hk8_ hne_ hA_ hI_ hP_ hf_  
            have h22_ : (mfold (hCel (H.2.1 0) 7 (gGive (hEachP H))) H k).2.2 = H.2.2 := hCel_22 _ _ _ _ _
            have hn22_ : hn (mfold (hCel (H.2.1 0) 7 (gGive (hEachP H))) H k) = hn H := congrArg (·.1) h22_
            have h0_ : (mfold (hCel (H.2.1 0) 7 (gGive (hEachP H))) H k).2.1 0 = H.2.1 0 := hCel_0 _ _ _ _ _
            refine j_aload_n dX1_feastIsHeld_70 rfl rfl ?_
            refine j_callF (X5_hasNext_m hA_.wf hI_ hk8_) dX1_feastIsHeld_71 mt_X5_hasNext q393 (by decide +kernel) rfl q397 q399 hI_ (by decide) rfl cd_X5_hasNext (Nat.le_of_ble_eq_true rfl) rfl rfl (Nat.le_of_ble_eq_true rfl) (jk_v ?_) jx_v
            refine j_ifeqB (tgt := 116) dX1_feastIsHeld_76 (by decide) (fun c76 => ?_) (fun c76 => ?_)
            · have hkn_ : k = 8 := by have := of_decide_eq_false c76; omega
              subst hkn_
              have hA9_ : HAt G W M_ A (hGiveAll H (hEachP H)) := hA_
              have hf9_ : jFr G (hF A H) M M_ 4 6 := hb0_.trans hf_ (fun _ _ h => h) (fun _ _ h => h) (by decide) (by decide)
              refine j_aload_n dX1_feastIsHeld_116 rfl rfl ?_
              refine j_dup dX1_feastIsHeld_117 rfl ?_
              refine j_get dX1_feastIsHeld_118 fd_X1_37_1 hA9_.house rfl ?_
              refine j_iload_n dX1_feastIsHeld_121 rfl ?_
              refine j_iload_n dX1_feastIsHeld_122 rfl ?_
              refine j_imul dX1_feastIsHeld_123 ?_
              refine j_isub dX1_feastIsHeld_124 ?_
              refine j_put_ dX1_feastIsHeld_125 fd_X1_37_1 cl_1 (fun r hr => ⟨(ft_1_7 r hr).1, Or.inl (ft_1_7 r hr).2.1⟩) hA9_.house (Or.inr (by decide)) rfl rfl (Nat.le_of_ble_eq_true rfl) ?_
              have hX15_ := (hA9_.setz (k := 7) (v := (((hGiveAll H (hEachP H)).1 7) - ((hEachP H) * (hEnt H)))) (e := .inr (1, [.ref (A 1), .ref (A 3), .ref (A 4), .ref (A 5), .ref (A 6), .int ((hGiveAll H (hEachP H)).1 5), .int ((hGiveAll H (hEachP H)).1 6), .int (((hGiveAll H (hEachP H)).1 7) - ((hEachP H) * (hEnt H))), .int ((hGiveAll H (hEachP H)).1 8), .int ((hGiveAll H (hEachP H)).1 9), .int ((hGiveAll H (hEachP H)).1 10), .int ((hGiveAll H (hEachP H)).1 11), .int ((hGiveAll H (hEachP H)).1 12)])) (by decide) rfl)
              obtain ⟨N15_, hN15_⟩ : ∃ X : j_M, X = (j_put M_ (A 0) (.inr (1, [.ref (A 1), .ref (A 3), .ref (A 4), .ref (A 5), .ref (A 6), .int ((hGiveAll H (hEachP H)).1 5), .int ((hGiveAll H (hEachP H)).1 6), .int (((hGiveAll H (hEachP H)).1 7) - ((hEachP H) * (hEnt H))), .int ((hGiveAll H (hEachP H)).1 8), .int ((hGiveAll H (hEachP H)).1 9), .int ((hGiveAll H (hEachP H)).1 10), .int ((hGiveAll H (hEachP H)).1 11), .int ((hGiveAll H (hEachP H)).1 12)]))) := ⟨_, rfl⟩
              rw [← hN15_] at hX15_
              refine j_mem (M' := N15_) hN15_ ?_
              refine j_aload_n dX1_feastIsHeld_128 rfl rfl ?_
              refine j_dup dX1_feastIsHeld_129 rfl ?_
              refine j_get dX1_feastIsHeld_130 fd_X1_100_1 hX15_.1.house rfl ?_
              refine j_iload_n dX1_feastIsHeld_133 rfl ?_
              refine j_iload_n dX1_feastIsHeld_134 rfl ?_
              refine j_imul dX1_feastIsHeld_135 ?_
              refine j_iadd dX1_feastIsHeld_136 ?_
              refine j_put_ dX1_feastIsHeld_137 fd_X1_100_1 cl_1 (fun r hr => ⟨(ft_1_9 r hr).1, Or.inl (ft_1_9 r hr).2.1⟩) hX15_.1.house (Or.inr (by decide)) rfl rfl (Nat.le_of_ble_eq_true rfl) ?_
              have hX16_ := (hX15_.1.setz (k := 9) (v := (((hsz (hGiveAll H (hEachP H)) 7 (((hGiveAll H (hEachP H)).1 7) - ((hEachP H) * (hEnt H)))).1 9) + ((hEachP H) * (hEnt H)))) (e := .inr (1, [.ref (A 1), .ref (A 3), .ref (A 4), .ref (A 5), .ref (A 6), .int ((hsz (hGiveAll H (hEachP H)) 7 (((hGiveAll H (hEachP H)).1 7) - ((hEachP H) * (hEnt H)))).1 5), .int ((hsz (hGiveAll H (hEachP H)) 7 (((hGiveAll H (hEachP H)).1 7) - ((hEachP H) * (hEnt H)))).1 6), .int ((hsz (hGiveAll H (hEachP H)) 7 (((hGiveAll H (hEachP H)).1 7) - ((hEachP H) * (hEnt H)))).1 7), .int ((hsz (hGiveAll H (hEachP H)) 7 (((hGiveAll H (hEachP H)).1 7) - ((hEachP H) * (hEnt H)))).1 8), .int (((hsz (hGiveAll H (hEachP H)) 7 (((hGiveAll H (hEachP H)).1 7) - ((hEachP H) * (hEnt H)))).1 9) + ((hEachP H) * (hEnt H))), .int ((hsz (hGiveAll H (hEachP H)) 7 (((hGiveAll H (hEachP H)).1 7) - ((hEachP H) * (hEnt H)))).1 10), .int ((hsz (hGiveAll H (hEachP H)) 7 (((hGiveAll H (hEachP H)).1 7) - ((hEachP H) * (hEnt H)))).1 11), .int ((hsz (hGiveAll H (hEachP H)) 7 (((hGiveAll H (hEachP H)).1 7) - ((hEachP H) * (hEnt H)))).1 12)])) (by decide) rfl)
              obtain ⟨N16_, hN16_⟩ : ∃ X : j_M, X = (j_put N15_ (A 0) (.inr (1, [.ref (A 1), .ref (A 3), .ref (A 4), .ref (A 5), .ref (A 6), .int ((hsz (hGiveAll H (hEachP H)) 7 (((hGiveAll H (hEachP H)).1 7) - ((hEachP H) * (hEnt H)))).1 5), .int ((hsz (hGiveAll H (hEachP H)) 7 (((hGiveAll H (hEachP H)).1 7) - ((hEachP H) * (hEnt H)))).1 6), .int ((hsz (hGiveAll H (hEachP H)) 7 (((hGiveAll H (hEachP H)).1 7) - ((hEachP H) * (hEnt H)))).1 7), .int ((hsz (hGiveAll H (hEachP H)) 7 (((hGiveAll H (hEachP H)).1 7) - ((hEachP H) * (hEnt H)))).1 8), .int (((hsz (hGiveAll H (hEachP H)) 7 (((hGiveAll H (hEachP H)).1 7) - ((hEachP H) * (hEnt H)))).1 9) + ((hEachP H) * (hEnt H))), .int ((hsz (hGiveAll H (hEachP H)) 7 (((hGiveAll H (hEachP H)).1 7) - ((hEachP H) * (hEnt H)))).1 10), .int ((hsz (hGiveAll H (hEachP H)) 7 (((hGiveAll H (hEachP H)).1 7) - ((hEachP H) * (hEnt H)))).1 11), .int ((hsz (hGiveAll H (hEachP H)) 7 (((hGiveAll H (hEachP H)).1 7) - ((hEachP H) * (hEnt H)))).1 12)]))) := ⟨_, rfl⟩
              rw [← hN16_] at hX16_
              refine j_mem (M' := N16_) hN16_ ?_
              refine j_iload_n dX1_feastIsHeld_140 rfl ?_
              refine j_iload_n dX1_feastIsHeld_141 rfl ?_
              refine j_imul dX1_feastIsHeld_142 ?_
              exact j_ireturn dX1_feastIsHeld_143 rfl (jr_i ⟨by unfold hFeastIs; rw [if_neg (by rw [hp_]; exact c14), if_neg c18], HAt.cast hX16_.1 (by unfold hFeastIs; rw [if_neg (by rw [hp_]; exact c14), if_neg c18]), ((hf9_.trans hX15_.2 (fun _ _ h => h) (fun _ _ h => hF_of (hCel_22 _ _ _ _ _) h) (Nat.le_refl _) (Nat.le_refl _)).trans hX16_.2 (fun _ _ h => h) (fun _ _ h => hF_of (hCel_22 _ _ _ _ _) h) (Nat.le_refl _) (Nat.le_refl _))⟩)
            · have hk_ : k < 8 := of_decide_eq_true c76
              obtain ⟨v, hv0_, hev_⟩ : ∃ v, v < hn H ∧ H.2.1 0 k = nI v := (hCO_ k hk_).resolve_left (hne_ hk_)
              have hv16_ : v < 16 := Nat.lt_of_lt_of_le hv0_ hH3_.2.1.1
              have hv_ : v < hn (mfold (hCel (H.2.1 0) 7 (gGive (hEachP H))) H k) := by rw [hn22_]; exact hv0_
              have hev2_ : (mfold (hCel (H.2.1 0) 7 (gGive (hEachP H))) H k).2.1 0 k = nI v := by rw [h0_]; exact hev_
              refine j_aload_n dX1_feastIsHeld_79 rfl rfl ?_
              refine j_callF (X5_next_m hA_ hI_ hP_ hk_ hv_ hev2_) dX1_feastIsHeld_80 mt_X5_next q439 (by decide +kernel) rfl q442 q444 hI_ (by decide) rfl cd_X5_next (Nat.le_of_ble_eq_true rfl) rfl rfl (Nat.le_of_ble_eq_true rfl) (jk_v ?_) jx_v
              rw [h0_]
              obtain ⟨M2_, hM2_⟩ : ∃ X : j_M, X = j_put M_ it3_ (.inr (5, [.int (nI (hNx (H.2.1 0) (k + 1))), .ref p3_])) := ⟨_, rfl⟩
              refine j_mem (M' := M2_) hM2_ ?_
              have hA2_ : HAt G W M2_ A (mfold (hCel (H.2.1 0) 7 (gGive (hEachP H))) H k) := by rw [hM2_]; exact hA_.putE hI_ rfl hq3_
              have hI2_ : M2_.1 it3_ = some (.inr (5, [.int (nI (hNx (H.2.1 0) (k + 1))), .ref p3_])) := by rw [hM2_]; exact j_peq
              have hP2_ : M2_.1 p3_ = some (.inr (7, [.ref (A 0)])) := by rw [hM2_]; exact j_pne hnp3_ hP_
              have hf2_ : jFr G (hF A H) N6_ M2_ 2 3 := by rw [hM2_]; exact hf_.stepp hI_ (fun h => absurd h (by omega))
              refine j_chk dX1_feastIsHeld_85 (hA2_.bro hv_) (by decide) rfl q857 (Or.inl rfl) ?_
              refine j_astore dX1_feastIsHeld_88 rfl (by decide) rfl ?_
              refine j_aload dX1_feastIsHeld_90 rfl rfl ?_
              refine j_dup dX1_feastIsHeld_92 rfl ?_
              refine j_get dX1_feastIsHeld_93 fd_X1_223_3 (hA2_.bro hv_) rfl ?_
              refine j_aload dX1_feastIsHeld_96 rfl rfl ?_
              refine j_callV (X3_isEntitled_m hA2_.wf (hA2_.bro hv_)) dX1_feastIsHeld_98 mt_X3_isEntitled q1525 q1526 q1527 (hA2_.bro hv_) (by decide) rfl cd_X3_isEntitled (Nat.le_of_ble_eq_true rfl) rfl rfl (Nat.le_of_ble_eq_true rfl) (jk_v ?_) jx_v
              refine j_ifeqB (tgt := 108) dX1_feastIsHeld_101 (by decide) (fun c101 => ?_) (fun c101 => ?_)
              · refine j_iconst (v := 0) dX1_feastIsHeld_108 (by decide) ?_
                refine j_iadd dX1_feastIsHeld_109 ?_
                refine j_put_ dX1_feastIsHeld_110 fd_X1_223_3 cl_3 (fun r hr => ⟨(ft_3_7 r hr).1, Or.inl (ft_3_7 r hr).2.1⟩) (hA2_.bro hv_) (Or.inr (by decide)) rfl rfl (Nat.le_of_ble_eq_true rfl) ?_
                have hX17_ := (hA2_.setb' (b := v) (f := (va_up ((mfold (hCel (H.2.1 0) 7 (gGive (hEachP H))) H k).2.1 (2 + v)) 7 ((hb (mfold (hCel (H.2.1 0) 7 (gGive (hEachP H))) H k) v 7) + 0))) (e := .inr (3, [.int (hb (mfold (hCel (H.2.1 0) 7 (gGive (hEachP H))) H k) v 0), .int (hb (mfold (hCel (H.2.1 0) 7 (gGive (hEachP H))) H k) v 1), .int (hb (mfold (hCel (H.2.1 0) 7 (gGive (hEachP H))) H k) v 2), .int (hb (mfold (hCel (H.2.1 0) 7 (gGive (hEachP H))) H k) v 3), .int (hb (mfold (hCel (H.2.1 0) 7 (gGive (hEachP H))) H k) v 4), .int (hb (mfold (hCel (H.2.1 0) 7 (gGive (hEachP H))) H k) v 5), .int (hb (mfold (hCel (H.2.1 0) 7 (gGive (hEachP H))) H k) v 6), .int ((hb (mfold (hCel (H.2.1 0) 7 (gGive (hEachP H))) H k) v 7) + 0), .int (hb (mfold (hCel (H.2.1 0) 7 (gGive (hEachP H))) H k) v 8), .ref (A (23 + v))])) hv_ rfl)
                obtain ⟨N17_, hN17_⟩ : ∃ X : j_M, X = (j_put M2_ (A (7 + v)) (.inr (3, [.int (hb (mfold (hCel (H.2.1 0) 7 (gGive (hEachP H))) H k) v 0), .int (hb (mfold (hCel (H.2.1 0) 7 (gGive (hEachP H))) H k) v 1), .int (hb (mfold (hCel (H.2.1 0) 7 (gGive (hEachP H))) H k) v 2), .int (hb (mfold (hCel (H.2.1 0) 7 (gGive (hEachP H))) H k) v 3), .int (hb (mfold (hCel (H.2.1 0) 7 (gGive (hEachP H))) H k) v 4), .int (hb (mfold (hCel (H.2.1 0) 7 (gGive (hEachP H))) H k) v 5), .int (hb (mfold (hCel (H.2.1 0) 7 (gGive (hEachP H))) H k) v 6), .int ((hb (mfold (hCel (H.2.1 0) 7 (gGive (hEachP H))) H k) v 7) + 0), .int (hb (mfold (hCel (H.2.1 0) 7 (gGive (hEachP H))) H k) v 8), .ref (A (23 + v))]))) := ⟨_, rfl⟩
                rw [← hN17_] at hX17_
                refine j_mem (M' := N17_) hN17_ ?_
                refine j_goto (tgt := 70) dX1_feastIsHeld_113 (by decide) ?_
                have hg_ := hNx_ge (f := H.2.1 0) (c := k + 1) (by omega)
                refine j_locs (ls2 := [(0, .ref (A 0)), (1, .int (hEnt H)), (2, .int (hEachP H)), (3, .ref it3_)]) ⟨rfl, rfl, rfl, rfl, trivial⟩ ?_
                exact ih_ (hNx (H.2.1 0) (k + 1)) _  (by omega) hg_.2 (fun h => hNx_at (by omega) h) (HAt.cast (H' := (mfold (hCel (H.2.1 0) 7 (gGive (hEachP H))) H (hNx (H.2.1 0) (k + 1)))) hX17_.1 ((((show (hsa (mfold (hCel (H.2.1 0) 7 (gGive (hEachP H))) H k) (2 + v) (va_up ((mfold (hCel (H.2.1 0) 7 (gGive (hEachP H))) H k).2.1 (2 + v)) 7 ((hb (mfold (hCel (H.2.1 0) 7 (gGive (hEachP H))) H k) v 7) + 0))) = hCel (H.2.1 0) 7 (gGive (hEachP H)) (mfold (hCel (H.2.1 0) 7 (gGive (hEachP H))) H k) k by rw [hCel_at (hne_ hk_) hev_ hv16_]; unfold hUps; first | rw [gGive_t (T := (mfold (hCel (H.2.1 0) 7 (gGive (hEachP H))) H k)) (v := v) c101] | rw [gGive_f (T := (mfold (hCel (H.2.1 0) 7 (gGive (hEachP H))) H k)) (v := v) c101])) : (hsa (mfold (hCel (H.2.1 0) 7 (gGive (hEachP H))) H k) (2 + v) (va_up ((mfold (hCel (H.2.1 0) 7 (gGive (hEachP H))) H k).2.1 (2 + v)) 7 ((hb (mfold (hCel (H.2.1 0) 7 (gGive (hEachP H))) H k) v 7) + 0))) = (mfold (hCel (H.2.1 0) 7 (gGive (hEachP H))) H (k + 1))).trans (mfold_skip hg_.1 (fun c t h1 h2 => if_pos (hNx_no h1 h2))).symm)) (hX17_.2.cell hA2_.wf hI2_ (hA2_.off hI2_ rfl)) (hX17_.2.cell hA2_.wf hP2_ (hA2_.off hP2_ rfl)) (hf2_.trans hX17_.2 (fun _ _ h => h) (fun _ _ h => hF_of h22_ h) (Nat.le_refl _) (Nat.le_refl _))  
              · refine j_iload_n dX1_feastIsHeld_104 rfl ?_
                refine j_goto (tgt := 109) dX1_feastIsHeld_105 (by decide) ?_
                refine j_iadd dX1_feastIsHeld_109 ?_
                refine j_put_ dX1_feastIsHeld_110 fd_X1_223_3 cl_3 (fun r hr => ⟨(ft_3_7 r hr).1, Or.inl (ft_3_7 r hr).2.1⟩) (hA2_.bro hv_) (Or.inr (by decide)) rfl rfl (Nat.le_of_ble_eq_true rfl) ?_
                have hX18_ := (hA2_.setb' (b := v) (f := (va_up ((mfold (hCel (H.2.1 0) 7 (gGive (hEachP H))) H k).2.1 (2 + v)) 7 ((hb (mfold (hCel (H.2.1 0) 7 (gGive (hEachP H))) H k) v 7) + (hEachP H)))) (e := .inr (3, [.int (hb (mfold (hCel (H.2.1 0) 7 (gGive (hEachP H))) H k) v 0), .int (hb (mfold (hCel (H.2.1 0) 7 (gGive (hEachP H))) H k) v 1), .int (hb (mfold (hCel (H.2.1 0) 7 (gGive (hEachP H))) H k) v 2), .int (hb (mfold (hCel (H.2.1 0) 7 (gGive (hEachP H))) H k) v 3), .int (hb (mfold (hCel (H.2.1 0) 7 (gGive (hEachP H))) H k) v 4), .int (hb (mfold (hCel (H.2.1 0) 7 (gGive (hEachP H))) H k) v 5), .int (hb (mfold (hCel (H.2.1 0) 7 (gGive (hEachP H))) H k) v 6), .int ((hb (mfold (hCel (H.2.1 0) 7 (gGive (hEachP H))) H k) v 7) + (hEachP H)), .int (hb (mfold (hCel (H.2.1 0) 7 (gGive (hEachP H))) H k) v 8), .ref (A (23 + v))])) hv_ rfl)
                obtain ⟨N18_, hN18_⟩ : ∃ X : j_M, X = (j_put M2_ (A (7 + v)) (.inr (3, [.int (hb (mfold (hCel (H.2.1 0) 7 (gGive (hEachP H))) H k) v 0), .int (hb (mfold (hCel (H.2.1 0) 7 (gGive (hEachP H))) H k) v 1), .int (hb (mfold (hCel (H.2.1 0) 7 (gGive (hEachP H))) H k) v 2), .int (hb (mfold (hCel (H.2.1 0) 7 (gGive (hEachP H))) H k) v 3), .int (hb (mfold (hCel (H.2.1 0) 7 (gGive (hEachP H))) H k) v 4), .int (hb (mfold (hCel (H.2.1 0) 7 (gGive (hEachP H))) H k) v 5), .int (hb (mfold (hCel (H.2.1 0) 7 (gGive (hEachP H))) H k) v 6), .int ((hb (mfold (hCel (H.2.1 0) 7 (gGive (hEachP H))) H k) v 7) + (hEachP H)), .int (hb (mfold (hCel (H.2.1 0) 7 (gGive (hEachP H))) H k) v 8), .ref (A (23 + v))]))) := ⟨_, rfl⟩
                rw [← hN18_] at hX18_
                refine j_mem (M' := N18_) hN18_ ?_
                refine j_goto (tgt := 70) dX1_feastIsHeld_113 (by decide) ?_
                have hg_ := hNx_ge (f := H.2.1 0) (c := k + 1) (by omega)
                refine j_locs (ls2 := [(0, .ref (A 0)), (1, .int (hEnt H)), (2, .int (hEachP H)), (3, .ref it3_)]) ⟨rfl, rfl, rfl, rfl, trivial⟩ ?_
                exact ih_ (hNx (H.2.1 0) (k + 1)) _  (by omega) hg_.2 (fun h => hNx_at (by omega) h) (HAt.cast (H' := (mfold (hCel (H.2.1 0) 7 (gGive (hEachP H))) H (hNx (H.2.1 0) (k + 1)))) hX18_.1 ((((show (hsa (mfold (hCel (H.2.1 0) 7 (gGive (hEachP H))) H k) (2 + v) (va_up ((mfold (hCel (H.2.1 0) 7 (gGive (hEachP H))) H k).2.1 (2 + v)) 7 ((hb (mfold (hCel (H.2.1 0) 7 (gGive (hEachP H))) H k) v 7) + (hEachP H)))) = hCel (H.2.1 0) 7 (gGive (hEachP H)) (mfold (hCel (H.2.1 0) 7 (gGive (hEachP H))) H k) k by rw [hCel_at (hne_ hk_) hev_ hv16_]; unfold hUps; first | rw [gGive_t (T := (mfold (hCel (H.2.1 0) 7 (gGive (hEachP H))) H k)) (v := v) c101] | rw [gGive_f (T := (mfold (hCel (H.2.1 0) 7 (gGive (hEachP H))) H k)) (v := v) c101])) : (hsa (mfold (hCel (H.2.1 0) 7 (gGive (hEachP H))) H k) (2 + v) (va_up ((mfold (hCel (H.2.1 0) 7 (gGive (hEachP H))) H k).2.1 (2 + v)) 7 ((hb (mfold (hCel (H.2.1 0) 7 (gGive (hEachP H))) H k) v 7) + (hEachP H)))) = (mfold (hCel (H.2.1 0) 7 (gGive (hEachP H))) H (k + 1))).trans (mfold_skip hg_.1 (fun c t h1 h2 => if_pos (hNx_no h1 h2))).symm)) (hX18_.2.cell hA2_.wf hI2_ (hA2_.off hI2_ rfl)) (hX18_.2.cell hA2_.wf hP2_ (hA2_.off hP2_ rfl)) (hf2_.trans hX18_.2 (fun _ _ h => h) (fun _ _ h => hF_of h22_ h) (Nat.le_refl _) (Nat.le_refl _))  
        have hg3_ := hNx_ge (f := H.2.1 0) (c := 0) (by decide)
        refine j_locs (ls2 := [(0, .ref (A 0)), (1, .int (hEnt H)), (2, .int (hEachP H)), (3, .ref it3_)]) ⟨rfl, rfl, rfl, rfl, trivial⟩ ?_
        exact lp3_ 8 (hNx (H.2.1 0) 0) M3_  (by omega) hg3_.2 (fun h => hNx_at (by decide) h) (HAt.cast (H' := (mfold (hCel (H.2.1 0) 7 (gGive (hEachP H))) H (hNx (H.2.1 0) 0))) hH3_ (mfold_skip (a := H) hg3_.1 (fun c t h1 h2 => if_pos (hNx_no h1 h2))).symm) hI3_ hQ3_ (hE3_.mono (fun _ _ q => False.elim q) (by decide) (by decide))  
    · refine j_iconst (v := 0) dX1_feastIsHeld_21 (by decide) ?_
      exact j_ireturn dX1_feastIsHeld_22 rfl (jr_i ⟨by unfold hFeastIs; first | rw [if_pos (by rw [hp_]; exact c14)] | rw [if_neg (by rw [hp_]; exact c14), if_pos c18], HAt.cast hY6_ (by unfold hFeastIs; first | rw [if_pos (by rw [hp_]; exact c14)] | rw [if_neg (by rw [hp_]; exact c14), if_pos c18]), ((jFr.refl hH.wf : jFr G (hF A H) M M 0 0).trans hX6_ (fun _ _ h => h) (fun _ _ h => False.elim h) (by decide) (by decide) : jFr G (hF A H) M N6_ 2 3).mono (fun _ _ h => h) (by decide) (by decide)⟩)

end K10
