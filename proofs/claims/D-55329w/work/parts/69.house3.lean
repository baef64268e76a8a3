section K3
variable {l : Launch} {G : j_G} {M : j_M} {W : jWt} {A : Nat → Nat} {H : HV}
theorem X1_comesIn_m (hH : HAt G W M A H) (p : Int32) : JM l G 1 yX1_comesIn wX1_comesIn [.ref (A 0), .int p] M (jr (fun v M' => v = none ∧ HAt G W M' A (hComesIn H p) ∧ jFr G (hF A H) M M' 0 0)) := by
  refine JM.of pn_X1 (Nat.le_of_ble_eq_true rfl) (hH.wf.1) ?_
  show JW l G 1 YX1_comesIn _ 0 [(0, .ref (A 0)), (1, .int p)] [] M
  refine j_iload_n dX1_comesIn_0 rfl ?_
  refine j_sipush (v := 9999) dX1_comesIn_1 (by decide) ?_
  refine j_aload_n dX1_comesIn_4 rfl rfl ?_
  refine j_get dX1_comesIn_5 fd_X1_37_1 hH.house rfl ?_
  refine j_isub dX1_comesIn_8 ?_
  refine j_mmin dX1_comesIn_9 q1484 q681 q119 q682 (Nat.le_of_ble_eq_true rfl) (Nat.le_of_ble_eq_true rfl) ?_
  refine j_istore_n dX1_comesIn_12 (by decide) rfl ?_
  refine j_aload_n dX1_comesIn_13 rfl rfl ?_
  refine j_dup dX1_comesIn_14 rfl ?_
  refine j_get dX1_comesIn_15 fd_X1_37_1 hH.house rfl ?_
  refine j_iload_n dX1_comesIn_18 rfl ?_
  refine j_iadd dX1_comesIn_19 ?_
  refine j_put_ dX1_comesIn_20 fd_X1_37_1 cl_1 (fun r hr => ⟨(ft_1_7 r hr).1, Or.inl (ft_1_7 r hr).2.1⟩) hH.house (Or.inr (by decide)) rfl rfl (Nat.le_of_ble_eq_true rfl) ?_
  have hX1_ := (hH.setz (k := 7) (v := ((H.1 7) + (if (9999 - (H.1 7)) < p then (9999 - (H.1 7)) else p))) (e := .inr (1, [.ref (A 1), .ref (A 3), .ref (A 4), .ref (A 5), .ref (A 6), .int (H.1 5), .int (H.1 6), .int ((H.1 7) + (if (9999 - (H.1 7)) < p then (9999 - (H.1 7)) else p)), .int (H.1 8), .int (H.1 9), .int (H.1 10), .int (H.1 11), .int (H.1 12)])) (by decide) rfl)
  obtain ⟨N1_, hN1_⟩ : ∃ X : j_M, X = (j_put M (A 0) (.inr (1, [.ref (A 1), .ref (A 3), .ref (A 4), .ref (A 5), .ref (A 6), .int (H.1 5), .int (H.1 6), .int ((H.1 7) + (if (9999 - (H.1 7)) < p then (9999 - (H.1 7)) else p)), .int (H.1 8), .int (H.1 9), .int (H.1 10), .int (H.1 11), .int (H.1 12)]))) := ⟨_, rfl⟩
  rw [← hN1_] at hX1_
  refine j_mem (M' := N1_) hN1_ ?_
  refine j_aload_n dX1_comesIn_23 rfl rfl ?_
  refine j_dup dX1_comesIn_24 rfl ?_
  refine j_get dX1_comesIn_25 fd_X1_97_1 hX1_.1.house rfl ?_
  refine j_iload_n dX1_comesIn_28 rfl ?_
  refine j_iadd dX1_comesIn_29 ?_
  refine j_put_ dX1_comesIn_30 fd_X1_97_1 cl_1 (fun r hr => ⟨(ft_1_8 r hr).1, Or.inl (ft_1_8 r hr).2.1⟩) hX1_.1.house (Or.inr (by decide)) rfl rfl (Nat.le_of_ble_eq_true rfl) ?_
  have hX2_ := (hX1_.1.setz (k := 8) (v := (((hsz H 7 ((H.1 7) + (if (9999 - (H.1 7)) < p then (9999 - (H.1 7)) else p))).1 8) + (if (9999 - (H.1 7)) < p then (9999 - (H.1 7)) else p))) (e := .inr (1, [.ref (A 1), .ref (A 3), .ref (A 4), .ref (A 5), .ref (A 6), .int ((hsz H 7 ((H.1 7) + (if (9999 - (H.1 7)) < p then (9999 - (H.1 7)) else p))).1 5), .int ((hsz H 7 ((H.1 7) + (if (9999 - (H.1 7)) < p then (9999 - (H.1 7)) else p))).1 6), .int ((hsz H 7 ((H.1 7) + (if (9999 - (H.1 7)) < p then (9999 - (H.1 7)) else p))).1 7), .int (((hsz H 7 ((H.1 7) + (if (9999 - (H.1 7)) < p then (9999 - (H.1 7)) else p))).1 8) + (if (9999 - (H.1 7)) < p then (9999 - (H.1 7)) else p)), .int ((hsz H 7 ((H.1 7) + (if (9999 - (H.1 7)) < p then (9999 - (H.1 7)) else p))).1 9), .int ((hsz H 7 ((H.1 7) + (if (9999 - (H.1 7)) < p then (9999 - (H.1 7)) else p))).1 10), .int ((hsz H 7 ((H.1 7) + (if (9999 - (H.1 7)) < p then (9999 - (H.1 7)) else p))).1 11), .int ((hsz H 7 ((H.1 7) + (if (9999 - (H.1 7)) < p then (9999 - (H.1 7)) else p))).1 12)])) (by decide) rfl)
  obtain ⟨N2_, hN2_⟩ : ∃ X : j_M, X = (j_put N1_ (A 0) (.inr (1, [.ref (A 1), .ref (A 3), .ref (A 4), .ref (A 5), .ref (A 6), .int ((hsz H 7 ((H.1 7) + (if (9999 - (H.1 7)) < p then (9999 - (H.1 7)) else p))).1 5), .int ((hsz H 7 ((H.1 7) + (if (9999 - (H.1 7)) < p then (9999 - (H.1 7)) else p))).1 6), .int ((hsz H 7 ((H.1 7) + (if (9999 - (H.1 7)) < p then (9999 - (H.1 7)) else p))).1 7), .int (((hsz H 7 ((H.1 7) + (if (9999 - (H.1 7)) < p then (9999 - (H.1 7)) else p))).1 8) + (if (9999 - (H.1 7)) < p then (9999 - (H.1 7)) else p)), .int ((hsz H 7 ((H.1 7) + (if (9999 - (H.1 7)) < p then (9999 - (H.1 7)) else p))).1 9), .int ((hsz H 7 ((H.1 7) + (if (9999 - (H.1 7)) < p then (9999 - (H.1 7)) else p))).1 10), .int ((hsz H 7 ((H.1 7) + (if (9999 - (H.1 7)) < p then (9999 - (H.1 7)) else p))).1 11), .int ((hsz H 7 ((H.1 7) + (if (9999 - (H.1 7)) < p then (9999 - (H.1 7)) else p))).1 12)]))) := ⟨_, rfl⟩
  rw [← hN2_] at hX2_
  refine j_mem (M' := N2_) hN2_ ?_
  exact j_return dX1_comesIn_33 rfl (jr_i ⟨rfl, hX2_.1, (((jFr.refl hH.wf : jFr G (hF A H) M M 0 0).trans hX1_.2 (fun _ _ h => h) (fun _ _ h => h) (Nat.le_refl _) (Nat.le_refl _)).trans hX2_.2 (fun _ _ h => h) (fun _ _ h => h) (Nat.le_refl _) (Nat.le_refl _)).mono (fun _ _ h => h) (by decide) (by decide)⟩)

theorem X1_isGiven_m (hH : HAt G W M A H) (p : Int32) : JM l G 2 yX1_isGiven wX1_isGiven [.ref (A 0), .int p] M (jr (fun v M' => v = some (.int ((hComesIn H p).1 7)) ∧ HAt G W M' A (hComesIn H p) ∧ jFr G (hF A H) M M' 0 0)) := by
  refine JM.of pn_X1 (Nat.le_of_ble_eq_true rfl) (hH.wf.1) ?_
  show JW l G 2 YX1_isGiven _ 0 [(0, .ref (A 0)), (1, .int p)] [] M
  refine j_aload_n dX1_isGiven_0 rfl rfl ?_
  refine j_iload_n dX1_isGiven_1 rfl ?_
  refine j_callV (X1_comesIn_m hH p) dX1_isGiven_2 mt_X1_comesIn q1480 q1482 qs18 hH.house (by decide) rfl cd_X1_comesIn (Nat.le_of_ble_eq_true rfl) rfl rfl (Nat.le_of_ble_eq_true rfl) (jk_r (fun v_ M_ hp_ => ?_)) jx_r
  obtain ⟨rfl, hX3_⟩ := hp_
  obtain ⟨N3_, hN3_⟩ : ∃ X : j_M, X = M_ := ⟨_, rfl⟩
  subst hN3_
  show JW _ _ _ _ _ _ _ [] N3_
  refine j_aload_n dX1_isGiven_5 rfl rfl ?_
  refine j_get dX1_isGiven_6 fd_X1_37_1 hX3_.1.house rfl ?_
  exact j_ireturn dX1_isGiven_9 rfl (jr_i ⟨rfl, hX3_.1, ((jFr.refl hH.wf : jFr G (hF A H) M M 0 0).trans hX3_.2 (fun _ _ h => h) (fun _ _ h => h) (by decide) (by decide) : jFr G (hF A H) M N3_ 0 0).mono (fun _ _ h => h) (by decide) (by decide)⟩)

theorem X1_noVoices_m (hH : HAt G W M A H) (x : Int32) : JM l G 3 yX1_noVoices wX1_noVoices [.ref (A 0), .int x] M (jr (fun v M' => v = none ∧ HAt G W M' A (hNoV H x (hn H)) ∧ jFr G (hF A H) M M' 1 4)) := by
  refine JM.of pn_X1 (Nat.le_of_ble_eq_true rfl) (hH.wf.1) ?_
  show JW l G 3 YX1_noVoices _ 0 [(0, .ref (A 0)), (1, .int x)] [] M
  refine j_aload_n dX1_noVoices_0 rfl rfl ?_
  refine j_get dX1_noVoices_1 fd_X1_14_1 hH.house rfl ?_
  refine j_callV (hH.biter) dX1_noVoices_4 mt_J2_iterator q367 q368 q369 hH.al (by decide) rfl cd_J2_iterator (Nat.le_of_ble_eq_true rfl) rfl rfl (Nat.le_of_ble_eq_true rfl) (jk_v ?_) jx_v
  obtain ⟨it1_, hit1_⟩ : ∃ q : Nat, q = M.2.1 := ⟨_, rfl⟩
  obtain ⟨M1_, hM1_⟩ : ∃ X : j_M, X = j_new M (bit H A 0 (-1)) 4 := ⟨_, rfl⟩
  rw [← hit1_, ← hM1_]
  have hI1_ : M1_.1 it1_ = some (bit H A 0 (-1)) := by rw [hM1_, hit1_]; exact j_neq
  have hH1_ : HAt G W M1_ A H := by rw [hM1_]; exact hH.newE
  have hE1_ : jEx G M M1_ 1 4 := by rw [hM1_]; exact jFr.new hH.wf
  have hq1_ : jB G ≤ it1_ := by rw [hit1_]; exact hH.wf.1
  have hqm1_ : M.2.1 ≤ it1_ := Nat.le_of_eq hit1_.symm
  refine j_astore_n dX1_noVoices_7 rfl (by decide) rfl ?_
  have lp1_ : ∀ (e k : Nat) (M_ : j_M) (lr : Int32) , e + k = hn H → HAt G W M_ A (hNoV H x k) → M_.1 it1_ = some (bit (hNoV H x k) A k lr) → jFr G (hF A H) M M_ 1 4 → JW l G 3 YX1_noVoices (jr (fun v M' => v = none ∧ HAt G W M' A (hNoV H x (hn H)) ∧ jFr G (hF A H) M M' 1 4)) 8 [(0, .ref (A 0)), (1, .int x), (2, .ref it1_)] [] M_ := by
    intro e
    induction e with
    | zero =>
      intro k M_ lr  hek hA_ hI_ hf_  
      have h22_ : ((hNoV H x k)).2.2 = H.2.2 := hNoV_22 H x k
      have hn22_ : hn (hNoV H x k) = hn H := congrArg (·.1) h22_
      refine j_aload_n dX1_noVoices_8 rfl rfl ?_
      refine j_callF (hA_.bhas hI_ (show k ≤ hn (hNoV H x k) by rw [hn22_]; omega)) dX1_noVoices_9 mt_J10_hasNext q393 (by decide +kernel) rfl q424 q426 hI_ (by decide) rfl cd_J10_hasNext (Nat.le_of_ble_eq_true rfl) rfl rfl (Nat.le_of_ble_eq_true rfl) (jk_v ?_) jx_v
      refine j_ifeqB (tgt := 51) dX1_noVoices_14 (by decide) (fun c14 => ?_) (fun c14 => ?_)
      · have hkn_ : k = hn H := by omega
        exact j_return dX1_noVoices_51 rfl (jr_i ⟨rfl, (by rw [← hkn_]; exact hA_), hf_⟩)
      · exact absurd (of_decide_eq_true c14) (by rw [hn22_]; omega)
    | succ e ih_ =>
      intro k M_ lr  hek hA_ hI_ hf_  
      have h22_ : ((hNoV H x k)).2.2 = H.2.2 := hNoV_22 H x k
      have hn22_ : hn (hNoV H x k) = hn H := congrArg (·.1) h22_
      refine j_aload_n dX1_noVoices_8 rfl rfl ?_
      refine j_callF (hA_.bhas hI_ (show k ≤ hn (hNoV H x k) by rw [hn22_]; omega)) dX1_noVoices_9 mt_J10_hasNext q393 (by decide +kernel) rfl q424 q426 hI_ (by decide) rfl cd_J10_hasNext (Nat.le_of_ble_eq_true rfl) rfl rfl (Nat.le_of_ble_eq_true rfl) (jk_v ?_) jx_v
      refine j_ifeqB (tgt := 51) dX1_noVoices_14 (by decide) (fun c14 => ?_) (fun c14 => ?_)
      · exact absurd c14 (by rw [decide_eq_true (show k < hn (hNoV H x k) by rw [hn22_]; omega)]; decide)
      · have hkH_ : k < hn H := by omega
        have hk_ : k < hn (hNoV H x k) := by rw [hn22_]; omega
        refine j_aload_n dX1_noVoices_17 rfl rfl ?_
        refine j_callF (hA_.bnext hI_ hk_) dX1_noVoices_18 mt_J10_next q439 (by decide +kernel) rfl q834 q836 hI_ (by decide) rfl cd_J10_next (Nat.le_of_ble_eq_true rfl) rfl rfl (Nat.le_of_ble_eq_true rfl) (jk_v ?_) jx_v
        obtain ⟨hA2_, hI2_, hf2_⟩ := hA_.bstep (lr2 := nI k) hI_ hq1_ hf_ (fun h => absurd h (by omega))
        obtain ⟨M2_, hM2_⟩ : ∃ X : j_M, X = j_put M_ it1_ (bit (hNoV H x k) A (k + 1) (nI k)) := ⟨_, rfl⟩
        rw [← hM2_] at hA2_ hI2_ hf2_  ⊢
        refine j_chk dX1_noVoices_23 (hA2_.bro hk_) (by decide) rfl q857 (Or.inl rfl) ?_
        refine j_astore_n dX1_noVoices_26 rfl (by decide) rfl ?_
        refine j_aload_n dX1_noVoices_27 rfl rfl ?_
        refine j_aload_n dX1_noVoices_28 rfl rfl ?_
        refine j_get dX1_noVoices_29 fd_X1_133_3 (hA2_.bro hk_) rfl ?_
        refine j_iload_n dX1_noVoices_32 rfl ?_
        refine j_icmp_ne (tgt := 41) dX1_noVoices_33 (by decide) (fun c33 => ?_) (fun c33 => ?_)
        · refine j_aload_n dX1_noVoices_41 rfl rfl ?_
          refine j_get dX1_noVoices_42 fd_X1_133_3 (hA2_.bro hk_) rfl ?_
          refine j_put_ dX1_noVoices_45 fd_X1_133_3 cl_3 (fun r hr => ⟨(ft_3_8 r hr).1, Or.inl (ft_3_8 r hr).2.1⟩) (hA2_.bro hk_) (Or.inr (by decide)) rfl rfl (Nat.le_of_ble_eq_true rfl) ?_
          have hX4_ := (hA2_.setb' (b := k) (f := (va_up ((hNoV H x k).2.1 (2 + k)) 8 (hb (hNoV H x k) k 8))) (e := .inr (3, [.int (hb (hNoV H x k) k 0), .int (hb (hNoV H x k) k 1), .int (hb (hNoV H x k) k 2), .int (hb (hNoV H x k) k 3), .int (hb (hNoV H x k) k 4), .int (hb (hNoV H x k) k 5), .int (hb (hNoV H x k) k 6), .int (hb (hNoV H x k) k 7), .int (hb (hNoV H x k) k 8), .ref (A (23 + k))])) hk_ rfl)
          obtain ⟨N4_, hN4_⟩ : ∃ X : j_M, X = (j_put M2_ (A (7 + k)) (.inr (3, [.int (hb (hNoV H x k) k 0), .int (hb (hNoV H x k) k 1), .int (hb (hNoV H x k) k 2), .int (hb (hNoV H x k) k 3), .int (hb (hNoV H x k) k 4), .int (hb (hNoV H x k) k 5), .int (hb (hNoV H x k) k 6), .int (hb (hNoV H x k) k 7), .int (hb (hNoV H x k) k 8), .ref (A (23 + k))]))) := ⟨_, rfl⟩
          rw [← hN4_] at hX4_
          refine j_mem (M' := N4_) hN4_ ?_
          refine j_goto (tgt := 8) dX1_noVoices_48 (by decide) ?_
          refine j_locs (ls2 := [(0, .ref (A 0)), (1, .int x), (2, .ref it1_)]) ⟨rfl, rfl, rfl, trivial⟩ ?_
          exact ih_ (k + 1) _ _  (by omega) (HAt.cast (H' := (hNoV H x (k + 1))) hX4_.1 (show (hsa (hNoV H x k) (2 + k) (va_up ((hNoV H x k).2.1 (2 + k)) 8 (hb (hNoV H x k) k 8))) = hNoVs x (hNoV H x k) k by unfold hNoVs; first | rw [if_pos c33] | rw [if_neg c33])) (hX4_.2.cell hA2_.wf hI2_ (hA2_.off hI2_ rfl)) (hf2_.trans hX4_.2 (fun _ _ h => h) (fun _ _ h => hF_of h22_ h) (Nat.le_refl _) (Nat.le_refl _))  
        · refine j_bipush (v := (-15)) dX1_noVoices_36 (by decide) ?_
          refine j_goto (tgt := 45) dX1_noVoices_38 (by decide) ?_
          refine j_put_ dX1_noVoices_45 fd_X1_133_3 cl_3 (fun r hr => ⟨(ft_3_8 r hr).1, Or.inl (ft_3_8 r hr).2.1⟩) (hA2_.bro hk_) (Or.inr (by decide)) rfl rfl (Nat.le_of_ble_eq_true rfl) ?_
          have hX5_ := (hA2_.setb' (b := k) (f := (va_up ((hNoV H x k).2.1 (2 + k)) 8 (-15))) (e := .inr (3, [.int (hb (hNoV H x k) k 0), .int (hb (hNoV H x k) k 1), .int (hb (hNoV H x k) k 2), .int (hb (hNoV H x k) k 3), .int (hb (hNoV H x k) k 4), .int (hb (hNoV H x k) k 5), .int (hb (hNoV H x k) k 6), .int (hb (hNoV H x k) k 7), .int (-15), .ref (A (23 + k))])) hk_ rfl)
          obtain ⟨N5_, hN5_⟩ : ∃ X : j_M, X = (j_put M2_ (A (7 + k)) (.inr (3, [.int (hb (hNoV H x k) k 0), .int (hb (hNoV H x k) k 1), .int (hb (hNoV H x k) k 2), .int (hb (hNoV H x k) k 3), .int (hb (hNoV H x k) k 4), .int (hb (hNoV H x k) k 5), .int (hb (hNoV H x k) k 6), .int (hb (hNoV H x k) k 7), .int (-15), .ref (A (23 + k))]))) := ⟨_, rfl⟩
          rw [← hN5_] at hX5_
          refine j_mem (M' := N5_) hN5_ ?_
          refine j_goto (tgt := 8) dX1_noVoices_48 (by decide) ?_
          refine j_locs (ls2 := [(0, .ref (A 0)), (1, .int x), (2, .ref it1_)]) ⟨rfl, rfl, rfl, trivial⟩ ?_
          exact ih_ (k + 1) _ _  (by omega) (HAt.cast (H' := (hNoV H x (k + 1))) hX5_.1 (show (hsa (hNoV H x k) (2 + k) (va_up ((hNoV H x k).2.1 (2 + k)) 8 (-15))) = hNoVs x (hNoV H x k) k by unfold hNoVs; first | rw [if_pos c33] | rw [if_neg c33])) (hX5_.2.cell hA2_.wf hI2_ (hA2_.off hI2_ rfl)) (hf2_.trans hX5_.2 (fun _ _ h => h) (fun _ _ h => hF_of h22_ h) (Nat.le_refl _) (Nat.le_refl _))  
  refine j_locs (ls2 := [(0, .ref (A 0)), (1, .int x), (2, .ref it1_)]) ⟨rfl, rfl, rfl, trivial⟩ ?_
  exact lp1_ (hn H) 0 M1_ (-1)  rfl hH1_ hI1_ (hE1_.mono (fun _ _ q => False.elim q) (by decide) (by decide))  

end K3
