section K2
variable {l : Launch} {G : j_G} {M : j_M} {W : jWt} {A : Nat → Nat} {H : HV}
theorem X1_has_m (hH : HAt G W M A H) (x : Int32) : JM l G 1 yX1_has wX1_has [.ref (A 0), .int x] M (jv (.int (jb (hHas H x))) M) := by
  refine JM.of pn_X1 (Nat.le_of_ble_eq_true rfl) (hH.wf.1) ?_
  show JW l G 1 YX1_has _ 0 [(0, .ref (A 0)), (1, .int x)] [] M
  refine j_iload_n dX1_has_0 rfl ?_
  refine j_iconst (v := 0) dX1_has_1 (by decide) ?_
  refine j_aload_n dX1_has_2 rfl rfl ?_
  refine j_get dX1_has_3 fd_X1_14_1 hH.house rfl ?_
  refine j_callV (J2_size_m hH.wf hH.al) dX1_has_6 mt_J2_size q1074 q412 q2595 hH.al (by decide) rfl cd_J2_size (Nat.le_of_ble_eq_true rfl) rfl rfl (Nat.le_of_ble_eq_true rfl) (jk_v ?_) jx_v
  refine j_iconst (v := 1) dX1_has_9 (by decide) ?_
  refine j_isub dX1_has_10 ?_
  refine j_callSN (X0_isIn_m hH.wf x 0 ((nI (hn H)) - 1)) dX1_has_11 mt_X0_isIn q1157 q359 cd_X0_isIn (Nat.le_of_ble_eq_true rfl) rfl rfl (Nat.le_of_ble_eq_true rfl) (jk_v ?_) jx_v
  exact j_zreturn dX1_has_14 rfl (nar_jb _) (rfl)

theorem X1_so_m (hH : HAt G W M A H) (x : Int32) : JM l G 3 yX1_so wX1_so [.ref (A 0), .int x] M (jr (fun v M' => v = some (.int (hSo H x)) ∧ jEx G M M' 1 4)) := by
  refine JM.of pn_X1 (Nat.le_of_ble_eq_true rfl) (hH.wf.1) ?_
  show JW l G 3 YX1_so _ 0 [(0, .ref (A 0)), (1, .int x)] [] M
  refine j_iconst (v := 0) dX1_so_0 (by decide) ?_
  refine j_istore_n dX1_so_1 (by decide) rfl ?_
  refine j_aload_n dX1_so_2 rfl rfl ?_
  refine j_get dX1_so_3 fd_X1_14_1 hH.house rfl ?_
  refine j_callV (hH.biter) dX1_so_6 mt_J2_iterator q367 q368 q369 hH.al (by decide) rfl cd_J2_iterator (Nat.le_of_ble_eq_true rfl) rfl rfl (Nat.le_of_ble_eq_true rfl) (jk_v ?_) jx_v
  obtain ⟨it1_, hit1_⟩ : ∃ q : Nat, q = M.2.1 := ⟨_, rfl⟩
  obtain ⟨M1_, hM1_⟩ : ∃ X : j_M, X = j_new M (bit H A 0 (-1)) 4 := ⟨_, rfl⟩
  rw [← hit1_, ← hM1_]
  have hI1_ : M1_.1 it1_ = some (bit H A 0 (-1)) := by rw [hM1_, hit1_]; exact j_neq
  have hH1_ : HAt G W M1_ A H := by rw [hM1_]; exact hH.newE
  have hE1_ : jEx G M M1_ 1 4 := by rw [hM1_]; exact jFr.new hH.wf
  have hq1_ : jB G ≤ it1_ := by rw [hit1_]; exact hH.wf.1
  have hqm1_ : M.2.1 ≤ it1_ := Nat.le_of_eq hit1_.symm
  refine j_astore_n dX1_so_9 rfl (by decide) rfl ?_
  have lp1_ : ∀ (e k : Nat) (M_ : j_M) (lr : Int32) (acc : Int32), e + k = hn H → HAt G W M_ A H → M_.1 it1_ = some (bit H A k lr) → jFr G jNo M M_ 1 4 → (acc = msum (fun b => jb (decide (hb H b 3 = x))) k) → JW l G 3 YX1_so (jr (fun v M' => v = some (.int (hSo H x)) ∧ jEx G M M' 1 4)) 10 [(0, .ref (A 0)), (1, .int x), (2, .int acc), (3, .ref it1_)] [] M_ := by
    intro e
    induction e with
    | zero =>
      intro k M_ lr acc hek hA_ hI_ hf_  hacc
      refine j_aload_n dX1_so_10 rfl rfl ?_
      refine j_callF (hA_.bhas hI_ (show k ≤ hn H by omega)) dX1_so_11 mt_J10_hasNext q393 (by decide +kernel) rfl q424 q426 hI_ (by decide) rfl cd_J10_hasNext (Nat.le_of_ble_eq_true rfl) rfl rfl (Nat.le_of_ble_eq_true rfl) (jk_v ?_) jx_v
      refine j_ifeqB (tgt := 50) dX1_so_16 (by decide) (fun c16 => ?_) (fun c16 => ?_)
      · have hkn_ : k = hn H := by omega
        refine j_iload_n dX1_so_50 rfl ?_
        exact j_ireturn dX1_so_51 rfl (jr_i ⟨by rw [hacc, hkn_]; rfl, hf_⟩)
      · exact absurd (of_decide_eq_true c16) (by omega)
    | succ e ih_ =>
      intro k M_ lr acc hek hA_ hI_ hf_  hacc
      refine j_aload_n dX1_so_10 rfl rfl ?_
      refine j_callF (hA_.bhas hI_ (show k ≤ hn H by omega)) dX1_so_11 mt_J10_hasNext q393 (by decide +kernel) rfl q424 q426 hI_ (by decide) rfl cd_J10_hasNext (Nat.le_of_ble_eq_true rfl) rfl rfl (Nat.le_of_ble_eq_true rfl) (jk_v ?_) jx_v
      refine j_ifeqB (tgt := 50) dX1_so_16 (by decide) (fun c16 => ?_) (fun c16 => ?_)
      · exact absurd c16 (by rw [decide_eq_true (show k < hn H by omega)]; decide)
      · have hkH_ : k < hn H := by omega
        have hk_ : k < hn H := by omega
        refine j_aload_n dX1_so_19 rfl rfl ?_
        refine j_callF (hA_.bnext hI_ hk_) dX1_so_20 mt_J10_next q439 (by decide +kernel) rfl q834 q836 hI_ (by decide) rfl cd_J10_next (Nat.le_of_ble_eq_true rfl) rfl rfl (Nat.le_of_ble_eq_true rfl) (jk_v ?_) jx_v
        obtain ⟨hA2_, hI2_, hf2_⟩ := hA_.bstep (lr2 := nI k) hI_ hq1_ hf_ (fun h => absurd h (by omega))
        obtain ⟨M2_, hM2_⟩ : ∃ X : j_M, X = j_put M_ it1_ (bit H A (k + 1) (nI k)) := ⟨_, rfl⟩
        rw [← hM2_] at hA2_ hI2_ hf2_  ⊢
        refine j_chk dX1_so_25 (hA2_.bro hk_) (by decide) rfl q857 (Or.inl rfl) ?_
        refine j_astore dX1_so_28 rfl (by decide) rfl ?_
        refine j_iload_n dX1_so_30 rfl ?_
        refine j_aload dX1_so_31 rfl rfl ?_
        refine j_get dX1_so_33 fd_X1_241_3 (hA2_.bro hk_) rfl ?_
        refine j_iload_n dX1_so_36 rfl ?_
        refine j_icmp_ne (tgt := 44) dX1_so_37 (by decide) (fun c37 => ?_) (fun c37 => ?_)
        · refine j_iconst (v := 0) dX1_so_44 (by decide) ?_
          refine j_iadd dX1_so_45 ?_
          refine j_istore_n dX1_so_46 (by decide) rfl ?_
          refine j_goto (tgt := 10) dX1_so_47 (by decide) ?_
          refine j_locs (ls2 := [(0, .ref (A 0)), (1, .int x), (2, .int (acc + 0)), (3, .ref it1_)]) ⟨rfl, rfl, rfl, rfl, trivial⟩ ?_
          exact ih_ (k + 1) _ _ (acc + 0) (by omega) hA2_ hI2_ hf2_  (by rw [hacc]; simp_all [msum, jb])
        · refine j_iconst (v := 1) dX1_so_40 (by decide) ?_
          refine j_goto (tgt := 45) dX1_so_41 (by decide) ?_
          refine j_iadd dX1_so_45 ?_
          refine j_istore_n dX1_so_46 (by decide) rfl ?_
          refine j_goto (tgt := 10) dX1_so_47 (by decide) ?_
          refine j_locs (ls2 := [(0, .ref (A 0)), (1, .int x), (2, .int (acc + 1)), (3, .ref it1_)]) ⟨rfl, rfl, rfl, rfl, trivial⟩ ?_
          exact ih_ (k + 1) _ _ (acc + 1) (by omega) hA2_ hI2_ hf2_  (by rw [hacc]; simp_all [msum, jb])
  refine j_locs (ls2 := [(0, .ref (A 0)), (1, .int x), (2, .int 0), (3, .ref it1_)]) ⟨rfl, rfl, rfl, rfl, trivial⟩ ?_
  exact lp1_ (hn H) 0 M1_ (-1) 0 rfl hH1_ hI1_ (hE1_.mono (fun _ _ q => False.elim q) (by decide) (by decide))  rfl

theorem X1_voices_m (hH : HAt G W M A H) {b : Nat} (hbn : b < hn H) : JM l G 3 yX1_voices wX1_voices [.ref (A 0), .int (nI b)] M (jr (fun v M' => v = some (.int (hVoices H b)) ∧ jEx G M M' 1 4)) := by
  refine JM.of pn_X1 (Nat.le_of_ble_eq_true rfl) (hH.wf.1) ?_
  show JW l G 3 YX1_voices _ 0 [(0, .ref (A 0)), (1, .int (nI b))] [] M
  refine j_iconst (v := 0) dX1_voices_0 (by decide) ?_
  refine j_istore_n dX1_voices_1 (by decide) rfl ?_
  refine j_aload_n dX1_voices_2 rfl rfl ?_
  refine j_get dX1_voices_3 fd_X1_14_1 hH.house rfl ?_
  refine j_callV (hH.biter) dX1_voices_6 mt_J2_iterator q367 q368 q369 hH.al (by decide) rfl cd_J2_iterator (Nat.le_of_ble_eq_true rfl) rfl rfl (Nat.le_of_ble_eq_true rfl) (jk_v ?_) jx_v
  obtain ⟨it2_, hit2_⟩ : ∃ q : Nat, q = M.2.1 := ⟨_, rfl⟩
  obtain ⟨M2_, hM2_⟩ : ∃ X : j_M, X = j_new M (bit H A 0 (-1)) 4 := ⟨_, rfl⟩
  rw [← hit2_, ← hM2_]
  have hI2_ : M2_.1 it2_ = some (bit H A 0 (-1)) := by rw [hM2_, hit2_]; exact j_neq
  have hH2_ : HAt G W M2_ A H := by rw [hM2_]; exact hH.newE
  have hE2_ : jEx G M M2_ 1 4 := by rw [hM2_]; exact jFr.new hH.wf
  have hq2_ : jB G ≤ it2_ := by rw [hit2_]; exact hH.wf.1
  have hqm2_ : M.2.1 ≤ it2_ := Nat.le_of_eq hit2_.symm
  refine j_astore_n dX1_voices_9 rfl (by decide) rfl ?_
  have lp2_ : ∀ (e k : Nat) (M_ : j_M) (lr : Int32) (acc : Int32), e + k = hn H → HAt G W M_ A H → M_.1 it2_ = some (bit H A k lr) → jFr G jNo M M_ 1 4 → (acc = msum (fun q => jb (decide (hb H q 8 = nI b))) k) → JW l G 3 YX1_voices (jr (fun v M' => v = some (.int (hVoices H b)) ∧ jEx G M M' 1 4)) 10 [(0, .ref (A 0)), (1, .int (nI b)), (2, .int acc), (3, .ref it2_)] [] M_ := by
    intro e
    induction e with
    | zero =>
      intro k M_ lr acc hek hA_ hI_ hf_  hacc
      refine j_aload_n dX1_voices_10 rfl rfl ?_
      refine j_callF (hA_.bhas hI_ (show k ≤ hn H by omega)) dX1_voices_11 mt_J10_hasNext q393 (by decide +kernel) rfl q424 q426 hI_ (by decide) rfl cd_J10_hasNext (Nat.le_of_ble_eq_true rfl) rfl rfl (Nat.le_of_ble_eq_true rfl) (jk_v ?_) jx_v
      refine j_ifeqB (tgt := 50) dX1_voices_16 (by decide) (fun c16 => ?_) (fun c16 => ?_)
      · have hkn_ : k = hn H := by omega
        have hv_ : acc = hVoiceSum H (nI b) := by rw [hacc, hkn_]; rfl
        refine j_aload_n dX1_voices_50 rfl rfl ?_
        refine j_get dX1_voices_51 fd_X1_14_1 hA_.house rfl ?_
        refine j_iload_n dX1_voices_54 rfl ?_
        refine j_callV (hA_.get (b := b) hbn) dX1_voices_55 mt_J2_get q1162 q518 q519 hA_.al (by decide) rfl cd_J2_get (Nat.le_of_ble_eq_true rfl) rfl rfl (Nat.le_of_ble_eq_true rfl) (jk_v ?_) jx_v
        refine j_chk dX1_voices_58 (hA_.bro hbn) (by decide) rfl q857 (Or.inl rfl) ?_
        refine j_get dX1_voices_61 fd_X1_154_3 (hA_.bro hbn) rfl ?_
        refine j_if_eq (tgt := 73) dX1_voices_64 (by decide) (fun c64 => ?_) (fun c64 => ?_)
        · refine j_iload_n dX1_voices_73 rfl ?_
          exact j_ireturn dX1_voices_74 rfl (jr_i ⟨by unfold hVoices; rw [← hv_]; first | rw [if_pos c64] | rw [if_neg c64], hf_⟩)
        · refine j_iconst (v := 2) dX1_voices_67 (by decide) ?_
          refine j_iload_n dX1_voices_68 rfl ?_
          refine j_imul dX1_voices_69 ?_
          refine j_goto (tgt := 74) dX1_voices_70 (by decide) ?_
          exact j_ireturn dX1_voices_74 rfl (jr_i ⟨by unfold hVoices; rw [← hv_]; first | rw [if_pos c64] | rw [if_neg c64], hf_⟩)
      · exact absurd (of_decide_eq_true c16) (by omega)
    | succ e ih_ =>
      intro k M_ lr acc hek hA_ hI_ hf_  hacc
      refine j_aload_n dX1_voices_10 rfl rfl ?_
      refine j_callF (hA_.bhas hI_ (show k ≤ hn H by omega)) dX1_voices_11 mt_J10_hasNext q393 (by decide +kernel) rfl q424 q426 hI_ (by decide) rfl cd_J10_hasNext (Nat.le_of_ble_eq_true rfl) rfl rfl (Nat.le_of_ble_eq_true rfl) (jk_v ?_) jx_v
      refine j_ifeqB (tgt := 50) dX1_voices_16 (by decide) (fun c16 => ?_) (fun c16 => ?_)
      · exact absurd c16 (by rw [decide_eq_true (show k < hn H by omega)]; decide)
      · have hkH_ : k < hn H := by omega
        have hk_ : k < hn H := by omega
        refine j_aload_n dX1_voices_19 rfl rfl ?_
        refine j_callF (hA_.bnext hI_ hk_) dX1_voices_20 mt_J10_next q439 (by decide +kernel) rfl q834 q836 hI_ (by decide) rfl cd_J10_next (Nat.le_of_ble_eq_true rfl) rfl rfl (Nat.le_of_ble_eq_true rfl) (jk_v ?_) jx_v
        obtain ⟨hA2_, hI2_, hf2_⟩ := hA_.bstep (lr2 := nI k) hI_ hq2_ hf_ (fun h => absurd h (by omega))
        obtain ⟨M2_, hM2_⟩ : ∃ X : j_M, X = j_put M_ it2_ (bit H A (k + 1) (nI k)) := ⟨_, rfl⟩
        rw [← hM2_] at hA2_ hI2_ hf2_  ⊢
        refine j_chk dX1_voices_25 (hA2_.bro hk_) (by decide) rfl q857 (Or.inl rfl) ?_
        refine j_astore dX1_voices_28 rfl (by decide) rfl ?_
        refine j_iload_n dX1_voices_30 rfl ?_
        refine j_aload dX1_voices_31 rfl rfl ?_
        refine j_get dX1_voices_33 fd_X1_133_3 (hA2_.bro hk_) rfl ?_
        refine j_iload_n dX1_voices_36 rfl ?_
        refine j_icmp_ne (tgt := 44) dX1_voices_37 (by decide) (fun c37 => ?_) (fun c37 => ?_)
        · refine j_iconst (v := 0) dX1_voices_44 (by decide) ?_
          refine j_iadd dX1_voices_45 ?_
          refine j_istore_n dX1_voices_46 (by decide) rfl ?_
          refine j_goto (tgt := 10) dX1_voices_47 (by decide) ?_
          refine j_locs (ls2 := [(0, .ref (A 0)), (1, .int (nI b)), (2, .int (acc + 0)), (3, .ref it2_)]) ⟨rfl, rfl, rfl, rfl, trivial⟩ ?_
          exact ih_ (k + 1) _ _ (acc + 0) (by omega) hA2_ hI2_ hf2_  (by rw [hacc]; simp_all [msum, jb])
        · refine j_iconst (v := 1) dX1_voices_40 (by decide) ?_
          refine j_goto (tgt := 45) dX1_voices_41 (by decide) ?_
          refine j_iadd dX1_voices_45 ?_
          refine j_istore_n dX1_voices_46 (by decide) rfl ?_
          refine j_goto (tgt := 10) dX1_voices_47 (by decide) ?_
          refine j_locs (ls2 := [(0, .ref (A 0)), (1, .int (nI b)), (2, .int (acc + 1)), (3, .ref it2_)]) ⟨rfl, rfl, rfl, rfl, trivial⟩ ?_
          exact ih_ (k + 1) _ _ (acc + 1) (by omega) hA2_ hI2_ hf2_  (by rw [hacc]; simp_all [msum, jb])
  refine j_locs (ls2 := [(0, .ref (A 0)), (1, .int (nI b)), (2, .int 0), (3, .ref it2_)]) ⟨rfl, rfl, rfl, rfl, trivial⟩ ?_
  exact lp2_ (hn H) 0 M2_ (-1) 0 rfl hH2_ hI2_ (hE2_.mono (fun _ _ q => False.elim q) (by decide) (by decide))  rfl

end K2
