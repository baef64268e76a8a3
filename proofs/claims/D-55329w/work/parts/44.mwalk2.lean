section M2
variable {l : Launch} {G : j_G} {M : j_M} {L : Nat → Nat}
theorem mm_X2_voicesGo (hO : mOK G M L) (s : MS) {n : Nat} (hn : s.2 0 2 = nI n) (hn16 : n ≤ 16) {b : Nat} (hb : b < 16) : JM l G 2 yX2_voicesGo wX2_voicesGo [.ref (L 0), .int (nI b)] (mput M L s) (jn (mput M L (mVoicesGo s n b))) := by
  refine JM.of pn_X2 (Nat.le_of_ble_eq_true rfl) (hO.1.1) ?_
  show JW l G 2 YX2_voicesGo _ 0 [(0, .ref (L 0)), (1, .int (nI b))] [] (mput M L s)
  refine j_aload_n dX2_voicesGo_0 rfl rfl ?_
  refine j_iload_n dX2_voicesGo_1 rfl ?_
  refine j_iconst (v := 1) dX2_voicesGo_2 (by decide) ?_
  refine j_callV (mm_X2_isSo hO s (b := b) (by omega) 1) dX2_voicesGo_3 mt_X2_isSo q2244 q2246 qs46 (hO.at s (i := 0) (by decide)) (by decide) rfl cd_X2_isSo (Nat.le_of_ble_eq_true rfl) rfl rfl (Nat.le_of_ble_eq_true rfl) (jk_v ?_) jx_v
  refine j_ifneB (tgt := 17) dX2_voicesGo_6 (by decide) (fun c6 => ?_) (fun c6 => ?_)
  · refine j_aload_n dX2_voicesGo_17 rfl rfl ?_
    refine j_iload_n dX2_voicesGo_18 rfl ?_
    refine j_iconst (v := 0) dX2_voicesGo_19 (by decide) ?_
    refine j_callV (mm_X2_isSo hO s (b := b) (by omega) 0) dX2_voicesGo_20 mt_X2_isSo q2244 q2246 qs46 (hO.at s (i := 0) (by decide)) (by decide) rfl cd_X2_isSo (Nat.le_of_ble_eq_true rfl) rfl rfl (Nat.le_of_ble_eq_true rfl) (jk_v ?_) jx_v
    refine j_ifeqB (tgt := 27) dX2_voicesGo_23 (by decide) (fun c23 => ?_) (fun c23 => ?_)
    · refine j_iconst (v := 0) dX2_voicesGo_27 (by decide) ?_
      refine j_istore_n dX2_voicesGo_28 (by decide) rfl ?_
      -- loop at 29
      refine j_mem (M' := mput M L (mClear (mGo1 s b) b 0)) (congrArg (mput M L) (show mClear (mGo1 s b) b 0 = s by simp_all [mGo1, mClear, mfold])) ?_
      have l1_ : ∀ (fu_ : Nat) (k : Nat), n - k < fu_ → (k ≤ n) → JW l G 2 YX2_voicesGo (jn (mput M L (mVoicesGo s n b))) 29 [(0, .ref (L 0)), (1, .int (nI b)), (2, .int (nI k))] [] (mput M L (mClear (mGo1 s b) b k)) := by
        intro fu_
        induction fu_ with
        | zero => intro k hf_; exact absurd hf_ (Nat.not_lt_zero _)
        | succ fu_ ih_ =>
          intro k hf_ hk
          refine j_iload_n dX2_voicesGo_29 rfl ?_
          refine j_aload_n dX2_voicesGo_30 rfl rfl ?_
          refine mj_get hO dX2_voicesGo_31 fd_X2_7_2 rfl ?_
          refine j_iconst (v := 2) dX2_voicesGo_34 (by decide) ?_
          refine mj_iald (j := 0) (i := 2) hO dX2_voicesGo_35 (by decide) rfl (by decide) ?_
          refine j_icmp_ge (tgt := 66) dX2_voicesGo_36 (by decide) (fun q1_ => ?_) (fun q1_ => ?_)
          · obtain rfl : n = k := (n_end (show (mClear (mGo1 s b) b k).2 0 2 = nI n by simp only [mset_2, mStamps_2, mBecomes_2, mVoicesGo_2, mClear_2, mGo1_2, mThinks_2, mRemembers_2, mNot_2, mRef_2, mGive_2, mFeastComes_2, mBans_2, mRents_2, mAges_2, mYear0_2, mYear_2, mWeekOn_2, mWeekGoes_2, mWeeksGo_2, mComesIn_2, mGownStep_2, mwset1_2]; exact hn) hn16 hk q1_).symm
            exact j_return dX2_voicesGo_66 rfl (mjn (by simp_all [mVoicesGo, mGo1, mSo]))
          · have hk_ := n_on (show (mClear (mGo1 s b) b k).2 0 2 = nI n by simp only [mset_2, mStamps_2, mBecomes_2, mVoicesGo_2, mClear_2, mGo1_2, mThinks_2, mRemembers_2, mNot_2, mRef_2, mGive_2, mFeastComes_2, mBans_2, mRents_2, mAges_2, mYear0_2, mYear_2, mWeekOn_2, mWeekGoes_2, mWeeksGo_2, mComesIn_2, mGownStep_2, mwset1_2]; exact hn) hn16 q1_ hk
            refine j_aload_n dX2_voicesGo_39 rfl rfl ?_
            refine j_iload_n dX2_voicesGo_40 rfl ?_
            refine j_bipush (v := 7) dX2_voicesGo_41 (by decide) ?_
            refine j_callV (mm_X2_of hO (mClear (mGo1 s b) b k) (b := k) (k := 7) (by omega) (by omega)) dX2_voicesGo_43 mt_X2_of q2248 q2250 qs47 (hO.at (mClear (mGo1 s b) b k) (i := 0) (by decide)) (by decide) rfl cd_X2_of (Nat.le_of_ble_eq_true rfl) rfl rfl (Nat.le_of_ble_eq_true rfl) (jk_v ?_) jx_v
            refine j_iload_n dX2_voicesGo_46 rfl ?_
            refine j_iconst (v := 1) dX2_voicesGo_47 (by decide) ?_
            refine j_iadd dX2_voicesGo_48 ?_
            refine j_icmp_ne (tgt := 60) dX2_voicesGo_49 (by decide) (fun c49 => ?_) (fun c49 => ?_)
            · refine j_iinc (v := nI (k + 1)) dX2_voicesGo_60 rfl (nI_1 _) (by decide) rfl ?_
              refine j_goto (tgt := 29) dX2_voicesGo_63 (by decide) ?_
              refine j_mem (M' := mput M L (mClear (mGo1 s b) b (k + 1))) (congrArg (mput M L) (by first | exact if_pos (by assumption) | exact if_neg (by assumption) | exact if_neg (by simp_all) | exact if_pos (by simp_all))) ?_
              refine j_locs (ls2 := [(0, .ref (L 0)), (1, .int (nI b)), (2, .int (nI (k + 1)))]) ⟨rfl, rfl, rfl, trivial⟩ (ih_ (k + 1) (by omega) (by omega))
            · refine j_aload_n dX2_voicesGo_52 rfl rfl ?_
              refine j_iload_n dX2_voicesGo_53 rfl ?_
              refine j_bipush (v := 7) dX2_voicesGo_54 (by decide) ?_
              refine j_iconst (v := 0) dX2_voicesGo_56 (by decide) ?_
              refine j_callV (mm_X2_sets hO (mClear (mGo1 s b) b k) (b := k) (k := 7) (by omega) (by omega) 0) dX2_voicesGo_57 mt_X2_sets q2228 q2230 qs43 (hO.at (mClear (mGo1 s b) b k) (i := 0) (by decide)) (by decide) rfl cd_X2_sets (Nat.le_of_ble_eq_true rfl) rfl rfl (Nat.le_of_ble_eq_true rfl) (jk_n ?_) jx_n
              refine j_iinc (v := nI (k + 1)) dX2_voicesGo_60 rfl (nI_1 _) (by decide) rfl ?_
              refine j_goto (tgt := 29) dX2_voicesGo_63 (by decide) ?_
              refine j_mem (M' := mput M L (mClear (mGo1 s b) b (k + 1))) (congrArg (mput M L) (by first | exact if_pos (by assumption) | exact if_neg (by assumption) | exact if_neg (by simp_all) | exact if_pos (by simp_all))) ?_
              refine j_locs (ls2 := [(0, .ref (L 0)), (1, .int (nI b)), (2, .int (nI (k + 1)))]) ⟨rfl, rfl, rfl, trivial⟩ (ih_ (k + 1) (by omega) (by omega))
      refine j_locs (ls2 := [(0, .ref (L 0)), (1, .int (nI b)), (2, .int (nI 0))]) ⟨rfl, rfl, rfl, trivial⟩ ?_
      exact l1_ _ 0 (Nat.lt_succ_self _) (Nat.zero_le _)
    · exact j_return dX2_voicesGo_26 rfl (mjn (by simp_all [mVoicesGo, mGo1, mSo]))
  · refine j_aload_n dX2_voicesGo_9 rfl rfl ?_
    refine j_iload_n dX2_voicesGo_10 rfl ?_
    refine j_bipush (v := 7) dX2_voicesGo_11 (by decide) ?_
    refine j_iconst (v := 0) dX2_voicesGo_13 (by decide) ?_
    refine j_callV (mm_X2_sets hO s (b := b) (k := 7) (by omega) (by omega) 0) dX2_voicesGo_14 mt_X2_sets q2228 q2230 qs43 (hO.at s (i := 0) (by decide)) (by decide) rfl cd_X2_sets (Nat.le_of_ble_eq_true rfl) rfl rfl (Nat.le_of_ble_eq_true rfl) (jk_n ?_) jx_n
    refine j_aload_n dX2_voicesGo_17 rfl rfl ?_
    refine j_iload_n dX2_voicesGo_18 rfl ?_
    refine j_iconst (v := 0) dX2_voicesGo_19 (by decide) ?_
    refine j_callV (mm_X2_isSo hO (mset s b 7 0) (b := b) (by omega) 0) dX2_voicesGo_20 mt_X2_isSo q2244 q2246 qs46 (hO.at (mset s b 7 0) (i := 0) (by decide)) (by decide) rfl cd_X2_isSo (Nat.le_of_ble_eq_true rfl) rfl rfl (Nat.le_of_ble_eq_true rfl) (jk_v ?_) jx_v
    refine j_ifeqB (tgt := 27) dX2_voicesGo_23 (by decide) (fun c23 => ?_) (fun c23 => ?_)
    · refine j_iconst (v := 0) dX2_voicesGo_27 (by decide) ?_
      refine j_istore_n dX2_voicesGo_28 (by decide) rfl ?_
      -- loop at 29
      refine j_mem (M' := mput M L (mClear (mGo1 s b) b 0)) (congrArg (mput M L) (show mClear (mGo1 s b) b 0 = mset s b 7 0 by simp_all [mGo1, mClear, mfold])) ?_
      have l2_ : ∀ (fu_ : Nat) (k : Nat), n - k < fu_ → (k ≤ n) → JW l G 2 YX2_voicesGo (jn (mput M L (mVoicesGo s n b))) 29 [(0, .ref (L 0)), (1, .int (nI b)), (2, .int (nI k))] [] (mput M L (mClear (mGo1 s b) b k)) := by
        intro fu_
        induction fu_ with
        | zero => intro k hf_; exact absurd hf_ (Nat.not_lt_zero _)
        | succ fu_ ih_ =>
          intro k hf_ hk
          refine j_iload_n dX2_voicesGo_29 rfl ?_
          refine j_aload_n dX2_voicesGo_30 rfl rfl ?_
          refine mj_get hO dX2_voicesGo_31 fd_X2_7_2 rfl ?_
          refine j_iconst (v := 2) dX2_voicesGo_34 (by decide) ?_
          refine mj_iald (j := 0) (i := 2) hO dX2_voicesGo_35 (by decide) rfl (by decide) ?_
          refine j_icmp_ge (tgt := 66) dX2_voicesGo_36 (by decide) (fun q2_ => ?_) (fun q2_ => ?_)
          · obtain rfl : n = k := (n_end (show (mClear (mGo1 s b) b k).2 0 2 = nI n by simp only [mset_2, mStamps_2, mBecomes_2, mVoicesGo_2, mClear_2, mGo1_2, mThinks_2, mRemembers_2, mNot_2, mRef_2, mGive_2, mFeastComes_2, mBans_2, mRents_2, mAges_2, mYear0_2, mYear_2, mWeekOn_2, mWeekGoes_2, mWeeksGo_2, mComesIn_2, mGownStep_2, mwset1_2]; exact hn) hn16 hk q2_).symm
            exact j_return dX2_voicesGo_66 rfl (mjn (by simp_all [mVoicesGo, mGo1, mSo]))
          · have hk_ := n_on (show (mClear (mGo1 s b) b k).2 0 2 = nI n by simp only [mset_2, mStamps_2, mBecomes_2, mVoicesGo_2, mClear_2, mGo1_2, mThinks_2, mRemembers_2, mNot_2, mRef_2, mGive_2, mFeastComes_2, mBans_2, mRents_2, mAges_2, mYear0_2, mYear_2, mWeekOn_2, mWeekGoes_2, mWeeksGo_2, mComesIn_2, mGownStep_2, mwset1_2]; exact hn) hn16 q2_ hk
            refine j_aload_n dX2_voicesGo_39 rfl rfl ?_
            refine j_iload_n dX2_voicesGo_40 rfl ?_
            refine j_bipush (v := 7) dX2_voicesGo_41 (by decide) ?_
            refine j_callV (mm_X2_of hO (mClear (mGo1 s b) b k) (b := k) (k := 7) (by omega) (by omega)) dX2_voicesGo_43 mt_X2_of q2248 q2250 qs47 (hO.at (mClear (mGo1 s b) b k) (i := 0) (by decide)) (by decide) rfl cd_X2_of (Nat.le_of_ble_eq_true rfl) rfl rfl (Nat.le_of_ble_eq_true rfl) (jk_v ?_) jx_v
            refine j_iload_n dX2_voicesGo_46 rfl ?_
            refine j_iconst (v := 1) dX2_voicesGo_47 (by decide) ?_
            refine j_iadd dX2_voicesGo_48 ?_
            refine j_icmp_ne (tgt := 60) dX2_voicesGo_49 (by decide) (fun c49 => ?_) (fun c49 => ?_)
            · refine j_iinc (v := nI (k + 1)) dX2_voicesGo_60 rfl (nI_1 _) (by decide) rfl ?_
              refine j_goto (tgt := 29) dX2_voicesGo_63 (by decide) ?_
              refine j_mem (M' := mput M L (mClear (mGo1 s b) b (k + 1))) (congrArg (mput M L) (by first | exact if_pos (by assumption) | exact if_neg (by assumption) | exact if_neg (by simp_all) | exact if_pos (by simp_all))) ?_
              refine j_locs (ls2 := [(0, .ref (L 0)), (1, .int (nI b)), (2, .int (nI (k + 1)))]) ⟨rfl, rfl, rfl, trivial⟩ (ih_ (k + 1) (by omega) (by omega))
            · refine j_aload_n dX2_voicesGo_52 rfl rfl ?_
              refine j_iload_n dX2_voicesGo_53 rfl ?_
              refine j_bipush (v := 7) dX2_voicesGo_54 (by decide) ?_
              refine j_iconst (v := 0) dX2_voicesGo_56 (by decide) ?_
              refine j_callV (mm_X2_sets hO (mClear (mGo1 s b) b k) (b := k) (k := 7) (by omega) (by omega) 0) dX2_voicesGo_57 mt_X2_sets q2228 q2230 qs43 (hO.at (mClear (mGo1 s b) b k) (i := 0) (by decide)) (by decide) rfl cd_X2_sets (Nat.le_of_ble_eq_true rfl) rfl rfl (Nat.le_of_ble_eq_true rfl) (jk_n ?_) jx_n
              refine j_iinc (v := nI (k + 1)) dX2_voicesGo_60 rfl (nI_1 _) (by decide) rfl ?_
              refine j_goto (tgt := 29) dX2_voicesGo_63 (by decide) ?_
              refine j_mem (M' := mput M L (mClear (mGo1 s b) b (k + 1))) (congrArg (mput M L) (by first | exact if_pos (by assumption) | exact if_neg (by assumption) | exact if_neg (by simp_all) | exact if_pos (by simp_all))) ?_
              refine j_locs (ls2 := [(0, .ref (L 0)), (1, .int (nI b)), (2, .int (nI (k + 1)))]) ⟨rfl, rfl, rfl, trivial⟩ (ih_ (k + 1) (by omega) (by omega))
      refine j_locs (ls2 := [(0, .ref (L 0)), (1, .int (nI b)), (2, .int (nI 0))]) ⟨rfl, rfl, rfl, trivial⟩ ?_
      exact l2_ _ 0 (Nat.lt_succ_self _) (Nat.zero_le _)
    · exact j_return dX2_voicesGo_26 rfl (mjn (by simp_all [mVoicesGo, mGo1, mSo]))

theorem mm_X2_becomes (hO : mOK G M L) (s : MS) {n : Nat} (hn : s.2 0 2 = nI n) (hn16 : n ≤ 16) {b : Nat} (hb : b < 16) (how : Int32) : JM l G 3 yX2_becomes wX2_becomes [.ref (L 0), .int (nI b), .int how] (mput M L s) (jn (mput M L (mBecomes s n b how))) := by
  refine JM.of pn_X2 (Nat.le_of_ble_eq_true rfl) (hO.1.1) ?_
  show JW l G 3 YX2_becomes _ 0 [(0, .ref (L 0)), (1, .int (nI b)), (2, .int how)] [] (mput M L s)
  refine j_aload_n dX2_becomes_0 rfl rfl ?_
  refine j_iload_n dX2_becomes_1 rfl ?_
  refine j_iconst (v := 2) dX2_becomes_2 (by decide) ?_
  refine j_iload_n dX2_becomes_3 rfl ?_
  refine j_callV (mm_X2_sets hO s (b := b) (k := 2) (by omega) (by omega) how) dX2_becomes_4 mt_X2_sets q2228 q2230 qs43 (hO.at s (i := 0) (by decide)) (by decide) rfl cd_X2_sets (Nat.le_of_ble_eq_true rfl) rfl rfl (Nat.le_of_ble_eq_true rfl) (jk_n ?_) jx_n
  refine j_aload_n dX2_becomes_7 rfl rfl ?_
  refine j_iload_n dX2_becomes_8 rfl ?_
  refine j_iconst (v := 5) dX2_becomes_9 (by decide) ?_
  refine j_iconst (v := 0) dX2_becomes_10 (by decide) ?_
  refine j_callV (mm_X2_sets hO (mset s b 2 how) (b := b) (k := 5) (by omega) (by omega) 0) dX2_becomes_11 mt_X2_sets q2228 q2230 qs43 (hO.at (mset s b 2 how) (i := 0) (by decide)) (by decide) rfl cd_X2_sets (Nat.le_of_ble_eq_true rfl) rfl rfl (Nat.le_of_ble_eq_true rfl) (jk_n ?_) jx_n
  refine j_aload_n dX2_becomes_14 rfl rfl ?_
  refine j_iload_n dX2_becomes_15 rfl ?_
  refine j_callV (mm_X2_voicesGo hO (mset (mset s b 2 how) b 5 0) (show (mset (mset s b 2 how) b 5 0).2 0 2 = nI n by simp only [mset_2, mStamps_2, mBecomes_2, mVoicesGo_2, mClear_2, mGo1_2, mThinks_2, mRemembers_2, mNot_2, mRef_2, mGive_2, mFeastComes_2, mBans_2, mRents_2, mAges_2, mYear0_2, mYear_2, mWeekOn_2, mWeekGoes_2, mWeeksGo_2, mComesIn_2, mGownStep_2, mwset1_2]; exact hn) hn16 (b := b) (by omega)) dX2_becomes_16 mt_X2_voicesGo q2256 q2258 qs49 (hO.at (mset (mset s b 2 how) b 5 0) (i := 0) (by decide)) (by decide) rfl cd_X2_voicesGo (Nat.le_of_ble_eq_true rfl) rfl rfl (Nat.le_of_ble_eq_true rfl) (jk_n ?_) jx_n
  exact j_return dX2_becomes_19 rfl (mjn rfl)

theorem mm_X2_thinks (hO : mOK G M L) (s : MS) : JM l G 0 yX2_thinks wX2_thinks [.ref (L 0)] (mput M L s) (jn (mput M L (mThinks s))) := by
  refine JM.of pn_X2 (Nat.le_of_ble_eq_true rfl) (hO.1.1) ?_
  show JW l G 0 YX2_thinks _ 0 [(0, .ref (L 0))] [] (mput M L s)
  refine j_iconst (v := 0) dX2_thinks_0 (by decide) ?_
  refine j_istore_n dX2_thinks_1 (by decide) rfl ?_
  -- loop at 2
  refine j_mem (M' := mput M L (mCp s 3 (s.2 0) 0)) (congrArg (mput M L) (mCp_0 s 3 (s.2 0))) ?_
  have l3_ : ∀ (fu_ : Nat) (k : Nat), 320 - k < fu_ → (k ≤ 320) → JW l G 0 YX2_thinks (jn (mput M L (mThinks s))) 2 [(0, .ref (L 0)), (1, .int (nI k))] [] (mput M L (mCp s 3 (s.2 0) k)) := by
    intro fu_
    induction fu_ with
    | zero => intro k hf_; exact absurd hf_ (Nat.not_lt_zero _)
    | succ fu_ ih_ =>
      intro k hf_ hk
      refine j_iload_n dX2_thinks_2 rfl ?_
      refine j_sipush (v := 320) dX2_thinks_3 (by decide) ?_
      refine j_icmp_ge (tgt := 27) dX2_thinks_6 (by decide) (fun q3_ => ?_) (fun q3_ => ?_)
      · obtain rfl : k = 320 := c_end (n := 320) (by decide) hk q3_
        exact j_return dX2_thinks_27 rfl (mjn rfl)
      · have hk_ : k < 320 := c_on (n := 320) (by decide) q3_ hk
        refine j_aload_n dX2_thinks_9 rfl rfl ?_
        refine mj_get hO dX2_thinks_10 fd_X2_19_2 rfl ?_
        refine j_iload_n dX2_thinks_13 rfl ?_
        refine j_aload_n dX2_thinks_14 rfl rfl ?_
        refine mj_get hO dX2_thinks_15 fd_X2_7_2 rfl ?_
        refine j_iload_n dX2_thinks_18 rfl ?_
        refine mj_iald (j := 0) (i := k) hO dX2_thinks_19 (by decide) rfl (by show _ < 320; omega) ?_
        refine mj_iast (j := 3) (i := k) hO dX2_thinks_20 (by decide) rfl (by show _ < 320; omega) ?_
        refine j_iinc (v := nI (k + 1)) dX2_thinks_21 rfl (nI_1 _) (by decide) rfl ?_
        refine j_goto (tgt := 2) dX2_thinks_24 (by decide) ?_
        refine j_mem (M' := mput M L (mCp s 3 (s.2 0) (k + 1))) (congrArg (mput M L) (mCp_step s 3 (s.2 0) k rfl)) ?_
        refine j_locs (ls2 := [(0, .ref (L 0)), (1, .int (nI (k + 1)))]) ⟨rfl, rfl, trivial⟩ (ih_ (k + 1) (by omega) (by omega))
  refine j_locs (ls2 := [(0, .ref (L 0)), (1, .int (nI 0))]) ⟨rfl, rfl, trivial⟩ ?_
  exact l3_ _ 0 (Nat.lt_succ_self _) (Nat.zero_le _)

theorem mm_X2_forgets (hO : mOK G M L) (s : MS) : JM l G 0 yX2_forgets wX2_forgets [.ref (L 0)] (mput M L s) (jn (mput M L (mForgets s))) := by
  refine JM.of pn_X2 (Nat.le_of_ble_eq_true rfl) (hO.1.1) ?_
  show JW l G 0 YX2_forgets _ 0 [(0, .ref (L 0))] [] (mput M L s)
  refine j_iconst (v := 0) dX2_forgets_0 (by decide) ?_
  refine j_istore_n dX2_forgets_1 (by decide) rfl ?_
  -- loop at 2
  refine j_mem (M' := mput M L (mCp s 0 (s.2 3) 0)) (congrArg (mput M L) (mCp_0 s 0 (s.2 3))) ?_
  have l4_ : ∀ (fu_ : Nat) (k : Nat), 320 - k < fu_ → (k ≤ 320) → JW l G 0 YX2_forgets (jn (mput M L (mForgets s))) 2 [(0, .ref (L 0)), (1, .int (nI k))] [] (mput M L (mCp s 0 (s.2 3) k)) := by
    intro fu_
    induction fu_ with
    | zero => intro k hf_; exact absurd hf_ (Nat.not_lt_zero _)
    | succ fu_ ih_ =>
      intro k hf_ hk
      refine j_iload_n dX2_forgets_2 rfl ?_
      refine j_sipush (v := 320) dX2_forgets_3 (by decide) ?_
      refine j_icmp_ge (tgt := 27) dX2_forgets_6 (by decide) (fun q4_ => ?_) (fun q4_ => ?_)
      · obtain rfl : k = 320 := c_end (n := 320) (by decide) hk q4_
        exact j_return dX2_forgets_27 rfl (mjn rfl)
      · have hk_ : k < 320 := c_on (n := 320) (by decide) q4_ hk
        refine j_aload_n dX2_forgets_9 rfl rfl ?_
        refine mj_get hO dX2_forgets_10 fd_X2_7_2 rfl ?_
        refine j_iload_n dX2_forgets_13 rfl ?_
        refine j_aload_n dX2_forgets_14 rfl rfl ?_
        refine mj_get hO dX2_forgets_15 fd_X2_19_2 rfl ?_
        refine j_iload_n dX2_forgets_18 rfl ?_
        refine mj_iald (j := 3) (i := k) hO dX2_forgets_19 (by decide) rfl (by show _ < 320; omega) ?_
        refine mj_iast (j := 0) (i := k) hO dX2_forgets_20 (by decide) rfl (by show _ < 320; omega) ?_
        refine j_iinc (v := nI (k + 1)) dX2_forgets_21 rfl (nI_1 _) (by decide) rfl ?_
        refine j_goto (tgt := 2) dX2_forgets_24 (by decide) ?_
        refine j_mem (M' := mput M L (mCp s 0 (s.2 3) (k + 1))) (congrArg (mput M L) (mCp_step s 0 (s.2 3) k rfl)) ?_
        refine j_locs (ls2 := [(0, .ref (L 0)), (1, .int (nI (k + 1)))]) ⟨rfl, rfl, trivial⟩ (ih_ (k + 1) (by omega) (by omega))
  refine j_locs (ls2 := [(0, .ref (L 0)), (1, .int (nI 0))]) ⟨rfl, rfl, trivial⟩ ?_
  exact l4_ _ 0 (Nat.lt_succ_self _) (Nat.zero_le _)

theorem mm_X2_keepsMind (hO : mOK G M L) (s : MS) {c f : Nat} (hc : s.1 8 = nI c) (hf : s.1 9 = nI f) (hc8 : c ≤ 8) (hf8 : f < 8) : JM l G 0 yX2_keepsMind wX2_keepsMind [.ref (L 0)] (mput M L s) (jn (mput M L (mKeeps s c f))) := by
  refine JM.of pn_X2 (Nat.le_of_ble_eq_true rfl) (hO.1.1) ?_
  show JW l G 0 YX2_keepsMind _ 0 [(0, .ref (L 0))] [] (mput M L s)
  refine j_aload_n dX2_keepsMind_0 rfl rfl ?_
  refine mj_get hO dX2_keepsMind_1 fd_X2_48_2 rfl ?_
  refine j_bipush (v := 8) dX2_keepsMind_4 (by decide) ?_
  refine j_icmp_ne (tgt := 32) dX2_keepsMind_6 (by decide) (fun c6 => ?_) (fun c6 => ?_)
  · refine j_aload_n dX2_keepsMind_32 rfl rfl ?_
    refine mj_get hO dX2_keepsMind_33 fd_X2_51_2 rfl ?_
    refine j_aload_n dX2_keepsMind_36 rfl rfl ?_
    refine mj_get hO dX2_keepsMind_37 fd_X2_48_2 rfl ?_
    refine j_iadd dX2_keepsMind_40 ?_
    refine j_bipush (v := 8) dX2_keepsMind_41 (by decide) ?_
    refine j_irem dX2_keepsMind_43 (by decide) ?_
    refine j_istore_n dX2_keepsMind_44 (by decide) rfl ?_
    refine j_iconst (v := 0) dX2_keepsMind_45 (by decide) ?_
    refine j_istore_n dX2_keepsMind_46 (by decide) rfl ?_
    have eu_ : s = ms_z (ms_z s 9 (nI (kF c f))) 8 (nI (kC c)) := by
      have hk_ : (s.1 8 = 8) = (c = 8) := propext (by rw [hc, show (8 : Int32) = nI 8 from rfl, nI_eq (by omega) (by decide)])
      have hc_ : ¬ c = 8 := by simpa only [hk_] using c6
      rw [show kF c f = f from if_neg hc_, show kC c = c from if_neg hc_, ms_z_self s hf, ms_z_self s hc]
    have et_ : (((s.1 9) + (s.1 8)) - ((s.1 9) + (s.1 8)) / 8 * 8) = nI (kTo c f) := by
      show ((s).1 9 + (s).1 8) - ((s).1 9 + (s).1 8) / 8 * 8 = _
      rw [eu_]
      show (nI (kF c f) + nI (kC c)) - (nI (kF c f) + nI (kC c)) / nI 8 * nI 8 = _
      have h1 : kF c f < 8 := by unfold kF; split <;> omega
      have h2 : kC c < 8 := by unfold kC; split <;> omega
      rw [nI_add, pk_rem (by omega) (by decide) (by decide)]; rfl
    have ht8_ : kTo c f < 8 := Nat.mod_lt _ (by decide)
    rw [et_]
    rw [eu_]
    -- loop at 47
    refine j_mem (M' := mput M L (mUnd (ms_z (ms_z s 9 (nI (kF c f))) 8 (nI (kC c))) (kTo c f) 0)) (congrArg (mput M L) (mUnd_0 (ms_z (ms_z s 9 (nI (kF c f))) 8 (nI (kC c))) (kTo c f))) ?_
    have l5_ : ∀ (fu_ : Nat) (k : Nat), 320 - k < fu_ → (k ≤ 320) → JW l G 0 YX2_keepsMind (jn (mput M L (mKeeps s c f))) 47 [(0, .ref (L 0)), (1, .int (nI (kTo c f))), (2, .int (nI k))] [] (mput M L (mUnd (ms_z (ms_z s 9 (nI (kF c f))) 8 (nI (kC c))) (kTo c f) k)) := by
      intro fu_
      induction fu_ with
      | zero => intro k hf_; exact absurd hf_ (Nat.not_lt_zero _)
      | succ fu_ ih_ =>
        intro k hf_ hk
        refine j_iload_n dX2_keepsMind_47 rfl ?_
        refine j_sipush (v := 320) dX2_keepsMind_48 (by decide) ?_
        refine j_icmp_ge (tgt := 78) dX2_keepsMind_51 (by decide) (fun q5_ => ?_) (fun q5_ => ?_)
        · obtain rfl : k = 320 := c_end (n := 320) (by decide) hk q5_
          refine j_aload_n dX2_keepsMind_78 rfl rfl ?_
          refine j_dup dX2_keepsMind_79 rfl ?_
          refine mj_get hO dX2_keepsMind_80 fd_X2_48_2 rfl ?_
          refine j_iconst (v := 1) dX2_keepsMind_83 (by decide) ?_
          refine j_iadd dX2_keepsMind_84 ?_
          refine mj_put hO dX2_keepsMind_85 fd_X2_48_2 rfl (fun r hr => ⟨(ft_2_8 r hr).1, (ft_2_8 r hr).2.1⟩) rfl rfl ?_
          exact j_return dX2_keepsMind_88 rfl (mjn (by show ms_z _ 8 (nI (kC c) + 1) = _; rw [nI_1]; rfl))
        · have hk_ : k < 320 := c_on (n := 320) (by decide) q5_ hk
          refine j_aload_n dX2_keepsMind_54 rfl rfl ?_
          refine mj_get hO dX2_keepsMind_55 fd_X2_13_2 rfl ?_
          refine j_sipush (v := 320) dX2_keepsMind_58 (by decide) ?_
          refine j_iload_n dX2_keepsMind_61 rfl ?_
          refine j_imul dX2_keepsMind_62 ?_
          refine j_iload_n dX2_keepsMind_63 rfl ?_
          refine j_iadd dX2_keepsMind_64 ?_
          refine j_aload_n dX2_keepsMind_65 rfl rfl ?_
          refine mj_get hO dX2_keepsMind_66 fd_X2_19_2 rfl ?_
          refine j_iload_n dX2_keepsMind_69 rfl ?_
          refine mj_iald (j := 3) (i := k) hO dX2_keepsMind_70 (by decide) rfl (by show _ < 320; omega) ?_
          refine mj_iast (j := 1) (i := (320 * kTo c f + k)) hO dX2_keepsMind_71 (by decide) (m_ix320 _ _) (by show _ < 2560; omega) ?_
          refine j_iinc (v := nI (k + 1)) dX2_keepsMind_72 rfl (nI_1 _) (by decide) rfl ?_
          refine j_goto (tgt := 47) dX2_keepsMind_75 (by decide) ?_
          refine j_mem (M' := mput M L (mUnd (ms_z (ms_z s 9 (nI (kF c f))) 8 (nI (kC c))) (kTo c f) (k + 1))) (congrArg (mput M L) (mUnd_step (ms_z (ms_z s 9 (nI (kF c f))) 8 (nI (kC c))) (kTo c f) k)) ?_
          refine j_locs (ls2 := [(0, .ref (L 0)), (1, .int (nI (kTo c f))), (2, .int (nI (k + 1)))]) ⟨rfl, rfl, rfl, trivial⟩ (ih_ (k + 1) (by omega) (by omega))
    refine j_locs (ls2 := [(0, .ref (L 0)), (1, .int (nI (kTo c f))), (2, .int (nI 0))]) ⟨rfl, rfl, rfl, trivial⟩ ?_
    exact l5_ _ 0 (Nat.lt_succ_self _) (Nat.zero_le _)
  · refine j_aload_n dX2_keepsMind_9 rfl rfl ?_
    refine j_aload_n dX2_keepsMind_10 rfl rfl ?_
    refine mj_get hO dX2_keepsMind_11 fd_X2_51_2 rfl ?_
    refine j_iconst (v := 1) dX2_keepsMind_14 (by decide) ?_
    refine j_iadd dX2_keepsMind_15 ?_
    refine j_bipush (v := 8) dX2_keepsMind_16 (by decide) ?_
    refine j_irem dX2_keepsMind_18 (by decide) ?_
    refine mj_put hO dX2_keepsMind_19 fd_X2_51_2 rfl (fun r hr => ⟨(ft_2_9 r hr).1, (ft_2_9 r hr).2.1⟩) rfl rfl ?_
    refine j_aload_n dX2_keepsMind_22 rfl rfl ?_
    refine j_dup dX2_keepsMind_23 rfl ?_
    refine mj_get hO dX2_keepsMind_24 fd_X2_48_2 rfl ?_
    refine j_iconst (v := 1) dX2_keepsMind_27 (by decide) ?_
    refine j_isub dX2_keepsMind_28 ?_
    refine mj_put hO dX2_keepsMind_29 fd_X2_48_2 rfl (fun r hr => ⟨(ft_2_8 r hr).1, (ft_2_8 r hr).2.1⟩) rfl rfl ?_
    refine j_aload_n dX2_keepsMind_32 rfl rfl ?_
    refine mj_get hO dX2_keepsMind_33 fd_X2_51_2 rfl ?_
    refine j_aload_n dX2_keepsMind_36 rfl rfl ?_
    refine mj_get hO dX2_keepsMind_37 fd_X2_48_2 rfl ?_
    refine j_iadd dX2_keepsMind_40 ?_
    refine j_bipush (v := 8) dX2_keepsMind_41 (by decide) ?_
    refine j_irem dX2_keepsMind_43 (by decide) ?_
    refine j_istore_n dX2_keepsMind_44 (by decide) rfl ?_
    refine j_iconst (v := 0) dX2_keepsMind_45 (by decide) ?_
    refine j_istore_n dX2_keepsMind_46 (by decide) rfl ?_
    have eu_ : (ms_z (ms_z s 9 (((s.1 9) + 1) - ((s.1 9) + 1) / 8 * 8)) 8 (((ms_z s 9 (((s.1 9) + 1) - ((s.1 9) + 1) / 8 * 8)).1 8) - 1)) = ms_z (ms_z s 9 (nI (kF c f))) 8 (nI (kC c)) := by
      have hk_ : (s.1 8 = 8) = (c = 8) := propext (by rw [hc, show (8 : Int32) = nI 8 from rfl, nI_eq (by omega) (by decide)])
      have hc_ : c = 8 := by simpa only [hk_] using c6
      subst hc_
      show ms_z (ms_z s 9 (s.1 9 + 1 - (s.1 9 + 1) / 8 * 8)) 8 (s.1 8 - 1) = _
      rw [hc, hf, show (8 : Int32) = nI 8 from rfl, nI_1, pk_rem (by omega) (by decide) (by decide)]
      rfl
    have et_ : ((((ms_z (ms_z s 9 (((s.1 9) + 1) - ((s.1 9) + 1) / 8 * 8)) 8 (((ms_z s 9 (((s.1 9) + 1) - ((s.1 9) + 1) / 8 * 8)).1 8) - 1)).1 9) + ((ms_z (ms_z s 9 (((s.1 9) + 1) - ((s.1 9) + 1) / 8 * 8)) 8 (((ms_z s 9 (((s.1 9) + 1) - ((s.1 9) + 1) / 8 * 8)).1 8) - 1)).1 8)) - (((ms_z (ms_z s 9 (((s.1 9) + 1) - ((s.1 9) + 1) / 8 * 8)) 8 (((ms_z s 9 (((s.1 9) + 1) - ((s.1 9) + 1) / 8 * 8)).1 8) - 1)).1 9) + ((ms_z (ms_z s 9 (((s.1 9) + 1) - ((s.1 9) + 1) / 8 * 8)) 8 (((ms_z s 9 (((s.1 9) + 1) - ((s.1 9) + 1) / 8 * 8)).1 8) - 1)).1 8)) / 8 * 8) = nI (kTo c f) := by
      show (((ms_z (ms_z s 9 (((s.1 9) + 1) - ((s.1 9) + 1) / 8 * 8)) 8 (((ms_z s 9 (((s.1 9) + 1) - ((s.1 9) + 1) / 8 * 8)).1 8) - 1))).1 9 + ((ms_z (ms_z s 9 (((s.1 9) + 1) - ((s.1 9) + 1) / 8 * 8)) 8 (((ms_z s 9 (((s.1 9) + 1) - ((s.1 9) + 1) / 8 * 8)).1 8) - 1))).1 8) - (((ms_z (ms_z s 9 (((s.1 9) + 1) - ((s.1 9) + 1) / 8 * 8)) 8 (((ms_z s 9 (((s.1 9) + 1) - ((s.1 9) + 1) / 8 * 8)).1 8) - 1))).1 9 + ((ms_z (ms_z s 9 (((s.1 9) + 1) - ((s.1 9) + 1) / 8 * 8)) 8 (((ms_z s 9 (((s.1 9) + 1) - ((s.1 9) + 1) / 8 * 8)).1 8) - 1))).1 8) / 8 * 8 = _
      rw [eu_]
      show (nI (kF c f) + nI (kC c)) - (nI (kF c f) + nI (kC c)) / nI 8 * nI 8 = _
      have h1 : kF c f < 8 := by unfold kF; split <;> omega
      have h2 : kC c < 8 := by unfold kC; split <;> omega
      rw [nI_add, pk_rem (by omega) (by decide) (by decide)]; rfl
    have ht8_ : kTo c f < 8 := Nat.mod_lt _ (by decide)
    rw [et_]
    rw [eu_]
    -- loop at 47
    refine j_mem (M' := mput M L (mUnd (ms_z (ms_z s 9 (nI (kF c f))) 8 (nI (kC c))) (kTo c f) 0)) (congrArg (mput M L) (mUnd_0 (ms_z (ms_z s 9 (nI (kF c f))) 8 (nI (kC c))) (kTo c f))) ?_
    have l6_ : ∀ (fu_ : Nat) (k : Nat), 320 - k < fu_ → (k ≤ 320) → JW l G 0 YX2_keepsMind (jn (mput M L (mKeeps s c f))) 47 [(0, .ref (L 0)), (1, .int (nI (kTo c f))), (2, .int (nI k))] [] (mput M L (mUnd (ms_z (ms_z s 9 (nI (kF c f))) 8 (nI (kC c))) (kTo c f) k)) := by
      intro fu_
      induction fu_ with
      | zero => intro k hf_; exact absurd hf_ (Nat.not_lt_zero _)
      | succ fu_ ih_ =>
        intro k hf_ hk
        refine j_iload_n dX2_keepsMind_47 rfl ?_
        refine j_sipush (v := 320) dX2_keepsMind_48 (by decide) ?_
        refine j_icmp_ge (tgt := 78) dX2_keepsMind_51 (by decide) (fun q6_ => ?_) (fun q6_ => ?_)
        · obtain rfl : k = 320 := c_end (n := 320) (by decide) hk q6_
          refine j_aload_n dX2_keepsMind_78 rfl rfl ?_
          refine j_dup dX2_keepsMind_79 rfl ?_
          refine mj_get hO dX2_keepsMind_80 fd_X2_48_2 rfl ?_
          refine j_iconst (v := 1) dX2_keepsMind_83 (by decide) ?_
          refine j_iadd dX2_keepsMind_84 ?_
          refine mj_put hO dX2_keepsMind_85 fd_X2_48_2 rfl (fun r hr => ⟨(ft_2_8 r hr).1, (ft_2_8 r hr).2.1⟩) rfl rfl ?_
          exact j_return dX2_keepsMind_88 rfl (mjn (by show ms_z _ 8 (nI (kC c) + 1) = _; rw [nI_1]; rfl))
        · have hk_ : k < 320 := c_on (n := 320) (by decide) q6_ hk
          refine j_aload_n dX2_keepsMind_54 rfl rfl ?_
          refine mj_get hO dX2_keepsMind_55 fd_X2_13_2 rfl ?_
          refine j_sipush (v := 320) dX2_keepsMind_58 (by decide) ?_
          refine j_iload_n dX2_keepsMind_61 rfl ?_
          refine j_imul dX2_keepsMind_62 ?_
          refine j_iload_n dX2_keepsMind_63 rfl ?_
          refine j_iadd dX2_keepsMind_64 ?_
          refine j_aload_n dX2_keepsMind_65 rfl rfl ?_
          refine mj_get hO dX2_keepsMind_66 fd_X2_19_2 rfl ?_
          refine j_iload_n dX2_keepsMind_69 rfl ?_
          refine mj_iald (j := 3) (i := k) hO dX2_keepsMind_70 (by decide) rfl (by show _ < 320; omega) ?_
          refine mj_iast (j := 1) (i := (320 * kTo c f + k)) hO dX2_keepsMind_71 (by decide) (m_ix320 _ _) (by show _ < 2560; omega) ?_
          refine j_iinc (v := nI (k + 1)) dX2_keepsMind_72 rfl (nI_1 _) (by decide) rfl ?_
          refine j_goto (tgt := 47) dX2_keepsMind_75 (by decide) ?_
          refine j_mem (M' := mput M L (mUnd (ms_z (ms_z s 9 (nI (kF c f))) 8 (nI (kC c))) (kTo c f) (k + 1))) (congrArg (mput M L) (mUnd_step (ms_z (ms_z s 9 (nI (kF c f))) 8 (nI (kC c))) (kTo c f) k)) ?_
          refine j_locs (ls2 := [(0, .ref (L 0)), (1, .int (nI (kTo c f))), (2, .int (nI (k + 1)))]) ⟨rfl, rfl, rfl, trivial⟩ (ih_ (k + 1) (by omega) (by omega))
    refine j_locs (ls2 := [(0, .ref (L 0)), (1, .int (nI (kTo c f))), (2, .int (nI 0))]) ⟨rfl, rfl, rfl, trivial⟩ ?_
    exact l6_ _ 0 (Nat.lt_succ_self _) (Nat.zero_le _)

theorem mm_X2_remembers (hO : mOK G M L) (s : MS) {c f : Nat} (hc : s.1 8 = nI c) (hf : s.1 9 = nI f) (hc8 : c ≤ 8) (hf8 : f < 8) : JM l G 1 yX2_remembers wX2_remembers [.ref (L 0)] (mput M L s) (jn (mput M L (mRemembers s c f))) := by
  refine JM.of pn_X2 (Nat.le_of_ble_eq_true rfl) (hO.1.1) ?_
  show JW l G 1 YX2_remembers _ 0 [(0, .ref (L 0))] [] (mput M L s)
  refine j_aload_n dX2_remembers_0 rfl rfl ?_
  refine j_callV (mm_X2_thinks hO s) dX2_remembers_1 mt_X2_thinks q2220 q2222 qs41 (hO.at s (i := 0) (by decide)) (by decide) rfl cd_X2_thinks (Nat.le_of_ble_eq_true rfl) rfl rfl (Nat.le_of_ble_eq_true rfl) (jk_n ?_) jx_n
  refine j_aload_n dX2_remembers_4 rfl rfl ?_
  refine j_callV (mm_X2_keepsMind hO (mThinks s) hc hf hc8 hf8) dX2_remembers_5 mt_X2_keepsMind q2224 q2226 qs42 (hO.at (mThinks s) (i := 0) (by decide)) (by decide) rfl cd_X2_keepsMind (Nat.le_of_ble_eq_true rfl) rfl rfl (Nat.le_of_ble_eq_true rfl) (jk_n ?_) jx_n
  exact j_return dX2_remembers_8 rfl (mjn rfl)

end M2
