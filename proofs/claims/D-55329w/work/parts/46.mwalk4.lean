section M4
variable {l : Launch} {G : j_G} {M : j_M} {L : Nat → Nat}
theorem mm_X2_feastComes (hO : mOK G M L) (s : MS) {n : Nat} (hn : s.2 0 2 = nI n) (hn16 : n ≤ 16) (hw : mWk s) : JM l G 4 yX2_feastComes wX2_feastComes [.ref (L 0)] (mput M L s) (jv (.int ((mFeastComes s n).1)) (mput M L ((mFeastComes s n).2))) := by
  refine JM.of pn_X2 (Nat.le_of_ble_eq_true rfl) (hO.1.1) ?_
  show JW l G 4 YX2_feastComes _ 0 [(0, .ref (L 0))] [] (mput M L s)
  obtain ⟨wk, hwk_, ew_⟩ := hw
  have eN_ : mN (mw s 1) = wk := by
    show mN (s.2 0 1) = _
    rw [ew_]; exact mN_nI (by omega)
  refine j_aload_n dX2_feastComes_0 rfl rfl ?_
  refine j_callV (mm_X2_entitledMany hO s hn hn16) dX2_feastComes_1 mt_X2_entitledMany q2390 q2392 qs73 (hO.at s (i := 0) (by decide)) (by decide) rfl cd_X2_entitledMany (Nat.le_of_ble_eq_true rfl) rfl rfl (Nat.le_of_ble_eq_true rfl) (jk_v ?_) jx_v
  refine j_istore_n dX2_feastComes_4 (by decide) rfl ?_
  refine j_aload_n dX2_feastComes_5 rfl rfl ?_
  refine mj_get hO dX2_feastComes_6 fd_X2_7_2 rfl ?_
  refine j_bipush (v := 12) dX2_feastComes_9 (by decide) ?_
  refine j_aload_n dX2_feastComes_11 rfl rfl ?_
  refine mj_get hO dX2_feastComes_12 fd_X2_7_2 rfl ?_
  refine j_iconst (v := 1) dX2_feastComes_15 (by decide) ?_
  refine mj_iald (j := 0) (i := 1) hO dX2_feastComes_16 (by decide) rfl (by decide) ?_
  refine j_iadd dX2_feastComes_17 ?_
  refine mj_iald (j := 0) (i := (12 + wk)) hO dX2_feastComes_18 (by decide) (by rw [ew_]; exact nI_add 12 wk) (by show _ < 320; omega) ?_
  refine j_istore_n dX2_feastComes_19 (by decide) rfl ?_
  refine j_iload_n dX2_feastComes_20 rfl ?_
  refine j_if_eq (tgt := 28) dX2_feastComes_21 (by decide) (fun c21 => ?_) (fun c21 => ?_)
  · refine j_iconst (v := 0) dX2_feastComes_28 (by decide) ?_
    exact j_ireturn dX2_feastComes_29 rfl (mjv (by unfold mFeastComes; first | rw [if_pos c21] | rw [if_neg c21, if_pos (by rw [eN_]; exact c25)]) (by unfold mFeastComes; first | rw [if_pos c21] | rw [if_neg c21, if_pos (by rw [eN_]; exact c25)]))
  · refine j_iload_n dX2_feastComes_24 rfl ?_
    refine j_if_ne (tgt := 30) dX2_feastComes_25 (by decide) (fun c25 => ?_) (fun c25 => ?_)
    · refine j_iload_n dX2_feastComes_30 rfl ?_
      refine j_aload_n dX2_feastComes_31 rfl rfl ?_
      refine mj_get hO dX2_feastComes_32 fd_X2_7_2 rfl ?_
      refine j_iconst (v := 3) dX2_feastComes_35 (by decide) ?_
      refine mj_iald (j := 0) (i := 3) hO dX2_feastComes_36 (by decide) rfl (by decide) ?_
      refine j_iload_n dX2_feastComes_37 rfl ?_
      refine j_idiv dX2_feastComes_38 c21 ?_
      refine j_callS (mm_X2_lesser hO s (s.2 0 (12 + wk)) ((s.2 0 3) / (mEntMany s n))) dX2_feastComes_39 mt_X2_lesser q2371 q2372 cd_X2_lesser (Nat.le_of_ble_eq_true rfl) rfl rfl (Nat.le_of_ble_eq_true rfl) (jk_v ?_) jx_v
      refine j_istore_n dX2_feastComes_42 (by decide) rfl ?_
      rw [show ((if (s.2 0 (12 + wk)) < ((s.2 0 3) / (mEntMany s n)) then (s.2 0 (12 + wk)) else ((s.2 0 3) / (mEntMany s n)))) = mEach s n from (by unfold mEach; rw [eN_])]
      refine j_iconst (v := 0) dX2_feastComes_43 (by decide) ?_
      refine j_istore dX2_feastComes_44 (by decide) rfl ?_
      -- loop at 46
      refine j_mem (M' := mput M L (mGive s (mEach s n) 0)) (congrArg (mput M L) rfl) ?_
      have l7_ : ∀ (fu_ : Nat) (k : Nat), n - k < fu_ → (k ≤ n) → JW l G 4 YX2_feastComes (jv (.int ((mFeastComes s n).1)) (mput M L ((mFeastComes s n).2))) 46 [(0, .ref (L 0)), (1, .int (mEntMany s n)), (2, .int (s.2 0 (12 + wk))), (3, .int (mEach s n)), (4, .int (nI k))] [] (mput M L (mGive s (mEach s n) k)) := by
        intro fu_
        induction fu_ with
        | zero => intro k hf_; exact absurd hf_ (Nat.not_lt_zero _)
        | succ fu_ ih_ =>
          intro k hf_ hk
          refine j_iload dX2_feastComes_46 rfl ?_
          refine j_aload_n dX2_feastComes_48 rfl rfl ?_
          refine mj_get hO dX2_feastComes_49 fd_X2_7_2 rfl ?_
          refine j_iconst (v := 2) dX2_feastComes_52 (by decide) ?_
          refine mj_iald (j := 0) (i := 2) hO dX2_feastComes_53 (by decide) rfl (by decide) ?_
          refine j_icmp_ge (tgt := 90) dX2_feastComes_54 (by decide) (fun q7_ => ?_) (fun q7_ => ?_)
          · obtain rfl : n = k := (n_end (show (mGive s (mEach s n) k).2 0 2 = nI n by simp only [mset_2, mStamps_2, mBecomes_2, mVoicesGo_2, mClear_2, mGo1_2, mThinks_2, mRemembers_2, mNot_2, mRef_2, mGive_2, mFeastComes_2, mBans_2, mRents_2, mAges_2, mYear0_2, mYear_2, mWeekOn_2, mWeekGoes_2, mWeeksGo_2, mComesIn_2, mGownStep_2, mwset1_2]; exact hn) hn16 hk q7_).symm
            refine j_aload_n dX2_feastComes_90 rfl rfl ?_
            refine mj_get hO dX2_feastComes_91 fd_X2_7_2 rfl ?_
            refine j_iconst (v := 3) dX2_feastComes_94 (by decide) ?_
            refine j_dup2_11 dX2_feastComes_95 rfl rfl ?_
            refine mj_iald (j := 0) (i := 3) hO dX2_feastComes_96 (by decide) rfl (by decide) ?_
            refine j_iload_n dX2_feastComes_97 rfl ?_
            refine j_iload_n dX2_feastComes_98 rfl ?_
            refine j_imul dX2_feastComes_99 ?_
            refine j_isub dX2_feastComes_100 ?_
            refine mj_iast (j := 0) (i := 3) hO dX2_feastComes_101 (by decide) rfl (by decide) ?_
            refine j_aload_n dX2_feastComes_102 rfl rfl ?_
            refine mj_get hO dX2_feastComes_103 fd_X2_7_2 rfl ?_
            refine j_iconst (v := 5) dX2_feastComes_106 (by decide) ?_
            refine j_dup2_11 dX2_feastComes_107 rfl rfl ?_
            refine mj_iald (j := 0) (i := 5) hO dX2_feastComes_108 (by decide) rfl (by decide) ?_
            refine j_iload_n dX2_feastComes_109 rfl ?_
            refine j_iload_n dX2_feastComes_110 rfl ?_
            refine j_imul dX2_feastComes_111 ?_
            refine j_iadd dX2_feastComes_112 ?_
            refine mj_iast (j := 0) (i := 5) hO dX2_feastComes_113 (by decide) rfl (by decide) ?_
            refine j_iload_n dX2_feastComes_114 rfl ?_
            refine j_iload_n dX2_feastComes_115 rfl ?_
            refine j_imul dX2_feastComes_116 ?_
            exact j_ireturn dX2_feastComes_117 rfl (mjv (by unfold mFeastComes; rw [if_neg c21, if_neg (by rw [eN_]; exact c25)]) (by unfold mFeastComes; rw [if_neg c21, if_neg (by rw [eN_]; exact c25)]; rfl))
          · have hk_ := n_on (show (mGive s (mEach s n) k).2 0 2 = nI n by simp only [mset_2, mStamps_2, mBecomes_2, mVoicesGo_2, mClear_2, mGo1_2, mThinks_2, mRemembers_2, mNot_2, mRef_2, mGive_2, mFeastComes_2, mBans_2, mRents_2, mAges_2, mYear0_2, mYear_2, mWeekOn_2, mWeekGoes_2, mWeeksGo_2, mComesIn_2, mGownStep_2, mwset1_2]; exact hn) hn16 q7_ hk
            refine j_aload_n dX2_feastComes_57 rfl rfl ?_
            refine j_iload dX2_feastComes_58 rfl ?_
            refine j_callV (mm_X2_isEntitled hO (mGive s (mEach s n) k) (b := k) (by omega)) dX2_feastComes_60 mt_X2_isEntitled q2394 q2396 qs74 (hO.at (mGive s (mEach s n) k) (i := 0) (by decide)) (by decide) rfl cd_X2_isEntitled (Nat.le_of_ble_eq_true rfl) rfl rfl (Nat.le_of_ble_eq_true rfl) (jk_v ?_) jx_v
            refine j_ifeqB (tgt := 84) dX2_feastComes_63 (by decide) (fun c63 => ?_) (fun c63 => ?_)
            · refine j_iinc (v := nI (k + 1)) dX2_feastComes_84 rfl (nI_1 _) (by decide) rfl ?_
              refine j_goto (tgt := 46) dX2_feastComes_87 (by decide) ?_
              refine j_mem (M' := mput M L (mGive s (mEach s n) (k + 1))) (congrArg (mput M L) (by first | exact if_pos c63 | exact if_neg c63 | exact if_neg (Bool.eq_false_iff.mp c63) | exact if_neg (Int32.not_lt.mpr c63) | exact if_pos (Int32.not_le.mp c63))) ?_
              refine j_locs (ls2 := [(0, .ref (L 0)), (1, .int (mEntMany s n)), (2, .int (s.2 0 (12 + wk))), (3, .int (mEach s n)), (4, .int (nI (k + 1)))]) ⟨rfl, rfl, rfl, rfl, rfl, trivial⟩ (ih_ (k + 1) (by omega) (by omega))
            · refine j_aload_n dX2_feastComes_66 rfl rfl ?_
              refine j_iload dX2_feastComes_67 rfl ?_
              refine j_bipush (v := 6) dX2_feastComes_69 (by decide) ?_
              refine j_aload_n dX2_feastComes_71 rfl rfl ?_
              refine j_iload dX2_feastComes_72 rfl ?_
              refine j_bipush (v := 6) dX2_feastComes_74 (by decide) ?_
              refine j_callV (mm_X2_of hO (mGive s (mEach s n) k) (b := k) (k := 6) (by omega) (by omega)) dX2_feastComes_76 mt_X2_of q2248 q2250 qs47 (hO.at (mGive s (mEach s n) k) (i := 0) (by decide)) (by decide) rfl cd_X2_of (Nat.le_of_ble_eq_true rfl) rfl rfl (Nat.le_of_ble_eq_true rfl) (jk_v ?_) jx_v
              refine j_iload_n dX2_feastComes_79 rfl ?_
              refine j_iadd dX2_feastComes_80 ?_
              refine j_callV (mm_X2_sets hO (mGive s (mEach s n) k) (b := k) (k := 6) (by omega) (by omega) ((mo (mGive s (mEach s n) k) k 6) + (mEach s n))) dX2_feastComes_81 mt_X2_sets q2228 q2230 qs43 (hO.at (mGive s (mEach s n) k) (i := 0) (by decide)) (by decide) rfl cd_X2_sets (Nat.le_of_ble_eq_true rfl) rfl rfl (Nat.le_of_ble_eq_true rfl) (jk_n ?_) jx_n
              refine j_iinc (v := nI (k + 1)) dX2_feastComes_84 rfl (nI_1 _) (by decide) rfl ?_
              refine j_goto (tgt := 46) dX2_feastComes_87 (by decide) ?_
              refine j_mem (M' := mput M L (mGive s (mEach s n) (k + 1))) (congrArg (mput M L) (by first | exact if_pos c63 | exact if_neg c63 | exact if_neg (Bool.eq_false_iff.mp c63) | exact if_neg (Int32.not_lt.mpr c63) | exact if_pos (Int32.not_le.mp c63))) ?_
              refine j_locs (ls2 := [(0, .ref (L 0)), (1, .int (mEntMany s n)), (2, .int (s.2 0 (12 + wk))), (3, .int (mEach s n)), (4, .int (nI (k + 1)))]) ⟨rfl, rfl, rfl, rfl, rfl, trivial⟩ (ih_ (k + 1) (by omega) (by omega))
      refine j_locs (ls2 := [(0, .ref (L 0)), (1, .int (mEntMany s n)), (2, .int (s.2 0 (12 + wk))), (3, .int (mEach s n)), (4, .int (nI 0))]) ⟨rfl, rfl, rfl, rfl, rfl, trivial⟩ ?_
      exact l7_ _ 0 (Nat.lt_succ_self _) (Nat.zero_le _)
    · refine j_iconst (v := 0) dX2_feastComes_28 (by decide) ?_
      exact j_ireturn dX2_feastComes_29 rfl (mjv (by unfold mFeastComes; first | rw [if_pos c21] | rw [if_neg c21, if_pos (by rw [eN_]; exact c25)]) (by unfold mFeastComes; first | rw [if_pos c21] | rw [if_neg c21, if_pos (by rw [eN_]; exact c25)]))

theorem mm_X2_yearBegins (hO : mOK G M L) (s : MS) {n : Nat} (hn : s.2 0 2 = nI n) (hn16 : n ≤ 16) : JM l G 4 yX2_yearBegins wX2_yearBegins [.ref (L 0)] (mput M L s) (jn (mput M L (mYear s n))) := by
  refine JM.of pn_X2 (Nat.le_of_ble_eq_true rfl) (hO.1.1) ?_
  show JW l G 4 YX2_yearBegins _ 0 [(0, .ref (L 0))] [] (mput M L s)
  refine j_aload_n dX2_yearBegins_0 rfl rfl ?_
  refine mj_get hO dX2_yearBegins_1 fd_X2_7_2 rfl ?_
  refine j_iconst (v := 1) dX2_yearBegins_4 (by decide) ?_
  refine j_iconst (v := 0) dX2_yearBegins_5 (by decide) ?_
  refine mj_iast (j := 0) (i := 1) hO dX2_yearBegins_6 (by decide) rfl (by decide) ?_
  refine j_aload_n dX2_yearBegins_7 rfl rfl ?_
  refine mj_get hO dX2_yearBegins_8 fd_X2_7_2 rfl ?_
  refine j_iconst (v := 0) dX2_yearBegins_11 (by decide) ?_
  refine j_dup2_11 dX2_yearBegins_12 rfl rfl ?_
  refine mj_iald (j := 0) (i := 0) hO dX2_yearBegins_13 (by decide) rfl (by decide) ?_
  refine j_iconst (v := 1) dX2_yearBegins_14 (by decide) ?_
  refine j_iadd dX2_yearBegins_15 ?_
  refine mj_iast (j := 0) (i := 0) hO dX2_yearBegins_16 (by decide) rfl (by decide) ?_
  refine j_aload_n dX2_yearBegins_17 rfl rfl ?_
  refine mj_get hO dX2_yearBegins_18 fd_X2_7_2 rfl ?_
  refine j_bipush (v := 8) dX2_yearBegins_21 (by decide) ?_
  refine j_iconst (v := 0) dX2_yearBegins_23 (by decide) ?_
  refine mj_iast (j := 0) (i := 8) hO dX2_yearBegins_24 (by decide) rfl (by decide) ?_
  refine j_mem (M' := mput M L (mYear0 s)) (congrArg (mput M L) rfl) ?_
  refine j_iconst (v := 0) dX2_yearBegins_25 (by decide) ?_
  refine j_istore_n dX2_yearBegins_26 (by decide) rfl ?_
  -- loop at 27
  refine j_mem (M' := mput M L (mAges (mYear0 s) 0)) (congrArg (mput M L) rfl) ?_
  have l8_ : ∀ (fu_ : Nat) (k : Nat), n - k < fu_ → (k ≤ n) → JW l G 4 YX2_yearBegins (jn (mput M L (mYear s n))) 27 [(0, .ref (L 0)), (1, .int (nI k))] [] (mput M L (mAges (mYear0 s) k)) := by
    intro fu_
    induction fu_ with
    | zero => intro k hf_; exact absurd hf_ (Nat.not_lt_zero _)
    | succ fu_ ih_ =>
      intro k hf_ hk
      refine j_iload_n dX2_yearBegins_27 rfl ?_
      refine j_aload_n dX2_yearBegins_28 rfl rfl ?_
      refine mj_get hO dX2_yearBegins_29 fd_X2_7_2 rfl ?_
      refine j_iconst (v := 2) dX2_yearBegins_32 (by decide) ?_
      refine mj_iald (j := 0) (i := 2) hO dX2_yearBegins_33 (by decide) rfl (by decide) ?_
      refine j_icmp_ge (tgt := 106) dX2_yearBegins_34 (by decide) (fun q8_ => ?_) (fun q8_ => ?_)
      · obtain rfl : n = k := (n_end (show (mAges (mYear0 s) k).2 0 2 = nI n by simp only [mset_2, mStamps_2, mBecomes_2, mVoicesGo_2, mClear_2, mGo1_2, mThinks_2, mRemembers_2, mNot_2, mRef_2, mGive_2, mFeastComes_2, mBans_2, mRents_2, mAges_2, mYear0_2, mYear_2, mWeekOn_2, mWeekGoes_2, mWeeksGo_2, mComesIn_2, mGownStep_2, mwset1_2]; exact hn) hn16 hk q8_).symm
        refine j_aload_n dX2_yearBegins_106 rfl rfl ?_
        refine j_iconst (v := 0) dX2_yearBegins_107 (by decide) ?_
        refine j_callV (mm_X2_shabbyAt hO (mAges (mYear0 s) n) (show (mAges (mYear0 s) n).2 0 2 = nI n by simp only [mset_2, mStamps_2, mBecomes_2, mVoicesGo_2, mClear_2, mGo1_2, mThinks_2, mRemembers_2, mNot_2, mRef_2, mGive_2, mFeastComes_2, mBans_2, mRents_2, mAges_2, mYear0_2, mYear_2, mWeekOn_2, mWeekGoes_2, mWeeksGo_2, mComesIn_2, mGownStep_2, mwset1_2]; exact hn) hn16 0) dX2_yearBegins_108 mt_X2_shabbyAt q2402 q2404 qs76 (hO.at (mAges (mYear0 s) n) (i := 0) (by decide)) (by decide) rfl cd_X2_shabbyAt (Nat.le_of_ble_eq_true rfl) rfl rfl (Nat.le_of_ble_eq_true rfl) (jk_v ?_) jx_v
        refine j_istore_n dX2_yearBegins_111 (by decide) rfl ?_
        have lg_ : ∀ (f : Nat) (t : MS), t.2 0 2 = nI n → mN (mw t 3) < 8 * f → mGowns n f t = mYear s n → JW l G 4 YX2_yearBegins (jn (mput M L (mYear s n))) 112 [(0, .ref (L 0)), (1, .int (mShabbyAt t n 0))] [] (mput M L t) := by
          intro f
          induction f with
          | zero => intro t _ h_ _; exact absurd h_ (Nat.not_lt_zero _)
          | succ f ih_ =>
            intro t ht hm hg
            refine j_iload_n dX2_yearBegins_112 rfl ?_
            refine j_if_lt (tgt := 187) dX2_yearBegins_113 (by decide) (fun c113 => ?_) (fun c113 => ?_)
            · exact j_return dX2_yearBegins_187 rfl (mjn ((mGowns_end hn16 (by assumption)).symm.trans hg))
            · obtain ⟨b, hb, eb_, ea_⟩ := mShabby_of c113
              rw [show (mShabbyAt t n 0) = (nI b) from eb_]
              refine j_aload_n dX2_yearBegins_116 rfl rfl ?_
              refine j_iload_n dX2_yearBegins_117 rfl ?_
              refine j_iconst (v := 4) dX2_yearBegins_118 (by decide) ?_
              refine j_callV (mm_X2_of hO t (b := b) (k := 4) (by omega) (by omega)) dX2_yearBegins_119 mt_X2_of q2248 q2250 qs47 (hO.at t (i := 0) (by decide)) (by decide) rfl cd_X2_of (Nat.le_of_ble_eq_true rfl) rfl rfl (Nat.le_of_ble_eq_true rfl) (jk_v ?_) jx_v
              refine j_iconst (v := 2) dX2_yearBegins_122 (by decide) ?_
              refine j_icmp_lt (tgt := 187) dX2_yearBegins_123 (by decide) (fun c123 => ?_) (fun c123 => ?_)
              · exact j_return dX2_yearBegins_187 rfl (mjn ((mGowns_no ea_ (by simp_all [← Int32.not_lt])).symm.trans hg))
              · refine j_aload_n dX2_yearBegins_126 rfl rfl ?_
                refine mj_get hO dX2_yearBegins_127 fd_X2_7_2 rfl ?_
                refine j_iconst (v := 3) dX2_yearBegins_130 (by decide) ?_
                refine mj_iald (j := 0) (i := 3) hO dX2_yearBegins_131 (by decide) rfl (by decide) ?_
                refine j_bipush (v := 8) dX2_yearBegins_132 (by decide) ?_
                refine j_icmp_lt (tgt := 187) dX2_yearBegins_134 (by decide) (fun c134 => ?_) (fun c134 => ?_)
                · exact j_return dX2_yearBegins_187 rfl (mjn ((mGowns_no ea_ (by simp_all [← Int32.not_lt])).symm.trans hg))
                · refine j_aload_n dX2_yearBegins_137 rfl rfl ?_
                  refine j_iload_n dX2_yearBegins_138 rfl ?_
                  refine j_iconst (v := 4) dX2_yearBegins_139 (by decide) ?_
                  refine j_iconst (v := 0) dX2_yearBegins_140 (by decide) ?_
                  refine j_callV (mm_X2_sets hO t (b := b) (k := 4) (by omega) (by omega) 0) dX2_yearBegins_141 mt_X2_sets q2228 q2230 qs43 (hO.at t (i := 0) (by decide)) (by decide) rfl cd_X2_sets (Nat.le_of_ble_eq_true rfl) rfl rfl (Nat.le_of_ble_eq_true rfl) (jk_n ?_) jx_n
                  refine j_aload_n dX2_yearBegins_144 rfl rfl ?_
                  refine mj_get hO dX2_yearBegins_145 fd_X2_7_2 rfl ?_
                  refine j_iconst (v := 3) dX2_yearBegins_148 (by decide) ?_
                  refine j_dup2_11 dX2_yearBegins_149 rfl rfl ?_
                  refine mj_iald (j := 0) (i := 3) hO dX2_yearBegins_150 (by decide) rfl (by decide) ?_
                  refine j_bipush (v := 8) dX2_yearBegins_151 (by decide) ?_
                  refine j_isub dX2_yearBegins_153 ?_
                  refine mj_iast (j := 0) (i := 3) hO dX2_yearBegins_154 (by decide) rfl (by decide) ?_
                  refine j_aload_n dX2_yearBegins_155 rfl rfl ?_
                  refine mj_get hO dX2_yearBegins_156 fd_X2_7_2 rfl ?_
                  refine j_bipush (v := 6) dX2_yearBegins_159 (by decide) ?_
                  refine j_dup2_11 dX2_yearBegins_161 rfl rfl ?_
                  refine mj_iald (j := 0) (i := 6) hO dX2_yearBegins_162 (by decide) rfl (by decide) ?_
                  refine j_bipush (v := 8) dX2_yearBegins_163 (by decide) ?_
                  refine j_iadd dX2_yearBegins_165 ?_
                  refine mj_iast (j := 0) (i := 6) hO dX2_yearBegins_166 (by decide) rfl (by decide) ?_
                  refine j_aload_n dX2_yearBegins_167 rfl rfl ?_
                  refine mj_get hO dX2_yearBegins_168 fd_X2_7_2 rfl ?_
                  refine j_bipush (v := 7) dX2_yearBegins_171 (by decide) ?_
                  refine j_dup2_11 dX2_yearBegins_173 rfl rfl ?_
                  refine mj_iald (j := 0) (i := 7) hO dX2_yearBegins_174 (by decide) rfl (by decide) ?_
                  refine j_iconst (v := 1) dX2_yearBegins_175 (by decide) ?_
                  refine j_iadd dX2_yearBegins_176 ?_
                  refine mj_iast (j := 0) (i := 7) hO dX2_yearBegins_177 (by decide) rfl (by decide) ?_
                  refine j_mem (M' := mput M L (mGownStep t b)) (congrArg (mput M L) rfl) ?_
                  refine j_aload_n dX2_yearBegins_178 rfl rfl ?_
                  refine j_iconst (v := 0) dX2_yearBegins_179 (by decide) ?_
                  refine j_callV (mm_X2_shabbyAt hO (mGownStep t b) (show (mGownStep t b).2 0 2 = nI n by simp only [mset_2, mStamps_2, mBecomes_2, mVoicesGo_2, mClear_2, mGo1_2, mThinks_2, mRemembers_2, mNot_2, mRef_2, mGive_2, mFeastComes_2, mBans_2, mRents_2, mAges_2, mYear0_2, mYear_2, mWeekOn_2, mWeekGoes_2, mWeeksGo_2, mComesIn_2, mGownStep_2, mwset1_2]; exact ht) hn16 0) dX2_yearBegins_180 mt_X2_shabbyAt q2402 q2404 qs76 (hO.at (mGownStep t b) (i := 0) (by decide)) (by decide) rfl cd_X2_shabbyAt (Nat.le_of_ble_eq_true rfl) rfl rfl (Nat.le_of_ble_eq_true rfl) (jk_v ?_) jx_v
                  refine j_istore_n dX2_yearBegins_183 (by decide) rfl ?_
                  refine j_goto (tgt := 112) dX2_yearBegins_184 (by decide) ?_
                  exact j_mem (M' := mput M L (mGownStep t b)) rfl (j_locs (ls2 := [(0, .ref (L 0)), (1, .int (mShabbyAt (mGownStep t b) n 0))]) ⟨rfl, rfl, trivial⟩ (ih_ (mGownStep t b) ((mGownStep_2 t b).trans ht) (by have := mGownStep_3 (b := b) (t := t) (Int32.not_lt.mp c134); omega) ((mGowns_go ea_ (Int32.not_lt.mp c123) (Int32.not_lt.mp c134)).symm.trans hg)))
        refine j_locs (ls2 := [(0, .ref (L 0)), (1, .int (mShabbyAt (mAges (mYear0 s) n) n 0))]) ⟨rfl, rfl, trivial⟩ ?_
        exact lg_ _ (mAges (mYear0 s) n) (show (mAges (mYear0 s) n).2 0 2 = nI n by simp only [mAges_2, mYear0_2]; exact hn) (by omega) rfl
      · have hk_ := n_on (show (mAges (mYear0 s) k).2 0 2 = nI n by simp only [mset_2, mStamps_2, mBecomes_2, mVoicesGo_2, mClear_2, mGo1_2, mThinks_2, mRemembers_2, mNot_2, mRef_2, mGive_2, mFeastComes_2, mBans_2, mRents_2, mAges_2, mYear0_2, mYear_2, mWeekOn_2, mWeekGoes_2, mWeeksGo_2, mComesIn_2, mGownStep_2, mwset1_2]; exact hn) hn16 q8_ hk
        refine j_aload_n dX2_yearBegins_37 rfl rfl ?_
        refine j_iload_n dX2_yearBegins_38 rfl ?_
        refine j_iconst (v := 0) dX2_yearBegins_39 (by decide) ?_
        refine j_aload_n dX2_yearBegins_40 rfl rfl ?_
        refine j_iload_n dX2_yearBegins_41 rfl ?_
        refine j_iconst (v := 0) dX2_yearBegins_42 (by decide) ?_
        refine j_callV (mm_X2_of hO (mAges (mYear0 s) k) (b := k) (k := 0) (by omega) (by omega)) dX2_yearBegins_43 mt_X2_of q2248 q2250 qs47 (hO.at (mAges (mYear0 s) k) (i := 0) (by decide)) (by decide) rfl cd_X2_of (Nat.le_of_ble_eq_true rfl) rfl rfl (Nat.le_of_ble_eq_true rfl) (jk_v ?_) jx_v
        refine j_aload_n dX2_yearBegins_46 rfl rfl ?_
        refine j_iload_n dX2_yearBegins_47 rfl ?_
        refine j_iconst (v := 0) dX2_yearBegins_48 (by decide) ?_
        refine j_callV (mm_X2_isSo hO (mAges (mYear0 s) k) (b := k) (by omega) 0) dX2_yearBegins_49 mt_X2_isSo q2244 q2246 qs46 (hO.at (mAges (mYear0 s) k) (i := 0) (by decide)) (by decide) rfl cd_X2_isSo (Nat.le_of_ble_eq_true rfl) rfl rfl (Nat.le_of_ble_eq_true rfl) (jk_v ?_) jx_v
        refine j_ifneB (tgt := 64) dX2_yearBegins_52 (by decide) (fun c52 => ?_) (fun c52 => ?_)
        · refine j_iconst (v := 1) dX2_yearBegins_64 (by decide) ?_
          refine j_goto (tgt := 69) dX2_yearBegins_65 (by decide) ?_
          refine j_iadd dX2_yearBegins_69 ?_
          refine j_callV (mm_X2_sets hO (mAges (mYear0 s) k) (b := k) (k := 0) (by omega) (by omega) ((mo (mAges (mYear0 s) k) k 0) + 1)) dX2_yearBegins_70 mt_X2_sets q2228 q2230 qs43 (hO.at (mAges (mYear0 s) k) (i := 0) (by decide)) (by decide) rfl cd_X2_sets (Nat.le_of_ble_eq_true rfl) rfl rfl (Nat.le_of_ble_eq_true rfl) (jk_n ?_) jx_n
          -- age
          refine j_mem (M' := mput M L (mset (mAges (mYear0 s) k) k 0 (mo (mAges (mYear0 s) k) k 0 + jb (mSo (mAges (mYear0 s) k) k 0 || mSo (mAges (mYear0 s) k) k 1)))) (congrArg (mput M L) (by first | (rw [c52]; rfl) | (rw [c52, c61]; rfl))) ?_
          refine j_aload_n dX2_yearBegins_73 rfl rfl ?_
          refine j_iload_n dX2_yearBegins_74 rfl ?_
          refine j_iconst (v := 4) dX2_yearBegins_75 (by decide) ?_
          refine j_aload_n dX2_yearBegins_76 rfl rfl ?_
          refine j_iload_n dX2_yearBegins_77 rfl ?_
          refine j_iconst (v := 4) dX2_yearBegins_78 (by decide) ?_
          refine j_callV (mm_X2_of hO (mset (mAges (mYear0 s) k) k 0 (mo (mAges (mYear0 s) k) k 0 + jb (mSo (mAges (mYear0 s) k) k 0 || mSo (mAges (mYear0 s) k) k 1))) (b := k) (k := 4) (by omega) (by omega)) dX2_yearBegins_79 mt_X2_of q2248 q2250 qs47 (hO.at (mset (mAges (mYear0 s) k) k 0 (mo (mAges (mYear0 s) k) k 0 + jb (mSo (mAges (mYear0 s) k) k 0 || mSo (mAges (mYear0 s) k) k 1))) (i := 0) (by decide)) (by decide) rfl cd_X2_of (Nat.le_of_ble_eq_true rfl) rfl rfl (Nat.le_of_ble_eq_true rfl) (jk_v ?_) jx_v
          refine j_aload_n dX2_yearBegins_82 rfl rfl ?_
          refine j_iload_n dX2_yearBegins_83 rfl ?_
          refine j_iconst (v := 1) dX2_yearBegins_84 (by decide) ?_
          refine j_callV (mm_X2_isSo hO (mset (mAges (mYear0 s) k) k 0 (mo (mAges (mYear0 s) k) k 0 + jb (mSo (mAges (mYear0 s) k) k 0 || mSo (mAges (mYear0 s) k) k 1))) (b := k) (by omega) 1) dX2_yearBegins_85 mt_X2_isSo q2244 q2246 qs46 (hO.at (mset (mAges (mYear0 s) k) k 0 (mo (mAges (mYear0 s) k) k 0 + jb (mSo (mAges (mYear0 s) k) k 0 || mSo (mAges (mYear0 s) k) k 1))) (i := 0) (by decide)) (by decide) rfl cd_X2_isSo (Nat.le_of_ble_eq_true rfl) rfl rfl (Nat.le_of_ble_eq_true rfl) (jk_v ?_) jx_v
          refine j_ifeqB (tgt := 95) dX2_yearBegins_88 (by decide) (fun c88 => ?_) (fun c88 => ?_)
          · refine j_iconst (v := 0) dX2_yearBegins_95 (by decide) ?_
            refine j_iadd dX2_yearBegins_96 ?_
            refine j_callV (mm_X2_sets hO (mset (mAges (mYear0 s) k) k 0 (mo (mAges (mYear0 s) k) k 0 + jb (mSo (mAges (mYear0 s) k) k 0 || mSo (mAges (mYear0 s) k) k 1))) (b := k) (k := 4) (by omega) (by omega) ((mo (mset (mAges (mYear0 s) k) k 0 (mo (mAges (mYear0 s) k) k 0 + jb (mSo (mAges (mYear0 s) k) k 0 || mSo (mAges (mYear0 s) k) k 1))) k 4) + 0)) dX2_yearBegins_97 mt_X2_sets q2228 q2230 qs43 (hO.at (mset (mAges (mYear0 s) k) k 0 (mo (mAges (mYear0 s) k) k 0 + jb (mSo (mAges (mYear0 s) k) k 0 || mSo (mAges (mYear0 s) k) k 1))) (i := 0) (by decide)) (by decide) rfl cd_X2_sets (Nat.le_of_ble_eq_true rfl) rfl rfl (Nat.le_of_ble_eq_true rfl) (jk_n ?_) jx_n
            refine j_iinc (v := nI (k + 1)) dX2_yearBegins_100 rfl (nI_1 _) (by decide) rfl ?_
            refine j_goto (tgt := 27) dX2_yearBegins_103 (by decide) ?_
            refine j_mem (M' := mput M L (mAges (mYear0 s) (k + 1))) (congrArg (mput M L) (show mset (mset (mAges (mYear0 s) k) k 0 (mo (mAges (mYear0 s) k) k 0 + jb (mSo (mAges (mYear0 s) k) k 0 || mSo (mAges (mYear0 s) k) k 1))) k 4 (mo (mset (mAges (mYear0 s) k) k 0 (mo (mAges (mYear0 s) k) k 0 + jb (mSo (mAges (mYear0 s) k) k 0 || mSo (mAges (mYear0 s) k) k 1))) k 4 + jb (mSo (mset (mAges (mYear0 s) k) k 0 (mo (mAges (mYear0 s) k) k 0 + jb (mSo (mAges (mYear0 s) k) k 0 || mSo (mAges (mYear0 s) k) k 1))) k 1)) = _ by rw [c88]; rfl)) ?_
            refine j_locs (ls2 := [(0, .ref (L 0)), (1, .int (nI (k + 1)))]) ⟨rfl, rfl, trivial⟩ (ih_ (k + 1) (by omega) (by omega))
          · refine j_iconst (v := 1) dX2_yearBegins_91 (by decide) ?_
            refine j_goto (tgt := 96) dX2_yearBegins_92 (by decide) ?_
            refine j_iadd dX2_yearBegins_96 ?_
            refine j_callV (mm_X2_sets hO (mset (mAges (mYear0 s) k) k 0 (mo (mAges (mYear0 s) k) k 0 + jb (mSo (mAges (mYear0 s) k) k 0 || mSo (mAges (mYear0 s) k) k 1))) (b := k) (k := 4) (by omega) (by omega) ((mo (mset (mAges (mYear0 s) k) k 0 (mo (mAges (mYear0 s) k) k 0 + jb (mSo (mAges (mYear0 s) k) k 0 || mSo (mAges (mYear0 s) k) k 1))) k 4) + 1)) dX2_yearBegins_97 mt_X2_sets q2228 q2230 qs43 (hO.at (mset (mAges (mYear0 s) k) k 0 (mo (mAges (mYear0 s) k) k 0 + jb (mSo (mAges (mYear0 s) k) k 0 || mSo (mAges (mYear0 s) k) k 1))) (i := 0) (by decide)) (by decide) rfl cd_X2_sets (Nat.le_of_ble_eq_true rfl) rfl rfl (Nat.le_of_ble_eq_true rfl) (jk_n ?_) jx_n
            refine j_iinc (v := nI (k + 1)) dX2_yearBegins_100 rfl (nI_1 _) (by decide) rfl ?_
            refine j_goto (tgt := 27) dX2_yearBegins_103 (by decide) ?_
            refine j_mem (M' := mput M L (mAges (mYear0 s) (k + 1))) (congrArg (mput M L) (show mset (mset (mAges (mYear0 s) k) k 0 (mo (mAges (mYear0 s) k) k 0 + jb (mSo (mAges (mYear0 s) k) k 0 || mSo (mAges (mYear0 s) k) k 1))) k 4 (mo (mset (mAges (mYear0 s) k) k 0 (mo (mAges (mYear0 s) k) k 0 + jb (mSo (mAges (mYear0 s) k) k 0 || mSo (mAges (mYear0 s) k) k 1))) k 4 + jb (mSo (mset (mAges (mYear0 s) k) k 0 (mo (mAges (mYear0 s) k) k 0 + jb (mSo (mAges (mYear0 s) k) k 0 || mSo (mAges (mYear0 s) k) k 1))) k 1)) = _ by rw [c88]; rfl)) ?_
            refine j_locs (ls2 := [(0, .ref (L 0)), (1, .int (nI (k + 1)))]) ⟨rfl, rfl, trivial⟩ (ih_ (k + 1) (by omega) (by omega))
        · refine j_aload_n dX2_yearBegins_55 rfl rfl ?_
          refine j_iload_n dX2_yearBegins_56 rfl ?_
          refine j_iconst (v := 1) dX2_yearBegins_57 (by decide) ?_
          refine j_callV (mm_X2_isSo hO (mAges (mYear0 s) k) (b := k) (by omega) 1) dX2_yearBegins_58 mt_X2_isSo q2244 q2246 qs46 (hO.at (mAges (mYear0 s) k) (i := 0) (by decide)) (by decide) rfl cd_X2_isSo (Nat.le_of_ble_eq_true rfl) rfl rfl (Nat.le_of_ble_eq_true rfl) (jk_v ?_) jx_v
          refine j_ifeqB (tgt := 68) dX2_yearBegins_61 (by decide) (fun c61 => ?_) (fun c61 => ?_)
          · refine j_iconst (v := 0) dX2_yearBegins_68 (by decide) ?_
            refine j_iadd dX2_yearBegins_69 ?_
            refine j_callV (mm_X2_sets hO (mAges (mYear0 s) k) (b := k) (k := 0) (by omega) (by omega) ((mo (mAges (mYear0 s) k) k 0) + 0)) dX2_yearBegins_70 mt_X2_sets q2228 q2230 qs43 (hO.at (mAges (mYear0 s) k) (i := 0) (by decide)) (by decide) rfl cd_X2_sets (Nat.le_of_ble_eq_true rfl) rfl rfl (Nat.le_of_ble_eq_true rfl) (jk_n ?_) jx_n
            -- age
            refine j_mem (M' := mput M L (mset (mAges (mYear0 s) k) k 0 (mo (mAges (mYear0 s) k) k 0 + jb (mSo (mAges (mYear0 s) k) k 0 || mSo (mAges (mYear0 s) k) k 1)))) (congrArg (mput M L) (by first | (rw [c52]; rfl) | (rw [c52, c61]; rfl))) ?_
            refine j_aload_n dX2_yearBegins_73 rfl rfl ?_
            refine j_iload_n dX2_yearBegins_74 rfl ?_
            refine j_iconst (v := 4) dX2_yearBegins_75 (by decide) ?_
            refine j_aload_n dX2_yearBegins_76 rfl rfl ?_
            refine j_iload_n dX2_yearBegins_77 rfl ?_
            refine j_iconst (v := 4) dX2_yearBegins_78 (by decide) ?_
            refine j_callV (mm_X2_of hO (mset (mAges (mYear0 s) k) k 0 (mo (mAges (mYear0 s) k) k 0 + jb (mSo (mAges (mYear0 s) k) k 0 || mSo (mAges (mYear0 s) k) k 1))) (b := k) (k := 4) (by omega) (by omega)) dX2_yearBegins_79 mt_X2_of q2248 q2250 qs47 (hO.at (mset (mAges (mYear0 s) k) k 0 (mo (mAges (mYear0 s) k) k 0 + jb (mSo (mAges (mYear0 s) k) k 0 || mSo (mAges (mYear0 s) k) k 1))) (i := 0) (by decide)) (by decide) rfl cd_X2_of (Nat.le_of_ble_eq_true rfl) rfl rfl (Nat.le_of_ble_eq_true rfl) (jk_v ?_) jx_v
            refine j_aload_n dX2_yearBegins_82 rfl rfl ?_
            refine j_iload_n dX2_yearBegins_83 rfl ?_
            refine j_iconst (v := 1) dX2_yearBegins_84 (by decide) ?_
            refine j_callV (mm_X2_isSo hO (mset (mAges (mYear0 s) k) k 0 (mo (mAges (mYear0 s) k) k 0 + jb (mSo (mAges (mYear0 s) k) k 0 || mSo (mAges (mYear0 s) k) k 1))) (b := k) (by omega) 1) dX2_yearBegins_85 mt_X2_isSo q2244 q2246 qs46 (hO.at (mset (mAges (mYear0 s) k) k 0 (mo (mAges (mYear0 s) k) k 0 + jb (mSo (mAges (mYear0 s) k) k 0 || mSo (mAges (mYear0 s) k) k 1))) (i := 0) (by decide)) (by decide) rfl cd_X2_isSo (Nat.le_of_ble_eq_true rfl) rfl rfl (Nat.le_of_ble_eq_true rfl) (jk_v ?_) jx_v
            refine j_ifeqB (tgt := 95) dX2_yearBegins_88 (by decide) (fun c88 => ?_) (fun c88 => ?_)
            · refine j_iconst (v := 0) dX2_yearBegins_95 (by decide) ?_
              refine j_iadd dX2_yearBegins_96 ?_
              refine j_callV (mm_X2_sets hO (mset (mAges (mYear0 s) k) k 0 (mo (mAges (mYear0 s) k) k 0 + jb (mSo (mAges (mYear0 s) k) k 0 || mSo (mAges (mYear0 s) k) k 1))) (b := k) (k := 4) (by omega) (by omega) ((mo (mset (mAges (mYear0 s) k) k 0 (mo (mAges (mYear0 s) k) k 0 + jb (mSo (mAges (mYear0 s) k) k 0 || mSo (mAges (mYear0 s) k) k 1))) k 4) + 0)) dX2_yearBegins_97 mt_X2_sets q2228 q2230 qs43 (hO.at (mset (mAges (mYear0 s) k) k 0 (mo (mAges (mYear0 s) k) k 0 + jb (mSo (mAges (mYear0 s) k) k 0 || mSo (mAges (mYear0 s) k) k 1))) (i := 0) (by decide)) (by decide) rfl cd_X2_sets (Nat.le_of_ble_eq_true rfl) rfl rfl (Nat.le_of_ble_eq_true rfl) (jk_n ?_) jx_n
              refine j_iinc (v := nI (k + 1)) dX2_yearBegins_100 rfl (nI_1 _) (by decide) rfl ?_
              refine j_goto (tgt := 27) dX2_yearBegins_103 (by decide) ?_
              refine j_mem (M' := mput M L (mAges (mYear0 s) (k + 1))) (congrArg (mput M L) (show mset (mset (mAges (mYear0 s) k) k 0 (mo (mAges (mYear0 s) k) k 0 + jb (mSo (mAges (mYear0 s) k) k 0 || mSo (mAges (mYear0 s) k) k 1))) k 4 (mo (mset (mAges (mYear0 s) k) k 0 (mo (mAges (mYear0 s) k) k 0 + jb (mSo (mAges (mYear0 s) k) k 0 || mSo (mAges (mYear0 s) k) k 1))) k 4 + jb (mSo (mset (mAges (mYear0 s) k) k 0 (mo (mAges (mYear0 s) k) k 0 + jb (mSo (mAges (mYear0 s) k) k 0 || mSo (mAges (mYear0 s) k) k 1))) k 1)) = _ by rw [c88]; rfl)) ?_
              refine j_locs (ls2 := [(0, .ref (L 0)), (1, .int (nI (k + 1)))]) ⟨rfl, rfl, trivial⟩ (ih_ (k + 1) (by omega) (by omega))
            · refine j_iconst (v := 1) dX2_yearBegins_91 (by decide) ?_
              refine j_goto (tgt := 96) dX2_yearBegins_92 (by decide) ?_
              refine j_iadd dX2_yearBegins_96 ?_
              refine j_callV (mm_X2_sets hO (mset (mAges (mYear0 s) k) k 0 (mo (mAges (mYear0 s) k) k 0 + jb (mSo (mAges (mYear0 s) k) k 0 || mSo (mAges (mYear0 s) k) k 1))) (b := k) (k := 4) (by omega) (by omega) ((mo (mset (mAges (mYear0 s) k) k 0 (mo (mAges (mYear0 s) k) k 0 + jb (mSo (mAges (mYear0 s) k) k 0 || mSo (mAges (mYear0 s) k) k 1))) k 4) + 1)) dX2_yearBegins_97 mt_X2_sets q2228 q2230 qs43 (hO.at (mset (mAges (mYear0 s) k) k 0 (mo (mAges (mYear0 s) k) k 0 + jb (mSo (mAges (mYear0 s) k) k 0 || mSo (mAges (mYear0 s) k) k 1))) (i := 0) (by decide)) (by decide) rfl cd_X2_sets (Nat.le_of_ble_eq_true rfl) rfl rfl (Nat.le_of_ble_eq_true rfl) (jk_n ?_) jx_n
              refine j_iinc (v := nI (k + 1)) dX2_yearBegins_100 rfl (nI_1 _) (by decide) rfl ?_
              refine j_goto (tgt := 27) dX2_yearBegins_103 (by decide) ?_
              refine j_mem (M' := mput M L (mAges (mYear0 s) (k + 1))) (congrArg (mput M L) (show mset (mset (mAges (mYear0 s) k) k 0 (mo (mAges (mYear0 s) k) k 0 + jb (mSo (mAges (mYear0 s) k) k 0 || mSo (mAges (mYear0 s) k) k 1))) k 4 (mo (mset (mAges (mYear0 s) k) k 0 (mo (mAges (mYear0 s) k) k 0 + jb (mSo (mAges (mYear0 s) k) k 0 || mSo (mAges (mYear0 s) k) k 1))) k 4 + jb (mSo (mset (mAges (mYear0 s) k) k 0 (mo (mAges (mYear0 s) k) k 0 + jb (mSo (mAges (mYear0 s) k) k 0 || mSo (mAges (mYear0 s) k) k 1))) k 1)) = _ by rw [c88]; rfl)) ?_
              refine j_locs (ls2 := [(0, .ref (L 0)), (1, .int (nI (k + 1)))]) ⟨rfl, rfl, trivial⟩ (ih_ (k + 1) (by omega) (by omega))
          · refine j_iconst (v := 1) dX2_yearBegins_64 (by decide) ?_
            refine j_goto (tgt := 69) dX2_yearBegins_65 (by decide) ?_
            refine j_iadd dX2_yearBegins_69 ?_
            refine j_callV (mm_X2_sets hO (mAges (mYear0 s) k) (b := k) (k := 0) (by omega) (by omega) ((mo (mAges (mYear0 s) k) k 0) + 1)) dX2_yearBegins_70 mt_X2_sets q2228 q2230 qs43 (hO.at (mAges (mYear0 s) k) (i := 0) (by decide)) (by decide) rfl cd_X2_sets (Nat.le_of_ble_eq_true rfl) rfl rfl (Nat.le_of_ble_eq_true rfl) (jk_n ?_) jx_n
            -- age
            refine j_mem (M' := mput M L (mset (mAges (mYear0 s) k) k 0 (mo (mAges (mYear0 s) k) k 0 + jb (mSo (mAges (mYear0 s) k) k 0 || mSo (mAges (mYear0 s) k) k 1)))) (congrArg (mput M L) (by first | (rw [c52]; rfl) | (rw [c52, c61]; rfl))) ?_
            refine j_aload_n dX2_yearBegins_73 rfl rfl ?_
            refine j_iload_n dX2_yearBegins_74 rfl ?_
            refine j_iconst (v := 4) dX2_yearBegins_75 (by decide) ?_
            refine j_aload_n dX2_yearBegins_76 rfl rfl ?_
            refine j_iload_n dX2_yearBegins_77 rfl ?_
            refine j_iconst (v := 4) dX2_yearBegins_78 (by decide) ?_
            refine j_callV (mm_X2_of hO (mset (mAges (mYear0 s) k) k 0 (mo (mAges (mYear0 s) k) k 0 + jb (mSo (mAges (mYear0 s) k) k 0 || mSo (mAges (mYear0 s) k) k 1))) (b := k) (k := 4) (by omega) (by omega)) dX2_yearBegins_79 mt_X2_of q2248 q2250 qs47 (hO.at (mset (mAges (mYear0 s) k) k 0 (mo (mAges (mYear0 s) k) k 0 + jb (mSo (mAges (mYear0 s) k) k 0 || mSo (mAges (mYear0 s) k) k 1))) (i := 0) (by decide)) (by decide) rfl cd_X2_of (Nat.le_of_ble_eq_true rfl) rfl rfl (Nat.le_of_ble_eq_true rfl) (jk_v ?_) jx_v
            refine j_aload_n dX2_yearBegins_82 rfl rfl ?_
            refine j_iload_n dX2_yearBegins_83 rfl ?_
            refine j_iconst (v := 1) dX2_yearBegins_84 (by decide) ?_
            refine j_callV (mm_X2_isSo hO (mset (mAges (mYear0 s) k) k 0 (mo (mAges (mYear0 s) k) k 0 + jb (mSo (mAges (mYear0 s) k) k 0 || mSo (mAges (mYear0 s) k) k 1))) (b := k) (by omega) 1) dX2_yearBegins_85 mt_X2_isSo q2244 q2246 qs46 (hO.at (mset (mAges (mYear0 s) k) k 0 (mo (mAges (mYear0 s) k) k 0 + jb (mSo (mAges (mYear0 s) k) k 0 || mSo (mAges (mYear0 s) k) k 1))) (i := 0) (by decide)) (by decide) rfl cd_X2_isSo (Nat.le_of_ble_eq_true rfl) rfl rfl (Nat.le_of_ble_eq_true rfl) (jk_v ?_) jx_v
            refine j_ifeqB (tgt := 95) dX2_yearBegins_88 (by decide) (fun c88 => ?_) (fun c88 => ?_)
            · refine j_iconst (v := 0) dX2_yearBegins_95 (by decide) ?_
              refine j_iadd dX2_yearBegins_96 ?_
              refine j_callV (mm_X2_sets hO (mset (mAges (mYear0 s) k) k 0 (mo (mAges (mYear0 s) k) k 0 + jb (mSo (mAges (mYear0 s) k) k 0 || mSo (mAges (mYear0 s) k) k 1))) (b := k) (k := 4) (by omega) (by omega) ((mo (mset (mAges (mYear0 s) k) k 0 (mo (mAges (mYear0 s) k) k 0 + jb (mSo (mAges (mYear0 s) k) k 0 || mSo (mAges (mYear0 s) k) k 1))) k 4) + 0)) dX2_yearBegins_97 mt_X2_sets q2228 q2230 qs43 (hO.at (mset (mAges (mYear0 s) k) k 0 (mo (mAges (mYear0 s) k) k 0 + jb (mSo (mAges (mYear0 s) k) k 0 || mSo (mAges (mYear0 s) k) k 1))) (i := 0) (by decide)) (by decide) rfl cd_X2_sets (Nat.le_of_ble_eq_true rfl) rfl rfl (Nat.le_of_ble_eq_true rfl) (jk_n ?_) jx_n
              refine j_iinc (v := nI (k + 1)) dX2_yearBegins_100 rfl (nI_1 _) (by decide) rfl ?_
              refine j_goto (tgt := 27) dX2_yearBegins_103 (by decide) ?_
              refine j_mem (M' := mput M L (mAges (mYear0 s) (k + 1))) (congrArg (mput M L) (show mset (mset (mAges (mYear0 s) k) k 0 (mo (mAges (mYear0 s) k) k 0 + jb (mSo (mAges (mYear0 s) k) k 0 || mSo (mAges (mYear0 s) k) k 1))) k 4 (mo (mset (mAges (mYear0 s) k) k 0 (mo (mAges (mYear0 s) k) k 0 + jb (mSo (mAges (mYear0 s) k) k 0 || mSo (mAges (mYear0 s) k) k 1))) k 4 + jb (mSo (mset (mAges (mYear0 s) k) k 0 (mo (mAges (mYear0 s) k) k 0 + jb (mSo (mAges (mYear0 s) k) k 0 || mSo (mAges (mYear0 s) k) k 1))) k 1)) = _ by rw [c88]; rfl)) ?_
              refine j_locs (ls2 := [(0, .ref (L 0)), (1, .int (nI (k + 1)))]) ⟨rfl, rfl, trivial⟩ (ih_ (k + 1) (by omega) (by omega))
            · refine j_iconst (v := 1) dX2_yearBegins_91 (by decide) ?_
              refine j_goto (tgt := 96) dX2_yearBegins_92 (by decide) ?_
              refine j_iadd dX2_yearBegins_96 ?_
              refine j_callV (mm_X2_sets hO (mset (mAges (mYear0 s) k) k 0 (mo (mAges (mYear0 s) k) k 0 + jb (mSo (mAges (mYear0 s) k) k 0 || mSo (mAges (mYear0 s) k) k 1))) (b := k) (k := 4) (by omega) (by omega) ((mo (mset (mAges (mYear0 s) k) k 0 (mo (mAges (mYear0 s) k) k 0 + jb (mSo (mAges (mYear0 s) k) k 0 || mSo (mAges (mYear0 s) k) k 1))) k 4) + 1)) dX2_yearBegins_97 mt_X2_sets q2228 q2230 qs43 (hO.at (mset (mAges (mYear0 s) k) k 0 (mo (mAges (mYear0 s) k) k 0 + jb (mSo (mAges (mYear0 s) k) k 0 || mSo (mAges (mYear0 s) k) k 1))) (i := 0) (by decide)) (by decide) rfl cd_X2_sets (Nat.le_of_ble_eq_true rfl) rfl rfl (Nat.le_of_ble_eq_true rfl) (jk_n ?_) jx_n
              refine j_iinc (v := nI (k + 1)) dX2_yearBegins_100 rfl (nI_1 _) (by decide) rfl ?_
              refine j_goto (tgt := 27) dX2_yearBegins_103 (by decide) ?_
              refine j_mem (M' := mput M L (mAges (mYear0 s) (k + 1))) (congrArg (mput M L) (show mset (mset (mAges (mYear0 s) k) k 0 (mo (mAges (mYear0 s) k) k 0 + jb (mSo (mAges (mYear0 s) k) k 0 || mSo (mAges (mYear0 s) k) k 1))) k 4 (mo (mset (mAges (mYear0 s) k) k 0 (mo (mAges (mYear0 s) k) k 0 + jb (mSo (mAges (mYear0 s) k) k 0 || mSo (mAges (mYear0 s) k) k 1))) k 4 + jb (mSo (mset (mAges (mYear0 s) k) k 0 (mo (mAges (mYear0 s) k) k 0 + jb (mSo (mAges (mYear0 s) k) k 0 || mSo (mAges (mYear0 s) k) k 1))) k 1)) = _ by rw [c88]; rfl)) ?_
              refine j_locs (ls2 := [(0, .ref (L 0)), (1, .int (nI (k + 1)))]) ⟨rfl, rfl, trivial⟩ (ih_ (k + 1) (by omega) (by omega))
  refine j_locs (ls2 := [(0, .ref (L 0)), (1, .int (nI 0))]) ⟨rfl, rfl, trivial⟩ ?_
  exact l8_ _ 0 (Nat.lt_succ_self _) (Nat.zero_le _)

theorem mm_X2_weekGoes (hO : mOK G M L) (s : MS) {n : Nat} (hn : s.2 0 2 = nI n) (hn16 : n ≤ 16) (hw : mWk s) : JM l G 5 yX2_weekGoes wX2_weekGoes [.ref (L 0)] (mput M L s) (jv (.int ((mWeekGoes s n).1)) (mput M L ((mWeekGoes s n).2))) := by
  refine JM.of pn_X2 (Nat.le_of_ble_eq_true rfl) (hO.1.1) ?_
  show JW l G 5 YX2_weekGoes _ 0 [(0, .ref (L 0))] [] (mput M L s)
  refine j_aload_n dX2_weekGoes_0 rfl rfl ?_
  refine j_callV (mm_X2_feastComes hO s hn hn16 hw) dX2_weekGoes_1 mt_X2_feastComes q2386 q2388 qs72 (hO.at s (i := 0) (by decide)) (by decide) rfl cd_X2_feastComes (Nat.le_of_ble_eq_true rfl) rfl rfl (Nat.le_of_ble_eq_true rfl) (jk_v ?_) jx_v
  refine j_istore_n dX2_weekGoes_4 (by decide) rfl ?_
  refine j_iconst (v := 0) dX2_weekGoes_5 (by decide) ?_
  refine j_istore_n dX2_weekGoes_6 (by decide) rfl ?_
  -- loop at 7
  refine j_mem (M' := mput M L (mBans (mFeastComes s n).2 0)) (congrArg (mput M L) rfl) ?_
  have l9_ : ∀ (fu_ : Nat) (k : Nat), n - k < fu_ → (k ≤ n) → JW l G 5 YX2_weekGoes (jv (.int ((mWeekGoes s n).1)) (mput M L ((mWeekGoes s n).2))) 7 [(0, .ref (L 0)), (1, .int ((mFeastComes s n).1)), (2, .int (nI k))] [] (mput M L (mBans (mFeastComes s n).2 k)) := by
    intro fu_
    induction fu_ with
    | zero => intro k hf_; exact absurd hf_ (Nat.not_lt_zero _)
    | succ fu_ ih_ =>
      intro k hf_ hk
      refine j_iload_n dX2_weekGoes_7 rfl ?_
      refine j_aload_n dX2_weekGoes_8 rfl rfl ?_
      refine mj_get hO dX2_weekGoes_9 fd_X2_7_2 rfl ?_
      refine j_iconst (v := 2) dX2_weekGoes_12 (by decide) ?_
      refine mj_iald (j := 0) (i := 2) hO dX2_weekGoes_13 (by decide) rfl (by decide) ?_
      refine j_icmp_ge (tgt := 50) dX2_weekGoes_14 (by decide) (fun q9_ => ?_) (fun q9_ => ?_)
      · obtain rfl : n = k := (n_end (show (mBans (mFeastComes s n).2 k).2 0 2 = nI n by simp only [mset_2, mStamps_2, mBecomes_2, mVoicesGo_2, mClear_2, mGo1_2, mThinks_2, mRemembers_2, mNot_2, mRef_2, mGive_2, mFeastComes_2, mBans_2, mRents_2, mAges_2, mYear0_2, mYear_2, mWeekOn_2, mWeekGoes_2, mWeeksGo_2, mComesIn_2, mGownStep_2, mwset1_2]; exact hn) hn16 hk q9_).symm
        refine j_iconst (v := 0) dX2_weekGoes_50 (by decide) ?_
        refine j_istore_n dX2_weekGoes_51 (by decide) rfl ?_
        -- loop at 52
        refine j_mem (M' := mput M L (mRents (mBans (mFeastComes s n).2 n) n 0)) (congrArg (mput M L) rfl) ?_
        have l10_ : ∀ (fu_ : Nat) (k : Nat), 8 - k < fu_ → (k ≤ 8) → JW l G 5 YX2_weekGoes (jv (.int ((mWeekGoes s n).1)) (mput M L ((mWeekGoes s n).2))) 52 [(0, .ref (L 0)), (1, .int ((mFeastComes s n).1)), (2, .int (nI k))] [] (mput M L (mRents (mBans (mFeastComes s n).2 n) n k)) := by
          intro fu_
          induction fu_ with
          | zero => intro k hf_; exact absurd hf_ (Nat.not_lt_zero _)
          | succ fu_ ih_ =>
            intro k hf_ hk
            refine j_iload_n dX2_weekGoes_52 rfl ?_
            refine j_bipush (v := 8) dX2_weekGoes_53 (by decide) ?_
            refine j_icmp_ge (tgt := 77) dX2_weekGoes_55 (by decide) (fun q10_ => ?_) (fun q10_ => ?_)
            · obtain rfl : k = 8 := c_end (n := 8) (by decide) hk q10_
              refine j_aload_n dX2_weekGoes_77 rfl rfl ?_
              refine mj_get hO dX2_weekGoes_78 fd_X2_7_2 rfl ?_
              refine j_iconst (v := 1) dX2_weekGoes_81 (by decide) ?_
              refine j_dup2_11 dX2_weekGoes_82 rfl rfl ?_
              refine mj_iald (j := 0) (i := 1) hO dX2_weekGoes_83 (by decide) rfl (by decide) ?_
              refine j_iconst (v := 1) dX2_weekGoes_84 (by decide) ?_
              refine j_iadd dX2_weekGoes_85 ?_
              refine mj_iast (j := 0) (i := 1) hO dX2_weekGoes_86 (by decide) rfl (by decide) ?_
              refine j_mem (M' := mput M L (mwset (mRents (mBans (mFeastComes s n).2 n) n 8) 1 (mw (mRents (mBans (mFeastComes s n).2 n) n 8) 1 + 1))) (congrArg (mput M L) rfl) ?_
              refine j_aload_n dX2_weekGoes_87 rfl rfl ?_
              refine mj_get hO dX2_weekGoes_88 fd_X2_7_2 rfl ?_
              refine j_iconst (v := 1) dX2_weekGoes_91 (by decide) ?_
              refine mj_iald (j := 0) (i := 1) hO dX2_weekGoes_92 (by decide) rfl (by decide) ?_
              refine j_bipush (v := 52) dX2_weekGoes_93 (by decide) ?_
              refine j_icmp_ne (tgt := 102) dX2_weekGoes_95 (by decide) (fun c95 => ?_) (fun c95 => ?_)
              · refine j_iload_n dX2_weekGoes_102 rfl ?_
                exact j_ireturn dX2_weekGoes_103 rfl (mjv rfl (by show _ = mWeekOn (mRents (mBans (mFeastComes s n).2 n) n 8) n; unfold mWeekOn; first | exact (if_pos (by assumption)).symm | exact (if_neg (by assumption)).symm))
              · refine j_aload_n dX2_weekGoes_98 rfl rfl ?_
                refine j_callV (mm_X2_yearBegins hO (mwset (mRents (mBans (mFeastComes s n).2 n) n 8) 1 (mw (mRents (mBans (mFeastComes s n).2 n) n 8) 1 + 1)) (show (mwset (mRents (mBans (mFeastComes s n).2 n) n 8) 1 (mw (mRents (mBans (mFeastComes s n).2 n) n 8) 1 + 1)).2 0 2 = nI n by simp only [mset_2, mStamps_2, mBecomes_2, mVoicesGo_2, mClear_2, mGo1_2, mThinks_2, mRemembers_2, mNot_2, mRef_2, mGive_2, mFeastComes_2, mBans_2, mRents_2, mAges_2, mYear0_2, mYear_2, mWeekOn_2, mWeekGoes_2, mWeeksGo_2, mComesIn_2, mGownStep_2, mwset1_2]; exact hn) hn16) dX2_weekGoes_99 mt_X2_yearBegins q2398 q2400 qs75 (hO.at (mwset (mRents (mBans (mFeastComes s n).2 n) n 8) 1 (mw (mRents (mBans (mFeastComes s n).2 n) n 8) 1 + 1)) (i := 0) (by decide)) (by decide) rfl cd_X2_yearBegins (Nat.le_of_ble_eq_true rfl) rfl rfl (Nat.le_of_ble_eq_true rfl) (jk_n ?_) jx_n
                refine j_iload_n dX2_weekGoes_102 rfl ?_
                exact j_ireturn dX2_weekGoes_103 rfl (mjv rfl (by show _ = mWeekOn (mRents (mBans (mFeastComes s n).2 n) n 8) n; unfold mWeekOn; first | exact (if_pos (by assumption)).symm | exact (if_neg (by assumption)).symm))
            · have hk_ : k < 8 := c_on (n := 8) (by decide) q10_ hk
              refine j_aload_n dX2_weekGoes_58 rfl rfl ?_
              refine j_iload_n dX2_weekGoes_59 rfl ?_
              refine j_callV (mm_X2_brotherIn hO (mRents (mBans (mFeastComes s n).2 n) n k) (show (mRents (mBans (mFeastComes s n).2 n) n k).2 0 2 = nI n by simp only [mset_2, mStamps_2, mBecomes_2, mVoicesGo_2, mClear_2, mGo1_2, mThinks_2, mRemembers_2, mNot_2, mRef_2, mGive_2, mFeastComes_2, mBans_2, mRents_2, mAges_2, mYear0_2, mYear_2, mWeekOn_2, mWeekGoes_2, mWeeksGo_2, mComesIn_2, mGownStep_2, mwset1_2]; exact hn) hn16 (nI k)) dX2_weekGoes_60 mt_X2_brotherIn q2295 q2297 qs56 (hO.at (mRents (mBans (mFeastComes s n).2 n) n k) (i := 0) (by decide)) (by decide) rfl cd_X2_brotherIn (Nat.le_of_ble_eq_true rfl) rfl rfl (Nat.le_of_ble_eq_true rfl) (jk_v ?_) jx_v
              refine j_if_ge (tgt := 71) dX2_weekGoes_63 (by decide) (fun c63 => ?_) (fun c63 => ?_)
              · refine j_iinc (v := nI (k + 1)) dX2_weekGoes_71 rfl (nI_1 _) (by decide) rfl ?_
                refine j_goto (tgt := 52) dX2_weekGoes_74 (by decide) ?_
                refine j_mem (M' := mput M L (mRents (mBans (mFeastComes s n).2 n) n (k + 1))) (congrArg (mput M L) (by first | exact if_pos c63 | exact if_neg c63 | exact if_neg (Bool.eq_false_iff.mp c63) | exact if_neg (Int32.not_lt.mpr c63) | exact if_pos (Int32.not_le.mp c63))) ?_
                refine j_locs (ls2 := [(0, .ref (L 0)), (1, .int ((mFeastComes s n).1)), (2, .int (nI (k + 1)))]) ⟨rfl, rfl, rfl, trivial⟩ (ih_ (k + 1) (by omega) (by omega))
              · refine j_aload_n dX2_weekGoes_66 rfl rfl ?_
                refine j_iconst (v := 2) dX2_weekGoes_67 (by decide) ?_
                refine j_callV (mm_X2_comesIn hO (mRents (mBans (mFeastComes s n).2 n) n k) 2) dX2_weekGoes_68 mt_X2_comesIn q2367 q2369 qs69 (hO.at (mRents (mBans (mFeastComes s n).2 n) n k) (i := 0) (by decide)) (by decide) rfl cd_X2_comesIn (Nat.le_of_ble_eq_true rfl) rfl rfl (Nat.le_of_ble_eq_true rfl) (jk_n ?_) jx_n
                refine j_iinc (v := nI (k + 1)) dX2_weekGoes_71 rfl (nI_1 _) (by decide) rfl ?_
                refine j_goto (tgt := 52) dX2_weekGoes_74 (by decide) ?_
                refine j_mem (M' := mput M L (mRents (mBans (mFeastComes s n).2 n) n (k + 1))) (congrArg (mput M L) (by first | exact if_pos c63 | exact if_neg c63 | exact if_neg (Bool.eq_false_iff.mp c63) | exact if_neg (Int32.not_lt.mpr c63) | exact if_pos (Int32.not_le.mp c63))) ?_
                refine j_locs (ls2 := [(0, .ref (L 0)), (1, .int ((mFeastComes s n).1)), (2, .int (nI (k + 1)))]) ⟨rfl, rfl, rfl, trivial⟩ (ih_ (k + 1) (by omega) (by omega))
        refine j_locs (ls2 := [(0, .ref (L 0)), (1, .int ((mFeastComes s n).1)), (2, .int (nI 0))]) ⟨rfl, rfl, rfl, trivial⟩ ?_
        exact l10_ _ 0 (Nat.lt_succ_self _) (Nat.zero_le _)
      · have hk_ := n_on (show (mBans (mFeastComes s n).2 k).2 0 2 = nI n by simp only [mset_2, mStamps_2, mBecomes_2, mVoicesGo_2, mClear_2, mGo1_2, mThinks_2, mRemembers_2, mNot_2, mRef_2, mGive_2, mFeastComes_2, mBans_2, mRents_2, mAges_2, mYear0_2, mYear_2, mWeekOn_2, mWeekGoes_2, mWeeksGo_2, mComesIn_2, mGownStep_2, mwset1_2]; exact hn) hn16 q9_ hk
        refine j_aload_n dX2_weekGoes_17 rfl rfl ?_
        refine j_iload_n dX2_weekGoes_18 rfl ?_
        refine j_iconst (v := 5) dX2_weekGoes_19 (by decide) ?_
        refine j_aload_n dX2_weekGoes_20 rfl rfl ?_
        refine j_iload_n dX2_weekGoes_21 rfl ?_
        refine j_iconst (v := 5) dX2_weekGoes_22 (by decide) ?_
        refine j_callV (mm_X2_of hO (mBans (mFeastComes s n).2 k) (b := k) (k := 5) (by omega) (by omega)) dX2_weekGoes_23 mt_X2_of q2248 q2250 qs47 (hO.at (mBans (mFeastComes s n).2 k) (i := 0) (by decide)) (by decide) rfl cd_X2_of (Nat.le_of_ble_eq_true rfl) rfl rfl (Nat.le_of_ble_eq_true rfl) (jk_v ?_) jx_v
        refine j_if_le (tgt := 40) dX2_weekGoes_26 (by decide) (fun c26 => ?_) (fun c26 => ?_)
        · refine j_iconst (v := 0) dX2_weekGoes_40 (by decide) ?_
          refine j_callV (mm_X2_sets hO (mBans (mFeastComes s n).2 k) (b := k) (k := 5) (by omega) (by omega) 0) dX2_weekGoes_41 mt_X2_sets q2228 q2230 qs43 (hO.at (mBans (mFeastComes s n).2 k) (i := 0) (by decide)) (by decide) rfl cd_X2_sets (Nat.le_of_ble_eq_true rfl) rfl rfl (Nat.le_of_ble_eq_true rfl) (jk_n ?_) jx_n
          refine j_iinc (v := nI (k + 1)) dX2_weekGoes_44 rfl (nI_1 _) (by decide) rfl ?_
          refine j_goto (tgt := 7) dX2_weekGoes_47 (by decide) ?_
          refine j_mem (M' := mput M L (mBans (mFeastComes s n).2 (k + 1))) (congrArg (mput M L) (show mset (mBans (mFeastComes s n).2 k) k 5 (if 0 < mo (mBans (mFeastComes s n).2 k) k 5 then mo (mBans (mFeastComes s n).2 k) k 5 - 1 else 0) = _ by first | rw [if_neg (Int32.not_lt.mpr c26)] | rw [if_pos (Int32.not_le.mp c26)])) ?_
          refine j_locs (ls2 := [(0, .ref (L 0)), (1, .int ((mFeastComes s n).1)), (2, .int (nI (k + 1)))]) ⟨rfl, rfl, rfl, trivial⟩ (ih_ (k + 1) (by omega) (by omega))
        · refine j_aload_n dX2_weekGoes_29 rfl rfl ?_
          refine j_iload_n dX2_weekGoes_30 rfl ?_
          refine j_iconst (v := 5) dX2_weekGoes_31 (by decide) ?_
          refine j_callV (mm_X2_of hO (mBans (mFeastComes s n).2 k) (b := k) (k := 5) (by omega) (by omega)) dX2_weekGoes_32 mt_X2_of q2248 q2250 qs47 (hO.at (mBans (mFeastComes s n).2 k) (i := 0) (by decide)) (by decide) rfl cd_X2_of (Nat.le_of_ble_eq_true rfl) rfl rfl (Nat.le_of_ble_eq_true rfl) (jk_v ?_) jx_v
          refine j_iconst (v := 1) dX2_weekGoes_35 (by decide) ?_
          refine j_isub dX2_weekGoes_36 ?_
          refine j_goto (tgt := 41) dX2_weekGoes_37 (by decide) ?_
          refine j_callV (mm_X2_sets hO (mBans (mFeastComes s n).2 k) (b := k) (k := 5) (by omega) (by omega) ((mo (mBans (mFeastComes s n).2 k) k 5) - 1)) dX2_weekGoes_41 mt_X2_sets q2228 q2230 qs43 (hO.at (mBans (mFeastComes s n).2 k) (i := 0) (by decide)) (by decide) rfl cd_X2_sets (Nat.le_of_ble_eq_true rfl) rfl rfl (Nat.le_of_ble_eq_true rfl) (jk_n ?_) jx_n
          refine j_iinc (v := nI (k + 1)) dX2_weekGoes_44 rfl (nI_1 _) (by decide) rfl ?_
          refine j_goto (tgt := 7) dX2_weekGoes_47 (by decide) ?_
          refine j_mem (M' := mput M L (mBans (mFeastComes s n).2 (k + 1))) (congrArg (mput M L) (show mset (mBans (mFeastComes s n).2 k) k 5 (if 0 < mo (mBans (mFeastComes s n).2 k) k 5 then mo (mBans (mFeastComes s n).2 k) k 5 - 1 else 0) = _ by first | rw [if_neg (Int32.not_lt.mpr c26)] | rw [if_pos (Int32.not_le.mp c26)])) ?_
          refine j_locs (ls2 := [(0, .ref (L 0)), (1, .int ((mFeastComes s n).1)), (2, .int (nI (k + 1)))]) ⟨rfl, rfl, rfl, trivial⟩ (ih_ (k + 1) (by omega) (by omega))
  refine j_locs (ls2 := [(0, .ref (L 0)), (1, .int ((mFeastComes s n).1)), (2, .int (nI 0))]) ⟨rfl, rfl, rfl, trivial⟩ ?_
  exact l9_ _ 0 (Nat.lt_succ_self _) (Nat.zero_le _)

theorem mm_X2_weeksGo (hO : mOK G M L) (s : MS) {n : Nat} (hn : s.2 0 2 = nI n) (hn16 : n ≤ 16) (hw : mWk s) {m : Nat} (hm : m < 2 ^ 31) : JM l G 6 yX2_weeksGo wX2_weeksGo [.ref (L 0), .int (nI m)] (mput M L s) (jv (.int ((mWeeksGo s n m).1)) (mput M L ((mWeeksGo s n m).2))) := by
  refine JM.of pn_X2 (Nat.le_of_ble_eq_true rfl) (hO.1.1) ?_
  show JW l G 6 YX2_weeksGo _ 0 [(0, .ref (L 0)), (1, .int (nI m))] [] (mput M L s)
  refine j_iconst (v := 0) dX2_weeksGo_0 (by decide) ?_
  refine j_istore_n dX2_weeksGo_1 (by decide) rfl ?_
  refine j_iconst (v := 0) dX2_weeksGo_2 (by decide) ?_
  refine j_istore_n dX2_weeksGo_3 (by decide) rfl ?_
  refine j_mem (M' := mput M L ((mWeeksGo s n 0).2)) (congrArg (mput M L) rfl) ?_
  have lw_ : ∀ (fu_ : Nat) (k : Nat), m - k < fu_ → (k ≤ m) → JW l G 6 YX2_weeksGo (jv (.int ((mWeeksGo s n m).1)) (mput M L ((mWeeksGo s n m).2))) 4 [(0, .ref (L 0)), (1, .int (nI m)), (2, .int (mWeeksGo s n k).1), (3, .int (nI k))] [] (mput M L ((mWeeksGo s n k).2)) := by
    intro fu_
    induction fu_ with
    | zero => intro k hf_; exact absurd hf_ (Nat.not_lt_zero _)
    | succ fu_ ih_ =>
      intro k hf_ hk
      refine j_iload_n dX2_weeksGo_4 rfl ?_
      refine j_iload_n dX2_weeksGo_5 rfl ?_
      refine j_icmp_ge (tgt := 22) dX2_weeksGo_6 (by decide) (fun q_ => ?_) (fun q_ => ?_)
      · obtain rfl : m = k := (c_end hm hk q_).symm
        refine j_iload_n dX2_weeksGo_22 rfl ?_
        exact j_ireturn dX2_weeksGo_23 rfl (mjv rfl rfl)
      · have hk_ : k < m := c_on hm q_ hk
        refine j_iload_n dX2_weeksGo_9 rfl ?_
        refine j_aload_n dX2_weeksGo_10 rfl rfl ?_
        refine j_callV (mm_X2_weekGoes hO ((mWeeksGo s n k).2) (show ((mWeeksGo s n k).2).2 0 2 = nI n by simp only [mset_2, mStamps_2, mBecomes_2, mVoicesGo_2, mClear_2, mGo1_2, mThinks_2, mRemembers_2, mNot_2, mRef_2, mGive_2, mFeastComes_2, mBans_2, mRents_2, mAges_2, mYear0_2, mYear_2, mWeekOn_2, mWeekGoes_2, mWeeksGo_2, mComesIn_2, mGownStep_2, mwset1_2]; exact hn) hn16 (mWeeksGo_wk hw k)) dX2_weeksGo_11 mt_X2_weekGoes q2382 q2384 qs71 (hO.at ((mWeeksGo s n k).2) (i := 0) (by decide)) (by decide) rfl cd_X2_weekGoes (Nat.le_of_ble_eq_true rfl) rfl rfl (Nat.le_of_ble_eq_true rfl) (jk_v ?_) jx_v
        refine j_iadd dX2_weeksGo_14 ?_
        refine j_istore_n dX2_weeksGo_15 (by decide) rfl ?_
        refine j_iinc (v := nI (k + 1)) dX2_weeksGo_16 rfl (nI_1 _) (by decide) rfl ?_
        refine j_goto (tgt := 4) dX2_weeksGo_19 (by decide) ?_
        refine j_mem (M' := mput M L ((mWeeksGo s n (k + 1)).2)) (congrArg (mput M L) rfl) ?_
        refine j_locs (ls2 := [(0, .ref (L 0)), (1, .int (nI m)), (2, .int (mWeeksGo s n (k + 1)).1), (3, .int (nI (k + 1)))]) ⟨rfl, rfl, rfl, rfl, trivial⟩ (ih_ (k + 1) (by omega) (by omega))
  refine j_locs (ls2 := [(0, .ref (L 0)), (1, .int (nI m)), (2, .int (mWeeksGo s n 0).1), (3, .int (nI 0))]) ⟨rfl, rfl, rfl, rfl, trivial⟩ ?_
  exact lw_ _ 0 (Nat.lt_succ_self _) (Nat.zero_le _)

theorem mm_X2_weeks (hO : mOK G M L) (s : MS) {n : Nat} (hn : s.2 0 2 = nI n) (hn16 : n ≤ 16) {c f : Nat} (hc : s.1 8 = nI c) (hf : s.1 9 = nI f) (hc8 : c ≤ 8) (hf8 : f < 8) (hw : mWk s) (x : Int32) : JM l G 7 yX2_weeks wX2_weeks [.ref (L 0), .int x] (mput M L s) (jv (.int ((mWeeks s n c f x).1)) (mput M L ((mWeeks s n c f x).2))) := by
  refine JM.of pn_X2 (Nat.le_of_ble_eq_true rfl) (hO.1.1) ?_
  show JW l G 7 YX2_weeks _ 0 [(0, .ref (L 0)), (1, .int x)] [] (mput M L s)
  refine j_iload_n dX2_weeks_0 rfl ?_
  refine j_iconst (v := 1) dX2_weeks_1 (by decide) ?_
  refine j_bipush (v := 60) dX2_weeks_2 (by decide) ?_
  refine j_callS (mm_X2_isBetween hO s x 1 60) dX2_weeks_4 mt_X2_isBetween q2205 q2206 cd_X2_isBetween (Nat.le_of_ble_eq_true rfl) rfl rfl (Nat.le_of_ble_eq_true rfl) (jk_v ?_) jx_v
  refine j_ifneB (tgt := 13) dX2_weeks_7 (by decide) (fun c7 => ?_) (fun c7 => ?_)
  · obtain ⟨k, hkl_, hk_, rfl⟩ := mIn_of (a := 1) (b := 60) (by decide) c7 (by decide)
    have ek_ : mN (nI k) = k := mN_nI (by omega)
    refine j_aload_n dX2_weeks_13 rfl rfl ?_
    refine j_callV (mm_X2_remembers hO s hc hf hc8 hf8) dX2_weeks_14 mt_X2_remembers q2216 q2218 qs40 (hO.at s (i := 0) (by decide)) (by decide) rfl cd_X2_remembers (Nat.le_of_ble_eq_true rfl) rfl rfl (Nat.le_of_ble_eq_true rfl) (jk_n ?_) jx_n
    refine j_aload_n dX2_weeks_17 rfl rfl ?_
    refine j_iload_n dX2_weeks_18 rfl ?_
    refine j_callV (mm_X2_weeksGo hO (mRemembers s c f) (show (mRemembers s c f).2 0 2 = nI n by simp only [mset_2, mStamps_2, mBecomes_2, mVoicesGo_2, mClear_2, mGo1_2, mThinks_2, mRemembers_2, mNot_2, mRef_2, mGive_2, mFeastComes_2, mBans_2, mRents_2, mAges_2, mYear0_2, mYear_2, mWeekOn_2, mWeekGoes_2, mWeeksGo_2, mComesIn_2, mGownStep_2, mwset1_2]; exact hn) hn16 (mWk_w (mRemembers_w s c f) hw) (m := k) (by omega)) dX2_weeks_19 mt_X2_weeksGo q2378 q2380 qs70 (hO.at (mRemembers s c f) (i := 0) (by decide)) (by decide) rfl cd_X2_weeksGo (Nat.le_of_ble_eq_true rfl) rfl rfl (Nat.le_of_ble_eq_true rfl) (jk_v ?_) jx_v
    exact j_ireturn dX2_weeks_22 rfl (mjv (by simp only [mWeeks, c7, ek_, if_true, if_false, Bool.false_eq_true]) (by simp only [mWeeks, c7, ek_, if_true, if_false, Bool.false_eq_true]))
  · refine j_bipush (v := (-12)) dX2_weeks_10 (by decide) ?_
    exact j_ireturn dX2_weeks_12 rfl (mjv (by simp only [mWeeks, c7, if_true, if_false, Bool.false_eq_true]) (by simp only [mWeeks, c7, if_true, if_false, Bool.false_eq_true]))

theorem mm_X2_wouldGet (hO : mOK G M L) (s : MS) {n : Nat} (hn : s.2 0 2 = nI n) (hn16 : n ≤ 16) (hw : mWk s) (x y : Int32) : JM l G 7 yX2_wouldGet wX2_wouldGet [.ref (L 0), .int x, .int y] (mput M L s) (jv (.int ((mWouldGet s n x y).1)) (mput M L ((mWouldGet s n x y).2))) := by
  refine JM.of pn_X2 (Nat.le_of_ble_eq_true rfl) (hO.1.1) ?_
  show JW l G 7 YX2_wouldGet _ 0 [(0, .ref (L 0)), (1, .int x), (2, .int y)] [] (mput M L s)
  refine j_aload_n dX2_wouldGet_0 rfl rfl ?_
  refine j_iload_n dX2_wouldGet_1 rfl ?_
  refine j_callV (mm_X2_isBrother hO s x) dX2_wouldGet_2 mt_X2_isBrother q2240 q2242 qs45 (hO.at s (i := 0) (by decide)) (by decide) rfl cd_X2_isBrother (Nat.le_of_ble_eq_true rfl) rfl rfl (Nat.le_of_ble_eq_true rfl) (jk_v ?_) jx_v
  refine j_ifneB (tgt := 11) dX2_wouldGet_5 (by decide) (fun c5 => ?_) (fun c5 => ?_)
  · refine j_iload_n dX2_wouldGet_11 rfl ?_
    refine j_iconst (v := 0) dX2_wouldGet_12 (by decide) ?_
    refine j_bipush (v := 60) dX2_wouldGet_13 (by decide) ?_
    refine j_callS (mm_X2_isBetween hO s y 0 60) dX2_wouldGet_15 mt_X2_isBetween q2205 q2206 cd_X2_isBetween (Nat.le_of_ble_eq_true rfl) rfl rfl (Nat.le_of_ble_eq_true rfl) (jk_v ?_) jx_v
    refine j_ifneB (tgt := 24) dX2_wouldGet_18 (by decide) (fun c18 => ?_) (fun c18 => ?_)
    · obtain ⟨b, hb, rfl⟩ := mBr_of hn hn16 c5
      have eb_ : mN (nI b) = b := mN_nI (by omega)
      obtain ⟨k, hkl_, hk_, rfl⟩ := mIn_of (a := 0) (b := 60) (by decide) c18 (by decide)
      have ek_ : mN (nI k) = k := mN_nI (by omega)
      refine j_aload_n dX2_wouldGet_24 rfl rfl ?_
      refine j_callV (mm_X2_thinks hO s) dX2_wouldGet_25 mt_X2_thinks q2220 q2222 qs41 (hO.at s (i := 0) (by decide)) (by decide) rfl cd_X2_thinks (Nat.le_of_ble_eq_true rfl) rfl rfl (Nat.le_of_ble_eq_true rfl) (jk_n ?_) jx_n
      refine j_aload_n dX2_wouldGet_28 rfl rfl ?_
      refine j_iload_n dX2_wouldGet_29 rfl ?_
      refine j_bipush (v := 6) dX2_wouldGet_30 (by decide) ?_
      refine j_callV (mm_X2_of hO (mThinks s) (b := b) (k := 6) (by omega) (by omega)) dX2_wouldGet_32 mt_X2_of q2248 q2250 qs47 (hO.at (mThinks s) (i := 0) (by decide)) (by decide) rfl cd_X2_of (Nat.le_of_ble_eq_true rfl) rfl rfl (Nat.le_of_ble_eq_true rfl) (jk_v ?_) jx_v
      refine j_istore_n dX2_wouldGet_35 (by decide) rfl ?_
      refine j_aload_n dX2_wouldGet_36 rfl rfl ?_
      refine j_iload_n dX2_wouldGet_37 rfl ?_
      refine j_callV (mm_X2_weeksGo hO (mThinks s) (show (mThinks s).2 0 2 = nI n by simp only [mset_2, mStamps_2, mBecomes_2, mVoicesGo_2, mClear_2, mGo1_2, mThinks_2, mRemembers_2, mNot_2, mRef_2, mGive_2, mFeastComes_2, mBans_2, mRents_2, mAges_2, mYear0_2, mYear_2, mWeekOn_2, mWeekGoes_2, mWeeksGo_2, mComesIn_2, mGownStep_2, mwset1_2]; exact hn) hn16 hw (m := k) (by omega)) dX2_wouldGet_38 mt_X2_weeksGo q2378 q2380 qs70 (hO.at (mThinks s) (i := 0) (by decide)) (by decide) rfl cd_X2_weeksGo (Nat.le_of_ble_eq_true rfl) rfl rfl (Nat.le_of_ble_eq_true rfl) (jk_v ?_) jx_v
      refine j_pop dX2_wouldGet_41 rfl ?_
      refine j_aload_n dX2_wouldGet_42 rfl rfl ?_
      refine j_iload_n dX2_wouldGet_43 rfl ?_
      refine j_bipush (v := 6) dX2_wouldGet_44 (by decide) ?_
      refine j_callV (mm_X2_of hO ((mWeeksGo (mThinks s) n k).2) (b := b) (k := 6) (by omega) (by omega)) dX2_wouldGet_46 mt_X2_of q2248 q2250 qs47 (hO.at ((mWeeksGo (mThinks s) n k).2) (i := 0) (by decide)) (by decide) rfl cd_X2_of (Nat.le_of_ble_eq_true rfl) rfl rfl (Nat.le_of_ble_eq_true rfl) (jk_v ?_) jx_v
      refine j_iload_n dX2_wouldGet_49 rfl ?_
      refine j_isub dX2_wouldGet_50 ?_
      refine j_istore dX2_wouldGet_51 (by decide) rfl ?_
      refine j_aload_n dX2_wouldGet_53 rfl rfl ?_
      refine j_callV (mm_X2_forgets hO ((mWeeksGo (mThinks s) n k).2)) dX2_wouldGet_54 mt_X2_forgets q2418 q2420 qs79 (hO.at ((mWeeksGo (mThinks s) n k).2) (i := 0) (by decide)) (by decide) rfl cd_X2_forgets (Nat.le_of_ble_eq_true rfl) rfl rfl (Nat.le_of_ble_eq_true rfl) (jk_n ?_) jx_n
      refine j_iload dX2_wouldGet_57 rfl ?_
      exact j_ireturn dX2_wouldGet_59 rfl (mjv (by simp only [mWouldGet, c5, c18, eb_, ek_, if_true]; rfl) (by simp only [mWouldGet, c5, c18, eb_, ek_, if_true, if_false, Bool.false_eq_true]))
    · refine j_bipush (v := (-12)) dX2_wouldGet_21 (by decide) ?_
      exact j_ireturn dX2_wouldGet_23 rfl (mjv (by simp only [mWouldGet, c5, c18, if_true, if_false, Bool.false_eq_true]) (by simp only [mWouldGet, c5, c18, if_true, if_false, Bool.false_eq_true]))
  · refine j_bipush (v := (-11)) dX2_wouldGet_8 (by decide) ?_
    exact j_ireturn dX2_wouldGet_10 rfl (mjv (by simp only [mWouldGet, c5, if_true, if_false, Bool.false_eq_true]) (by simp only [mWouldGet, c5, if_true, if_false, Bool.false_eq_true]))

theorem mm_X2_chestIn (hO : mOK G M L) (s : MS) {n : Nat} (hn : s.2 0 2 = nI n) (hn16 : n ≤ 16) (hw : mWk s) (x : Int32) : JM l G 7 yX2_chestIn wX2_chestIn [.ref (L 0), .int x] (mput M L s) (jv (.int ((mChestIn s n x).1)) (mput M L ((mChestIn s n x).2))) := by
  refine JM.of pn_X2 (Nat.le_of_ble_eq_true rfl) (hO.1.1) ?_
  show JW l G 7 YX2_chestIn _ 0 [(0, .ref (L 0)), (1, .int x)] [] (mput M L s)
  refine j_iload_n dX2_chestIn_0 rfl ?_
  refine j_iconst (v := 0) dX2_chestIn_1 (by decide) ?_
  refine j_bipush (v := 60) dX2_chestIn_2 (by decide) ?_
  refine j_callS (mm_X2_isBetween hO s x 0 60) dX2_chestIn_4 mt_X2_isBetween q2205 q2206 cd_X2_isBetween (Nat.le_of_ble_eq_true rfl) rfl rfl (Nat.le_of_ble_eq_true rfl) (jk_v ?_) jx_v
  refine j_ifneB (tgt := 13) dX2_chestIn_7 (by decide) (fun c7 => ?_) (fun c7 => ?_)
  · obtain ⟨k, hkl_, hk_, rfl⟩ := mIn_of (a := 0) (b := 60) (by decide) c7 (by decide)
    have ek_ : mN (nI k) = k := mN_nI (by omega)
    refine j_aload_n dX2_chestIn_13 rfl rfl ?_
    refine j_callV (mm_X2_thinks hO s) dX2_chestIn_14 mt_X2_thinks q2220 q2222 qs41 (hO.at s (i := 0) (by decide)) (by decide) rfl cd_X2_thinks (Nat.le_of_ble_eq_true rfl) rfl rfl (Nat.le_of_ble_eq_true rfl) (jk_n ?_) jx_n
    refine j_aload_n dX2_chestIn_17 rfl rfl ?_
    refine j_iload_n dX2_chestIn_18 rfl ?_
    refine j_callV (mm_X2_weeksGo hO (mThinks s) (show (mThinks s).2 0 2 = nI n by simp only [mset_2, mStamps_2, mBecomes_2, mVoicesGo_2, mClear_2, mGo1_2, mThinks_2, mRemembers_2, mNot_2, mRef_2, mGive_2, mFeastComes_2, mBans_2, mRents_2, mAges_2, mYear0_2, mYear_2, mWeekOn_2, mWeekGoes_2, mWeeksGo_2, mComesIn_2, mGownStep_2, mwset1_2]; exact hn) hn16 hw (m := k) (by omega)) dX2_chestIn_19 mt_X2_weeksGo q2378 q2380 qs70 (hO.at (mThinks s) (i := 0) (by decide)) (by decide) rfl cd_X2_weeksGo (Nat.le_of_ble_eq_true rfl) rfl rfl (Nat.le_of_ble_eq_true rfl) (jk_v ?_) jx_v
    refine j_pop dX2_chestIn_22 rfl ?_
    refine j_aload_n dX2_chestIn_23 rfl rfl ?_
    refine mj_get hO dX2_chestIn_24 fd_X2_7_2 rfl ?_
    refine j_iconst (v := 3) dX2_chestIn_27 (by decide) ?_
    refine mj_iald (j := 0) (i := 3) hO dX2_chestIn_28 (by decide) rfl (by decide) ?_
    refine j_istore_n dX2_chestIn_29 (by decide) rfl ?_
    refine j_aload_n dX2_chestIn_30 rfl rfl ?_
    refine j_callV (mm_X2_forgets hO ((mWeeksGo (mThinks s) n k).2)) dX2_chestIn_31 mt_X2_forgets q2418 q2420 qs79 (hO.at ((mWeeksGo (mThinks s) n k).2) (i := 0) (by decide)) (by decide) rfl cd_X2_forgets (Nat.le_of_ble_eq_true rfl) rfl rfl (Nat.le_of_ble_eq_true rfl) (jk_n ?_) jx_n
    refine j_iload_n dX2_chestIn_34 rfl ?_
    exact j_ireturn dX2_chestIn_35 rfl (mjv (by simp only [mChestIn, c7, ek_, if_true, if_false, Bool.false_eq_true]) (by simp only [mChestIn, c7, ek_, if_true, if_false, Bool.false_eq_true]))
  · refine j_bipush (v := (-12)) dX2_chestIn_10 (by decide) ?_
    exact j_ireturn dX2_chestIn_12 rfl (mjv (by simp only [mChestIn, c7, if_true, if_false, Bool.false_eq_true]) (by simp only [mChestIn, c7, if_true, if_false, Bool.false_eq_true]))

end M4
