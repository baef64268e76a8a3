section M3
variable {l : Launch} {G : j_G} {M : j_M} {L : Nat → Nat}
theorem mm_X2_come (hO : mOK G M L) (s : MS) {n : Nat} (hn : s.2 0 2 = nI n) (hn16 : n ≤ 16) {c f : Nat} (hc : s.1 8 = nI c) (hf : s.1 9 = nI f) (hc8 : c ≤ 8) (hf8 : f < 8) (age : Int32) (kin : Bool) : JM l G 2 yX2_come wX2_come [.ref (L 0), .int age, .int (jb kin)] (mput M L s) (jv (.int ((mCome s n c f age kin).1)) (mput M L ((mCome s n c f age kin).2))) := by
  refine JM.of pn_X2 (Nat.le_of_ble_eq_true rfl) (hO.1.1) ?_
  show JW l G 2 YX2_come _ 0 [(0, .ref (L 0)), (1, .int age), (2, .int (jb kin))] [] (mput M L s)
  refine j_iload_n dX2_come_0 rfl ?_
  refine j_bipush (v := 50) dX2_come_1 (by decide) ?_
  refine j_bipush (v := 90) dX2_come_3 (by decide) ?_
  refine j_callS (mm_X2_isBetween hO s age 50 90) dX2_come_5 mt_X2_isBetween q2205 q2206 cd_X2_isBetween (Nat.le_of_ble_eq_true rfl) rfl rfl (Nat.le_of_ble_eq_true rfl) (jk_v ?_) jx_v
  refine j_ifneB (tgt := 14) dX2_come_8 (by decide) (fun c8 => ?_) (fun c8 => ?_)
  · refine j_aload_n dX2_come_14 rfl rfl ?_
    refine mj_get hO dX2_come_15 fd_X2_7_2 rfl ?_
    refine j_iconst (v := 2) dX2_come_18 (by decide) ?_
    refine mj_iald (j := 0) (i := 2) hO dX2_come_19 (by decide) rfl (by decide) ?_
    refine j_bipush (v := 16) dX2_come_20 (by decide) ?_
    refine j_icmp_ne (tgt := 37) dX2_come_22 (by decide) (fun c22 => ?_) (fun c22 => ?_)
    · have hlt_ : n < 16 := by
        rcases Nat.lt_or_ge n 16 with q | q
        · exact q
        · have : n = 16 := by omega
          subst this; exact absurd hn c22
      have hne_ : ¬ n = 16 := by omega
      refine j_aload_n dX2_come_37 rfl rfl ?_
      refine j_callV (mm_X2_remembers hO s hc hf hc8 hf8) dX2_come_38 mt_X2_remembers q2216 q2218 qs40 (hO.at s (i := 0) (by decide)) (by decide) rfl cd_X2_remembers (Nat.le_of_ble_eq_true rfl) rfl rfl (Nat.le_of_ble_eq_true rfl) (jk_n ?_) jx_n
      refine j_aload_n dX2_come_41 rfl rfl ?_
      refine mj_get hO dX2_come_42 fd_X2_7_2 rfl ?_
      refine j_iconst (v := 2) dX2_come_45 (by decide) ?_
      refine mj_iald (j := 0) (i := 2) hO dX2_come_46 (by decide) rfl (by decide) ?_
      rw [show (mRemembers s c f).2 0 2 = nI n from (mRemembers_2 s c f).trans hn]
      refine j_istore_n dX2_come_47 (by decide) rfl ?_
      refine j_aload_n dX2_come_48 rfl rfl ?_
      refine mj_get hO dX2_come_49 fd_X2_7_2 rfl ?_
      refine j_iconst (v := 2) dX2_come_52 (by decide) ?_
      refine j_dup2_11 dX2_come_53 rfl rfl ?_
      refine mj_iald (j := 0) (i := 2) hO dX2_come_54 (by decide) rfl (by decide) ?_
      refine j_iconst (v := 1) dX2_come_55 (by decide) ?_
      refine j_iadd dX2_come_56 ?_
      refine mj_iast (j := 0) (i := 2) hO dX2_come_57 (by decide) rfl (by decide) ?_
      refine j_mem (M' := mput M L (mwset (mRemembers s c f) 2 (nI (n + 1)))) (congrArg (mput M L) (show mwset (mRemembers s c f) 2 (nI (n + 1)) = mwset (mRemembers s c f) 2 ((mRemembers s c f).2 0 2 + 1) by rw [mRemembers_2, hn, nI_1])) ?_
      refine j_aload_n dX2_come_58 rfl rfl ?_
      refine j_iload_n dX2_come_59 rfl ?_
      refine j_iconst (v := 0) dX2_come_60 (by decide) ?_
      refine j_iload_n dX2_come_61 rfl ?_
      refine j_callV (mm_X2_sets hO (mwset (mRemembers s c f) 2 (nI (n + 1))) (b := n) (k := 0) (by omega) (by omega) age) dX2_come_62 mt_X2_sets q2228 q2230 qs43 (hO.at (mwset (mRemembers s c f) 2 (nI (n + 1))) (i := 0) (by decide)) (by decide) rfl cd_X2_sets (Nat.le_of_ble_eq_true rfl) rfl rfl (Nat.le_of_ble_eq_true rfl) (jk_n ?_) jx_n
      refine j_aload_n dX2_come_65 rfl rfl ?_
      refine j_iload_n dX2_come_66 rfl ?_
      refine j_iconst (v := 1) dX2_come_67 (by decide) ?_
      refine j_iload_n dX2_come_68 rfl ?_
      refine j_ifeqB (tgt := 76) dX2_come_69 (by decide) (fun c69 => ?_) (fun c69 => ?_)
      · refine j_iconst (v := 0) dX2_come_76 (by decide) ?_
        refine j_callV (mm_X2_sets hO (mset (mwset (mRemembers s c f) 2 (nI (n + 1))) n 0 age) (b := n) (k := 1) (by omega) (by omega) 0) dX2_come_77 mt_X2_sets q2228 q2230 qs43 (hO.at (mset (mwset (mRemembers s c f) 2 (nI (n + 1))) n 0 age) (i := 0) (by decide)) (by decide) rfl cd_X2_sets (Nat.le_of_ble_eq_true rfl) rfl rfl (Nat.le_of_ble_eq_true rfl) (jk_n ?_) jx_n
        refine j_aload_n dX2_come_80 rfl rfl ?_
        refine j_iload_n dX2_come_81 rfl ?_
        refine j_callV (mm_X2_stamps hO (mset (mset (mwset (mRemembers s c f) 2 (nI (n + 1))) n 0 age) n 1 0) (b := n) (by omega)) dX2_come_82 mt_X2_stamps q2232 q2234 qs44 (hO.at (mset (mset (mwset (mRemembers s c f) 2 (nI (n + 1))) n 0 age) n 1 0) (i := 0) (by decide)) (by decide) rfl cd_X2_stamps (Nat.le_of_ble_eq_true rfl) rfl rfl (Nat.le_of_ble_eq_true rfl) (jk_n ?_) jx_n
        refine j_iload_n dX2_come_85 rfl ?_
        exact j_ireturn dX2_come_86 rfl (mjv (by first | rfl | (simp_all [jb, mPub, mCome]; done) | (simp_all [jb, mPub, mCome]; rfl) | (simp_all [jb, mPub, mCome, ← Int32.not_lt]; done)) (by first | rfl | (simp_all [jb, mPub, mCome]; done) | (simp_all [jb, mPub, mCome]; rfl) | (simp_all [jb, mPub, mCome, ← Int32.not_lt]; done)))
      · refine j_iconst (v := 1) dX2_come_72 (by decide) ?_
        refine j_goto (tgt := 77) dX2_come_73 (by decide) ?_
        refine j_callV (mm_X2_sets hO (mset (mwset (mRemembers s c f) 2 (nI (n + 1))) n 0 age) (b := n) (k := 1) (by omega) (by omega) 1) dX2_come_77 mt_X2_sets q2228 q2230 qs43 (hO.at (mset (mwset (mRemembers s c f) 2 (nI (n + 1))) n 0 age) (i := 0) (by decide)) (by decide) rfl cd_X2_sets (Nat.le_of_ble_eq_true rfl) rfl rfl (Nat.le_of_ble_eq_true rfl) (jk_n ?_) jx_n
        refine j_aload_n dX2_come_80 rfl rfl ?_
        refine j_iload_n dX2_come_81 rfl ?_
        refine j_callV (mm_X2_stamps hO (mset (mset (mwset (mRemembers s c f) 2 (nI (n + 1))) n 0 age) n 1 1) (b := n) (by omega)) dX2_come_82 mt_X2_stamps q2232 q2234 qs44 (hO.at (mset (mset (mwset (mRemembers s c f) 2 (nI (n + 1))) n 0 age) n 1 1) (i := 0) (by decide)) (by decide) rfl cd_X2_stamps (Nat.le_of_ble_eq_true rfl) rfl rfl (Nat.le_of_ble_eq_true rfl) (jk_n ?_) jx_n
        refine j_iload_n dX2_come_85 rfl ?_
        exact j_ireturn dX2_come_86 rfl (mjv (by first | rfl | (simp_all [jb, mPub, mCome]; done) | (simp_all [jb, mPub, mCome]; rfl) | (simp_all [jb, mPub, mCome, ← Int32.not_lt]; done)) (by first | rfl | (simp_all [jb, mPub, mCome]; done) | (simp_all [jb, mPub, mCome]; rfl) | (simp_all [jb, mPub, mCome, ← Int32.not_lt]; done)))
    · have h16_ : n = 16 := (nI_eq (by omega) (by decide)).mp (hn.symm.trans c22)
      refine j_aload_n dX2_come_25 rfl rfl ?_
      refine j_aload_n dX2_come_26 rfl rfl ?_
      refine j_iconst (v := 1) dX2_come_27 (by decide) ?_
      refine j_bipush (v := 16) dX2_come_28 (by decide) ?_
      refine j_callV (mm_X2_isNot hO s 1 16) dX2_come_30 mt_X2_isNot q2208 q2210 qs38 (hO.at s (i := 0) (by decide)) (by decide) rfl cd_X2_isNot (Nat.le_of_ble_eq_true rfl) rfl rfl (Nat.le_of_ble_eq_true rfl) (jk_v ?_) jx_v
      refine j_callV (mm_X2_refuses hO (mNot s 1 16) (-14)) dX2_come_33 mt_X2_refuses q2212 q2214 qs39 (hO.at (mNot s 1 16) (i := 0) (by decide)) (by decide) rfl cd_X2_refuses (Nat.le_of_ble_eq_true rfl) rfl rfl (Nat.le_of_ble_eq_true rfl) (jk_v ?_) jx_v
      exact j_ireturn dX2_come_36 rfl (mjv (by first | rfl | (simp_all [jb, mPub, mCome]; done) | (simp_all [jb, mPub, mCome]; rfl) | (simp_all [jb, mPub, mCome, ← Int32.not_lt]; done)) (by first | rfl | (simp_all [jb, mPub, mCome]; done) | (simp_all [jb, mPub, mCome]; rfl) | (simp_all [jb, mPub, mCome, ← Int32.not_lt]; done)))
  · refine j_bipush (v := (-12)) dX2_come_11 (by decide) ?_
    exact j_ireturn dX2_come_13 rfl (mjv (by first | rfl | (simp_all [jb, mPub, mCome]; done) | (simp_all [jb, mPub, mCome]; rfl) | (simp_all [jb, mPub, mCome, ← Int32.not_lt]; done)) (by first | rfl | (simp_all [jb, mPub, mCome]; done) | (simp_all [jb, mPub, mCome]; rfl) | (simp_all [jb, mPub, mCome, ← Int32.not_lt]; done)))

theorem mm_X2_withdraw (hO : mOK G M L) (s : MS) {n : Nat} (hn : s.2 0 2 = nI n) (hn16 : n ≤ 16) {c f : Nat} (hc : s.1 8 = nI c) (hf : s.1 9 = nI f) (hc8 : c ≤ 8) (hf8 : f < 8) (x : Int32) : JM l G 4 yX2_withdraw wX2_withdraw [.ref (L 0), .int x] (mput M L s) (jv (.int ((mWithdraw s n c f x).1)) (mput M L ((mWithdraw s n c f x).2))) := by
  refine JM.of pn_X2 (Nat.le_of_ble_eq_true rfl) (hO.1.1) ?_
  show JW l G 4 YX2_withdraw _ 0 [(0, .ref (L 0)), (1, .int x)] [] (mput M L s)
  refine j_aload_n dX2_withdraw_0 rfl rfl ?_
  refine j_iload_n dX2_withdraw_1 rfl ?_
  refine j_callV (mm_X2_isBrother hO s x) dX2_withdraw_2 mt_X2_isBrother q2240 q2242 qs45 (hO.at s (i := 0) (by decide)) (by decide) rfl cd_X2_isBrother (Nat.le_of_ble_eq_true rfl) rfl rfl (Nat.le_of_ble_eq_true rfl) (jk_v ?_) jx_v
  refine j_ifneB (tgt := 11) dX2_withdraw_5 (by decide) (fun c5 => ?_) (fun c5 => ?_)
  · obtain ⟨b, hb, rfl⟩ := mBr_of hn hn16 c5
    have eb_ : mN (nI b) = b := mN_nI (by omega)
    refine j_aload_n dX2_withdraw_11 rfl rfl ?_
    refine j_iload_n dX2_withdraw_12 rfl ?_
    refine j_iconst (v := 0) dX2_withdraw_13 (by decide) ?_
    refine j_callV (mm_X2_isSo hO s (b := b) (by omega) 0) dX2_withdraw_14 mt_X2_isSo q2244 q2246 qs46 (hO.at s (i := 0) (by decide)) (by decide) rfl cd_X2_isSo (Nat.le_of_ble_eq_true rfl) rfl rfl (Nat.le_of_ble_eq_true rfl) (jk_v ?_) jx_v
    refine j_ifneB (tgt := 36) dX2_withdraw_17 (by decide) (fun c17 => ?_) (fun c17 => ?_)
    · refine j_aload_n dX2_withdraw_36 rfl rfl ?_
      refine j_callV (mm_X2_remembers hO s hc hf hc8 hf8) dX2_withdraw_37 mt_X2_remembers q2216 q2218 qs40 (hO.at s (i := 0) (by decide)) (by decide) rfl cd_X2_remembers (Nat.le_of_ble_eq_true rfl) rfl rfl (Nat.le_of_ble_eq_true rfl) (jk_n ?_) jx_n
      refine j_aload_n dX2_withdraw_40 rfl rfl ?_
      refine j_iload_n dX2_withdraw_41 rfl ?_
      refine j_iconst (v := 3) dX2_withdraw_42 (by decide) ?_
      refine j_callV (mm_X2_becomes hO (mRemembers s c f) (show (mRemembers s c f).2 0 2 = nI n by simp only [mset_2, mStamps_2, mBecomes_2, mVoicesGo_2, mClear_2, mGo1_2, mThinks_2, mRemembers_2, mNot_2, mRef_2, mGive_2, mFeastComes_2, mBans_2, mRents_2, mAges_2, mYear0_2, mYear_2, mWeekOn_2, mWeekGoes_2, mWeeksGo_2, mComesIn_2, mGownStep_2, mwset1_2]; exact hn) hn16 (b := b) (by omega) 3) dX2_withdraw_43 mt_X2_becomes q2252 q2254 qs48 (hO.at (mRemembers s c f) (i := 0) (by decide)) (by decide) rfl cd_X2_becomes (Nat.le_of_ble_eq_true rfl) rfl rfl (Nat.le_of_ble_eq_true rfl) (jk_n ?_) jx_n
      refine j_aload_n dX2_withdraw_46 rfl rfl ?_
      refine j_iconst (v := 0) dX2_withdraw_47 (by decide) ?_
      refine j_callV (mm_X2_brethrenThat hO (mBecomes (mRemembers s c f) n b 3) (show (mBecomes (mRemembers s c f) n b 3).2 0 2 = nI n by simp only [mset_2, mStamps_2, mBecomes_2, mVoicesGo_2, mClear_2, mGo1_2, mThinks_2, mRemembers_2, mNot_2, mRef_2, mGive_2, mFeastComes_2, mBans_2, mRents_2, mAges_2, mYear0_2, mYear_2, mWeekOn_2, mWeekGoes_2, mWeeksGo_2, mComesIn_2, mGownStep_2, mwset1_2]; exact hn) hn16 0) dX2_withdraw_48 mt_X2_brethrenThat q2260 q2262 qs50 (hO.at (mBecomes (mRemembers s c f) n b 3) (i := 0) (by decide)) (by decide) rfl cd_X2_brethrenThat (Nat.le_of_ble_eq_true rfl) rfl rfl (Nat.le_of_ble_eq_true rfl) (jk_v ?_) jx_v
      exact j_ireturn dX2_withdraw_51 rfl (mjv (by first | rfl | (simp_all [jb, mPub, mWithdraw]; done) | (simp_all [jb, mPub, mWithdraw]; rfl) | (simp_all [jb, mPub, mWithdraw, ← Int32.not_lt]; done)) (by first | rfl | (simp_all [jb, mPub, mWithdraw]; done) | (simp_all [jb, mPub, mWithdraw]; rfl) | (simp_all [jb, mPub, mWithdraw, ← Int32.not_lt]; done)))
    · refine j_aload_n dX2_withdraw_20 rfl rfl ?_
      refine j_aload_n dX2_withdraw_21 rfl rfl ?_
      refine j_iconst (v := 2) dX2_withdraw_22 (by decide) ?_
      refine j_aload_n dX2_withdraw_23 rfl rfl ?_
      refine j_iload_n dX2_withdraw_24 rfl ?_
      refine j_iconst (v := 2) dX2_withdraw_25 (by decide) ?_
      refine j_callV (mm_X2_of hO s (b := b) (k := 2) (by omega) (by omega)) dX2_withdraw_26 mt_X2_of q2248 q2250 qs47 (hO.at s (i := 0) (by decide)) (by decide) rfl cd_X2_of (Nat.le_of_ble_eq_true rfl) rfl rfl (Nat.le_of_ble_eq_true rfl) (jk_v ?_) jx_v
      refine j_callV (mm_X2_isNot hO s 2 (mo s b 2)) dX2_withdraw_29 mt_X2_isNot q2208 q2210 qs38 (hO.at s (i := 0) (by decide)) (by decide) rfl cd_X2_isNot (Nat.le_of_ble_eq_true rfl) rfl rfl (Nat.le_of_ble_eq_true rfl) (jk_v ?_) jx_v
      refine j_callV (mm_X2_refuses hO (mNot s 2 (mo s b 2)) (-14)) dX2_withdraw_32 mt_X2_refuses q2212 q2214 qs39 (hO.at (mNot s 2 (mo s b 2)) (i := 0) (by decide)) (by decide) rfl cd_X2_refuses (Nat.le_of_ble_eq_true rfl) rfl rfl (Nat.le_of_ble_eq_true rfl) (jk_v ?_) jx_v
      exact j_ireturn dX2_withdraw_35 rfl (mjv (by first | rfl | (simp_all [jb, mPub, mWithdraw]; done) | (simp_all [jb, mPub, mWithdraw]; rfl) | (simp_all [jb, mPub, mWithdraw, ← Int32.not_lt]; done)) (by first | rfl | (simp_all [jb, mPub, mWithdraw]; done) | (simp_all [jb, mPub, mWithdraw]; rfl) | (simp_all [jb, mPub, mWithdraw, ← Int32.not_lt]; done)))
  · refine j_bipush (v := (-11)) dX2_withdraw_8 (by decide) ?_
    exact j_ireturn dX2_withdraw_10 rfl (mjv (by first | rfl | (simp_all [jb, mPub, mWithdraw]; done) | (simp_all [jb, mPub, mWithdraw]; rfl) | (simp_all [jb, mPub, mWithdraw, ← Int32.not_lt]; done)) (by first | rfl | (simp_all [jb, mPub, mWithdraw]; done) | (simp_all [jb, mPub, mWithdraw]; rfl) | (simp_all [jb, mPub, mWithdraw, ← Int32.not_lt]; done)))

theorem mm_X2_notVoice (hO : mOK G M L) (s : MS) {n : Nat} (hn : s.2 0 2 = nI n) (hn16 : n ≤ 16) (x y : Int32) : JM l G 2 yX2_notVoice wX2_notVoice [.ref (L 0), .int x, .int y] (mput M L s) (jv (.int ((mNotVoice s x y).1)) (mput M L ((mNotVoice s x y).2))) := by
  refine JM.of pn_X2 (Nat.le_of_ble_eq_true rfl) (hO.1.1) ?_
  show JW l G 2 YX2_notVoice _ 0 [(0, .ref (L 0)), (1, .int x), (2, .int y)] [] (mput M L s)
  refine j_aload_n dX2_notVoice_0 rfl rfl ?_
  refine j_iload_n dX2_notVoice_1 rfl ?_
  refine j_callV (mm_X2_isBrother hO s x) dX2_notVoice_2 mt_X2_isBrother q2240 q2242 qs45 (hO.at s (i := 0) (by decide)) (by decide) rfl cd_X2_isBrother (Nat.le_of_ble_eq_true rfl) rfl rfl (Nat.le_of_ble_eq_true rfl) (jk_v ?_) jx_v
  refine j_ifeqB (tgt := 16) dX2_notVoice_5 (by decide) (fun c5 => ?_) (fun c5 => ?_)
  · refine j_bipush (v := (-11)) dX2_notVoice_16 (by decide) ?_
    exact j_ireturn dX2_notVoice_18 rfl (mjv (by first | rfl | (simp_all [jb, mPub, mNotVoice]; done) | (simp_all [jb, mPub, mNotVoice]; rfl) | (simp_all [jb, mPub, mNotVoice, ← Int32.not_lt]; done)) (by first | rfl | (simp_all [jb, mPub, mNotVoice]; done) | (simp_all [jb, mPub, mNotVoice]; rfl) | (simp_all [jb, mPub, mNotVoice, ← Int32.not_lt]; done)))
  · refine j_aload_n dX2_notVoice_8 rfl rfl ?_
    refine j_iload_n dX2_notVoice_9 rfl ?_
    refine j_callV (mm_X2_isBrother hO s y) dX2_notVoice_10 mt_X2_isBrother q2240 q2242 qs45 (hO.at s (i := 0) (by decide)) (by decide) rfl cd_X2_isBrother (Nat.le_of_ble_eq_true rfl) rfl rfl (Nat.le_of_ble_eq_true rfl) (jk_v ?_) jx_v
    refine j_ifneB (tgt := 19) dX2_notVoice_13 (by decide) (fun c13 => ?_) (fun c13 => ?_)
    · obtain ⟨b, hb, rfl⟩ := mBr_of hn hn16 c5
      have eb_ : mN (nI b) = b := mN_nI (by omega)
      obtain ⟨d, hd, rfl⟩ := mBr_of hn hn16 c13
      have ed_ : mN (nI d) = d := mN_nI (by omega)
      refine j_aload_n dX2_notVoice_19 rfl rfl ?_
      refine j_iload_n dX2_notVoice_20 rfl ?_
      refine j_iconst (v := 1) dX2_notVoice_21 (by decide) ?_
      refine j_callV (mm_X2_isSo hO s (b := b) (by omega) 1) dX2_notVoice_22 mt_X2_isSo q2244 q2246 qs46 (hO.at s (i := 0) (by decide)) (by decide) rfl cd_X2_isSo (Nat.le_of_ble_eq_true rfl) rfl rfl (Nat.le_of_ble_eq_true rfl) (jk_v ?_) jx_v
      refine j_ifneB (tgt := 40) dX2_notVoice_25 (by decide) (fun c25 => ?_) (fun c25 => ?_)
      · refine j_aload_n dX2_notVoice_40 rfl rfl ?_
        refine j_iload_n dX2_notVoice_41 rfl ?_
        refine j_iconst (v := 5) dX2_notVoice_42 (by decide) ?_
        refine j_callV (mm_X2_of hO s (b := b) (k := 5) (by omega) (by omega)) dX2_notVoice_43 mt_X2_of q2248 q2250 qs47 (hO.at s (i := 0) (by decide)) (by decide) rfl cd_X2_of (Nat.le_of_ble_eq_true rfl) rfl rfl (Nat.le_of_ble_eq_true rfl) (jk_v ?_) jx_v
        refine j_if_le (tgt := 61) dX2_notVoice_46 (by decide) (fun c46 => ?_) (fun c46 => ?_)
        · refine j_aload_n dX2_notVoice_61 rfl rfl ?_
          refine j_iload_n dX2_notVoice_62 rfl ?_
          refine j_iconst (v := 0) dX2_notVoice_63 (by decide) ?_
          refine j_callV (mm_X2_isSo hO s (b := d) (by omega) 0) dX2_notVoice_64 mt_X2_isSo q2244 q2246 qs46 (hO.at s (i := 0) (by decide)) (by decide) rfl cd_X2_isSo (Nat.le_of_ble_eq_true rfl) rfl rfl (Nat.le_of_ble_eq_true rfl) (jk_v ?_) jx_v
          refine j_ifeqB (tgt := 74) dX2_notVoice_67 (by decide) (fun c67 => ?_) (fun c67 => ?_)
          · refine j_aload_n dX2_notVoice_74 rfl rfl ?_
            refine j_iconst (v := 2) dX2_notVoice_75 (by decide) ?_
            refine j_aload_n dX2_notVoice_76 rfl rfl ?_
            refine j_iload_n dX2_notVoice_77 rfl ?_
            refine j_iconst (v := 2) dX2_notVoice_78 (by decide) ?_
            refine j_callV (mm_X2_of hO s (b := d) (k := 2) (by omega) (by omega)) dX2_notVoice_79 mt_X2_of q2248 q2250 qs47 (hO.at s (i := 0) (by decide)) (by decide) rfl cd_X2_of (Nat.le_of_ble_eq_true rfl) rfl rfl (Nat.le_of_ble_eq_true rfl) (jk_v ?_) jx_v
            refine j_callV (mm_X2_isNot hO s 2 (mo s d 2)) dX2_notVoice_82 mt_X2_isNot q2208 q2210 qs38 (hO.at s (i := 0) (by decide)) (by decide) rfl cd_X2_isNot (Nat.le_of_ble_eq_true rfl) rfl rfl (Nat.le_of_ble_eq_true rfl) (jk_v ?_) jx_v
            exact j_ireturn dX2_notVoice_85 rfl (mjv (by first | rfl | (simp_all [jb, mPub, mNotVoice]; done) | (simp_all [jb, mPub, mNotVoice]; rfl) | (simp_all [jb, mPub, mNotVoice, ← Int32.not_lt]; done)) (by first | rfl | (simp_all [jb, mPub, mNotVoice]; done) | (simp_all [jb, mPub, mNotVoice]; rfl) | (simp_all [jb, mPub, mNotVoice, ← Int32.not_lt]; done)))
          · refine j_iconst (v := 0) dX2_notVoice_70 (by decide) ?_
            refine j_goto (tgt := 85) dX2_notVoice_71 (by decide) ?_
            exact j_ireturn dX2_notVoice_85 rfl (mjv (by first | rfl | (simp_all [jb, mPub, mNotVoice]; done) | (simp_all [jb, mPub, mNotVoice]; rfl) | (simp_all [jb, mPub, mNotVoice, ← Int32.not_lt]; done)) (by first | rfl | (simp_all [jb, mPub, mNotVoice]; done) | (simp_all [jb, mPub, mNotVoice]; rfl) | (simp_all [jb, mPub, mNotVoice, ← Int32.not_lt]; done)))
        · refine j_aload_n dX2_notVoice_49 rfl rfl ?_
          refine j_iconst (v := 4) dX2_notVoice_50 (by decide) ?_
          refine j_aload_n dX2_notVoice_51 rfl rfl ?_
          refine j_iload_n dX2_notVoice_52 rfl ?_
          refine j_iconst (v := 5) dX2_notVoice_53 (by decide) ?_
          refine j_callV (mm_X2_of hO s (b := b) (k := 5) (by omega) (by omega)) dX2_notVoice_54 mt_X2_of q2248 q2250 qs47 (hO.at s (i := 0) (by decide)) (by decide) rfl cd_X2_of (Nat.le_of_ble_eq_true rfl) rfl rfl (Nat.le_of_ble_eq_true rfl) (jk_v ?_) jx_v
          refine j_callV (mm_X2_isNot hO s 4 (mo s b 5)) dX2_notVoice_57 mt_X2_isNot q2208 q2210 qs38 (hO.at s (i := 0) (by decide)) (by decide) rfl cd_X2_isNot (Nat.le_of_ble_eq_true rfl) rfl rfl (Nat.le_of_ble_eq_true rfl) (jk_v ?_) jx_v
          exact j_ireturn dX2_notVoice_60 rfl (mjv (by first | rfl | (simp_all [jb, mPub, mNotVoice]; done) | (simp_all [jb, mPub, mNotVoice]; rfl) | (simp_all [jb, mPub, mNotVoice, ← Int32.not_lt]; done)) (by first | rfl | (simp_all [jb, mPub, mNotVoice]; done) | (simp_all [jb, mPub, mNotVoice]; rfl) | (simp_all [jb, mPub, mNotVoice, ← Int32.not_lt]; done)))
      · refine j_aload_n dX2_notVoice_28 rfl rfl ?_
        refine j_iconst (v := 3) dX2_notVoice_29 (by decide) ?_
        refine j_aload_n dX2_notVoice_30 rfl rfl ?_
        refine j_iload_n dX2_notVoice_31 rfl ?_
        refine j_iconst (v := 2) dX2_notVoice_32 (by decide) ?_
        refine j_callV (mm_X2_of hO s (b := b) (k := 2) (by omega) (by omega)) dX2_notVoice_33 mt_X2_of q2248 q2250 qs47 (hO.at s (i := 0) (by decide)) (by decide) rfl cd_X2_of (Nat.le_of_ble_eq_true rfl) rfl rfl (Nat.le_of_ble_eq_true rfl) (jk_v ?_) jx_v
        refine j_callV (mm_X2_isNot hO s 3 (mo s b 2)) dX2_notVoice_36 mt_X2_isNot q2208 q2210 qs38 (hO.at s (i := 0) (by decide)) (by decide) rfl cd_X2_isNot (Nat.le_of_ble_eq_true rfl) rfl rfl (Nat.le_of_ble_eq_true rfl) (jk_v ?_) jx_v
        exact j_ireturn dX2_notVoice_39 rfl (mjv (by first | rfl | (simp_all [jb, mPub, mNotVoice]; done) | (simp_all [jb, mPub, mNotVoice]; rfl) | (simp_all [jb, mPub, mNotVoice, ← Int32.not_lt]; done)) (by first | rfl | (simp_all [jb, mPub, mNotVoice]; done) | (simp_all [jb, mPub, mNotVoice]; rfl) | (simp_all [jb, mPub, mNotVoice, ← Int32.not_lt]; done)))
    · refine j_bipush (v := (-11)) dX2_notVoice_16 (by decide) ?_
      exact j_ireturn dX2_notVoice_18 rfl (mjv (by first | rfl | (simp_all [jb, mPub, mNotVoice]; done) | (simp_all [jb, mPub, mNotVoice]; rfl) | (simp_all [jb, mPub, mNotVoice, ← Int32.not_lt]; done)) (by first | rfl | (simp_all [jb, mPub, mNotVoice]; done) | (simp_all [jb, mPub, mNotVoice]; rfl) | (simp_all [jb, mPub, mNotVoice, ← Int32.not_lt]; done)))

theorem mm_X2_gives (hO : mOK G M L) (s : MS) {n : Nat} (hn : s.2 0 2 = nI n) (hn16 : n ≤ 16) {x y : Int32} (hx : mBr s x = true) (hy : mBr s y = true) : JM l G 3 yX2_gives wX2_gives [.ref (L 0), .int x, .int y] (mput M L s) (jv (.int ((mGives s n x y).1)) (mput M L ((mGives s n x y).2))) := by
  refine JM.of pn_X2 (Nat.le_of_ble_eq_true rfl) (hO.1.1) ?_
  show JW l G 3 YX2_gives _ 0 [(0, .ref (L 0)), (1, .int x), (2, .int y)] [] (mput M L s)
  obtain ⟨b, hb, rfl⟩ := mBr_of hn hn16 hx
  have eb_ : mN (nI b) = b := mN_nI (by omega)
  obtain ⟨d, hd, rfl⟩ := mBr_of hn hn16 hy
  have ed_ : mN (nI d) = d := mN_nI (by omega)
  refine j_aload_n dX2_gives_0 rfl rfl ?_
  refine j_iload_n dX2_gives_1 rfl ?_
  refine j_bipush (v := 7) dX2_gives_2 (by decide) ?_
  refine j_iload_n dX2_gives_4 rfl ?_
  refine j_iconst (v := 1) dX2_gives_5 (by decide) ?_
  refine j_iadd dX2_gives_6 ?_
  refine j_callV (mm_X2_sets hO s (b := b) (k := 7) (by omega) (by omega) ((nI d) + 1)) dX2_gives_7 mt_X2_sets q2228 q2230 qs43 (hO.at s (i := 0) (by decide)) (by decide) rfl cd_X2_sets (Nat.le_of_ble_eq_true rfl) rfl rfl (Nat.le_of_ble_eq_true rfl) (jk_n ?_) jx_n
  refine j_aload_n dX2_gives_10 rfl rfl ?_
  refine j_iload_n dX2_gives_11 rfl ?_
  refine j_callV (mm_X2_voicesFor hO (mset s b 7 ((nI d) + 1)) (show (mset s b 7 ((nI d) + 1)).2 0 2 = nI n by simp only [mset_2, mStamps_2, mBecomes_2, mVoicesGo_2, mClear_2, mGo1_2, mThinks_2, mRemembers_2, mNot_2, mRef_2, mGive_2, mFeastComes_2, mBans_2, mRents_2, mAges_2, mYear0_2, mYear_2, mWeekOn_2, mWeekGoes_2, mWeeksGo_2, mComesIn_2, mGownStep_2, mwset1_2]; exact hn) hn16 (b := d) (by omega)) dX2_gives_12 mt_X2_voicesFor q2276 q2278 qs53 (hO.at (mset s b 7 ((nI d) + 1)) (i := 0) (by decide)) (by decide) rfl cd_X2_voicesFor (Nat.le_of_ble_eq_true rfl) rfl rfl (Nat.le_of_ble_eq_true rfl) (jk_v ?_) jx_v
  exact j_ireturn dX2_gives_15 rfl (mjv (by first | rfl | (simp_all [jb, mPub, mGives]; done) | (simp_all [jb, mPub, mGives]; rfl) | (simp_all [jb, mPub, mGives, ← Int32.not_lt]; done)) (by first | rfl | (simp_all [jb, mPub, mGives]; done) | (simp_all [jb, mPub, mGives]; rfl) | (simp_all [jb, mPub, mGives, ← Int32.not_lt]; done)))

theorem mm_X2_voice (hO : mOK G M L) (s : MS) {n : Nat} (hn : s.2 0 2 = nI n) (hn16 : n ≤ 16) {c f : Nat} (hc : s.1 8 = nI c) (hf : s.1 9 = nI f) (hc8 : c ≤ 8) (hf8 : f < 8) (x y : Int32) : JM l G 4 yX2_voice wX2_voice [.ref (L 0), .int x, .int y] (mput M L s) (jv (.int ((mPub c f (mNotVoice s x y) (fun t => mGives t n x y)).1)) (mput M L ((mPub c f (mNotVoice s x y) (fun t => mGives t n x y)).2))) := by
  refine JM.of pn_X2 (Nat.le_of_ble_eq_true rfl) (hO.1.1) ?_
  show JW l G 4 YX2_voice _ 0 [(0, .ref (L 0)), (1, .int x), (2, .int y)] [] (mput M L s)
  refine j_aload_n dX2_voice_0 rfl rfl ?_
  refine j_iload_n dX2_voice_1 rfl ?_
  refine j_iload_n dX2_voice_2 rfl ?_
  refine j_callV (mm_X2_notVoice hO s hn hn16 x y) dX2_voice_3 mt_X2_notVoice q2268 q2270 qs51 (hO.at s (i := 0) (by decide)) (by decide) rfl cd_X2_notVoice (Nat.le_of_ble_eq_true rfl) rfl rfl (Nat.le_of_ble_eq_true rfl) (jk_v ?_) jx_v
  refine j_istore_n dX2_voice_6 (by decide) rfl ?_
  refine j_iload_n dX2_voice_7 rfl ?_
  refine j_if_eq (tgt := 17) dX2_voice_8 (by decide) (fun c8 => ?_) (fun c8 => ?_)
  · obtain ⟨hx_, hy_, -, -, -, e_⟩ := mNotVoice_0 c8
    rw [e_]
    refine j_aload_n dX2_voice_17 rfl rfl ?_
    refine j_callV (mm_X2_remembers hO s hc hf hc8 hf8) dX2_voice_18 mt_X2_remembers q2216 q2218 qs40 (hO.at s (i := 0) (by decide)) (by decide) rfl cd_X2_remembers (Nat.le_of_ble_eq_true rfl) rfl rfl (Nat.le_of_ble_eq_true rfl) (jk_n ?_) jx_n
    refine j_aload_n dX2_voice_21 rfl rfl ?_
    refine j_iload_n dX2_voice_22 rfl ?_
    refine j_iload_n dX2_voice_23 rfl ?_
    refine j_callV (mm_X2_gives hO (mRemembers s c f) (show (mRemembers s c f).2 0 2 = nI n by simp only [mset_2, mStamps_2, mBecomes_2, mVoicesGo_2, mClear_2, mGo1_2, mThinks_2, mRemembers_2, mNot_2, mRef_2, mGive_2, mFeastComes_2, mBans_2, mRents_2, mAges_2, mYear0_2, mYear_2, mWeekOn_2, mWeekGoes_2, mWeeksGo_2, mComesIn_2, mGownStep_2, mwset1_2]; exact hn) hn16 ((mBr_eq (t := (mRemembers s c f)) (s := s) (by simp only [mset_2, mStamps_2, mBecomes_2, mVoicesGo_2, mClear_2, mGo1_2, mThinks_2, mRemembers_2, mNot_2, mRef_2, mGive_2, mFeastComes_2, mBans_2, mRents_2, mAges_2, mYear0_2, mYear_2, mWeekOn_2, mWeekGoes_2, mWeeksGo_2, mComesIn_2, mGownStep_2, mwset1_2])).trans hx_) ((mBr_eq (t := (mRemembers s c f)) (s := s) (by simp only [mset_2, mStamps_2, mBecomes_2, mVoicesGo_2, mClear_2, mGo1_2, mThinks_2, mRemembers_2, mNot_2, mRef_2, mGive_2, mFeastComes_2, mBans_2, mRents_2, mAges_2, mYear0_2, mYear_2, mWeekOn_2, mWeekGoes_2, mWeeksGo_2, mComesIn_2, mGownStep_2, mwset1_2])).trans hy_)) dX2_voice_24 mt_X2_gives q2272 q2274 qs52 (hO.at (mRemembers s c f) (i := 0) (by decide)) (by decide) rfl cd_X2_gives (Nat.le_of_ble_eq_true rfl) rfl rfl (Nat.le_of_ble_eq_true rfl) (jk_v ?_) jx_v
    exact j_ireturn dX2_voice_27 rfl (mjv (by unfold mPub; rw [if_pos c8, e_]) (by unfold mPub; rw [if_pos c8, e_]))
  · refine j_aload_n dX2_voice_11 rfl rfl ?_
    refine j_iload_n dX2_voice_12 rfl ?_
    refine j_callV (mm_X2_refuses hO ((mNotVoice s x y).2) ((mNotVoice s x y).1)) dX2_voice_13 mt_X2_refuses q2212 q2214 qs39 (hO.at ((mNotVoice s x y).2) (i := 0) (by decide)) (by decide) rfl cd_X2_refuses (Nat.le_of_ble_eq_true rfl) rfl rfl (Nat.le_of_ble_eq_true rfl) (jk_v ?_) jx_v
    exact j_ireturn dX2_voice_16 rfl (mjv (by unfold mPub; rw [if_neg c8]) (by unfold mPub; rw [if_neg c8]))

theorem mm_X2_notChoose (hO : mOK G M L) (s : MS) {n : Nat} (hn : s.2 0 2 = nI n) (hn16 : n ≤ 16) (x : Int32) : JM l G 3 yX2_notChoose wX2_notChoose [.ref (L 0), .int x] (mput M L s) (jv (.int ((mNotChoose s n x).1)) (mput M L ((mNotChoose s n x).2))) := by
  refine JM.of pn_X2 (Nat.le_of_ble_eq_true rfl) (hO.1.1) ?_
  show JW l G 3 YX2_notChoose _ 0 [(0, .ref (L 0)), (1, .int x)] [] (mput M L s)
  refine j_iload_n dX2_notChoose_0 rfl ?_
  refine j_callS (mm_X2_isCell hO s x) dX2_notChoose_1 mt_X2_isCell q2292 q2293 cd_X2_isCell (Nat.le_of_ble_eq_true rfl) rfl rfl (Nat.le_of_ble_eq_true rfl) (jk_v ?_) jx_v
  refine j_ifneB (tgt := 10) dX2_notChoose_4 (by decide) (fun c4 => ?_) (fun c4 => ?_)
  · refine j_aload_n dX2_notChoose_10 rfl rfl ?_
    refine j_iload_n dX2_notChoose_11 rfl ?_
    refine j_callV (mm_X2_brotherIn hO s hn hn16 x) dX2_notChoose_12 mt_X2_brotherIn q2295 q2297 qs56 (hO.at s (i := 0) (by decide)) (by decide) rfl cd_X2_brotherIn (Nat.le_of_ble_eq_true rfl) rfl rfl (Nat.le_of_ble_eq_true rfl) (jk_v ?_) jx_v
    refine j_if_lt (tgt := 29) dX2_notChoose_15 (by decide) (fun c15 => ?_) (fun c15 => ?_)
    · refine j_aload_n dX2_notChoose_29 rfl rfl ?_
      refine j_iconst (v := 0) dX2_notChoose_30 (by decide) ?_
      refine j_callV (mm_X2_brethrenThat hO s hn hn16 0) dX2_notChoose_31 mt_X2_brethrenThat q2260 q2262 qs50 (hO.at s (i := 0) (by decide)) (by decide) rfl cd_X2_brethrenThat (Nat.le_of_ble_eq_true rfl) rfl rfl (Nat.le_of_ble_eq_true rfl) (jk_v ?_) jx_v
      refine j_if_ne (tgt := 47) dX2_notChoose_34 (by decide) (fun c34 => ?_) (fun c34 => ?_)
      · refine j_iconst (v := 0) dX2_notChoose_47 (by decide) ?_
        exact j_ireturn dX2_notChoose_48 rfl (mjv (by first | rfl | (simp_all [jb, mPub, mNotChoose]; done) | (simp_all [jb, mPub, mNotChoose]; rfl) | (simp_all [jb, mPub, mNotChoose, ← Int32.not_lt]; done)) (by first | rfl | (simp_all [jb, mPub, mNotChoose]; done) | (simp_all [jb, mPub, mNotChoose]; rfl) | (simp_all [jb, mPub, mNotChoose, ← Int32.not_lt]; done)))
      · refine j_aload_n dX2_notChoose_37 rfl rfl ?_
        refine j_bipush (v := 6) dX2_notChoose_38 (by decide) ?_
        refine j_iload_n dX2_notChoose_40 rfl ?_
        refine j_callV (mm_X2_isNot hO s 6 x) dX2_notChoose_41 mt_X2_isNot q2208 q2210 qs38 (hO.at s (i := 0) (by decide)) (by decide) rfl cd_X2_isNot (Nat.le_of_ble_eq_true rfl) rfl rfl (Nat.le_of_ble_eq_true rfl) (jk_v ?_) jx_v
        refine j_goto (tgt := 48) dX2_notChoose_44 (by decide) ?_
        exact j_ireturn dX2_notChoose_48 rfl (mjv (by first | rfl | (simp_all [jb, mPub, mNotChoose]; done) | (simp_all [jb, mPub, mNotChoose]; rfl) | (simp_all [jb, mPub, mNotChoose, ← Int32.not_lt]; done)) (by first | rfl | (simp_all [jb, mPub, mNotChoose]; done) | (simp_all [jb, mPub, mNotChoose]; rfl) | (simp_all [jb, mPub, mNotChoose, ← Int32.not_lt]; done)))
    · refine j_aload_n dX2_notChoose_18 rfl rfl ?_
      refine j_iconst (v := 5) dX2_notChoose_19 (by decide) ?_
      refine j_aload_n dX2_notChoose_20 rfl rfl ?_
      refine j_iload_n dX2_notChoose_21 rfl ?_
      refine j_callV (mm_X2_brotherIn hO s hn hn16 x) dX2_notChoose_22 mt_X2_brotherIn q2295 q2297 qs56 (hO.at s (i := 0) (by decide)) (by decide) rfl cd_X2_brotherIn (Nat.le_of_ble_eq_true rfl) rfl rfl (Nat.le_of_ble_eq_true rfl) (jk_v ?_) jx_v
      refine j_callV (mm_X2_isNot hO s 5 (mBrotherIn s n x)) dX2_notChoose_25 mt_X2_isNot q2208 q2210 qs38 (hO.at s (i := 0) (by decide)) (by decide) rfl cd_X2_isNot (Nat.le_of_ble_eq_true rfl) rfl rfl (Nat.le_of_ble_eq_true rfl) (jk_v ?_) jx_v
      exact j_ireturn dX2_notChoose_28 rfl (mjv (by first | rfl | (simp_all [jb, mPub, mNotChoose]; done) | (simp_all [jb, mPub, mNotChoose]; rfl) | (simp_all [jb, mPub, mNotChoose, ← Int32.not_lt]; done)) (by first | rfl | (simp_all [jb, mPub, mNotChoose]; done) | (simp_all [jb, mPub, mNotChoose]; rfl) | (simp_all [jb, mPub, mNotChoose, ← Int32.not_lt]; done)))
  · refine j_bipush (v := (-11)) dX2_notChoose_7 (by decide) ?_
    exact j_ireturn dX2_notChoose_9 rfl (mjv (by first | rfl | (simp_all [jb, mPub, mNotChoose]; done) | (simp_all [jb, mPub, mNotChoose]; rfl) | (simp_all [jb, mPub, mNotChoose, ← Int32.not_lt]; done)) (by first | rfl | (simp_all [jb, mPub, mNotChoose]; done) | (simp_all [jb, mPub, mNotChoose]; rfl) | (simp_all [jb, mPub, mNotChoose, ← Int32.not_lt]; done)))

theorem mm_X2_chooses (hO : mOK G M L) (s : MS) {n : Nat} (hn : s.2 0 2 = nI n) (hn16 : n ≤ 16) (x : Int32) (hr : mThat s n 0 ≠ 0) : JM l G 5 yX2_chooses wX2_chooses [.ref (L 0), .int x] (mput M L s) (jv (.int ((mChooses s n x).1)) (mput M L ((mChooses s n x).2))) := by
  refine JM.of pn_X2 (Nat.le_of_ble_eq_true rfl) (hO.1.1) ?_
  show JW l G 5 YX2_chooses _ 0 [(0, .ref (L 0)), (1, .int x)] [] (mput M L s)
  refine j_aload_n dX2_chooses_0 rfl rfl ?_
  refine j_iconst (v := 0) dX2_chooses_1 (by decide) ?_
  refine j_callV (mm_X2_rankedAt hO s hn hn16 0) dX2_chooses_2 mt_X2_rankedAt q2303 q2305 qs58 (hO.at s (i := 0) (by decide)) (by decide) rfl cd_X2_rankedAt (Nat.le_of_ble_eq_true rfl) rfl rfl (Nat.le_of_ble_eq_true rfl) (jk_v ?_) jx_v
  refine j_istore_n dX2_chooses_5 (by decide) rfl ?_
  obtain ⟨b, hb, eb_, -⟩ := mRanked_0 hr
  have eN_ : mN (nI b) = b := mN_nI (by omega)
  rw [show (mRanked s n 0) = (nI b) from eb_]
  refine j_aload_n dX2_chooses_6 rfl rfl ?_
  refine j_iload_n dX2_chooses_7 rfl ?_
  refine j_iconst (v := 1) dX2_chooses_8 (by decide) ?_
  refine j_callV (mm_X2_becomes hO s hn hn16 (b := b) (by omega) 1) dX2_chooses_9 mt_X2_becomes q2252 q2254 qs48 (hO.at s (i := 0) (by decide)) (by decide) rfl cd_X2_becomes (Nat.le_of_ble_eq_true rfl) rfl rfl (Nat.le_of_ble_eq_true rfl) (jk_n ?_) jx_n
  refine j_aload_n dX2_chooses_12 rfl rfl ?_
  refine j_iload_n dX2_chooses_13 rfl ?_
  refine j_iconst (v := 3) dX2_chooses_14 (by decide) ?_
  refine j_iload_n dX2_chooses_15 rfl ?_
  refine j_callV (mm_X2_sets hO (mBecomes s n b 1) (b := b) (k := 3) (by omega) (by omega) x) dX2_chooses_16 mt_X2_sets q2228 q2230 qs43 (hO.at (mBecomes s n b 1) (i := 0) (by decide)) (by decide) rfl cd_X2_sets (Nat.le_of_ble_eq_true rfl) rfl rfl (Nat.le_of_ble_eq_true rfl) (jk_n ?_) jx_n
  refine j_aload_n dX2_chooses_19 rfl rfl ?_
  refine j_iload_n dX2_chooses_20 rfl ?_
  refine j_iconst (v := 4) dX2_chooses_21 (by decide) ?_
  refine j_iconst (v := 0) dX2_chooses_22 (by decide) ?_
  refine j_callV (mm_X2_sets hO (mset (mBecomes s n b 1) b 3 x) (b := b) (k := 4) (by omega) (by omega) 0) dX2_chooses_23 mt_X2_sets q2228 q2230 qs43 (hO.at (mset (mBecomes s n b 1) b 3 x) (i := 0) (by decide)) (by decide) rfl cd_X2_sets (Nat.le_of_ble_eq_true rfl) rfl rfl (Nat.le_of_ble_eq_true rfl) (jk_n ?_) jx_n
  refine j_aload_n dX2_chooses_26 rfl rfl ?_
  refine j_iload_n dX2_chooses_27 rfl ?_
  refine j_callV (mm_X2_stamps hO (mset (mset (mBecomes s n b 1) b 3 x) b 4 0) (b := b) (by omega)) dX2_chooses_28 mt_X2_stamps q2232 q2234 qs44 (hO.at (mset (mset (mBecomes s n b 1) b 3 x) b 4 0) (i := 0) (by decide)) (by decide) rfl cd_X2_stamps (Nat.le_of_ble_eq_true rfl) rfl rfl (Nat.le_of_ble_eq_true rfl) (jk_n ?_) jx_n
  refine j_iload_n dX2_chooses_31 rfl ?_
  exact j_ireturn dX2_chooses_32 rfl (mjv (by show _ = mRanked s n 0; rw [eb_]) (by show _ = mChoosesB s n (mN (mRanked s n 0)) x; rw [eb_, eN_]; rfl))

theorem mm_X2_choose (hO : mOK G M L) (s : MS) {n : Nat} (hn : s.2 0 2 = nI n) (hn16 : n ≤ 16) {c f : Nat} (hc : s.1 8 = nI c) (hf : s.1 9 = nI f) (hc8 : c ≤ 8) (hf8 : f < 8) (x : Int32) : JM l G 6 yX2_choose wX2_choose [.ref (L 0), .int x] (mput M L s) (jv (.int ((mPub c f (mNotChoose s n x) (fun t => mChooses t n x)).1)) (mput M L ((mPub c f (mNotChoose s n x) (fun t => mChooses t n x)).2))) := by
  refine JM.of pn_X2 (Nat.le_of_ble_eq_true rfl) (hO.1.1) ?_
  show JW l G 6 YX2_choose _ 0 [(0, .ref (L 0)), (1, .int x)] [] (mput M L s)
  refine j_aload_n dX2_choose_0 rfl rfl ?_
  refine j_iload_n dX2_choose_1 rfl ?_
  refine j_callV (mm_X2_notChoose hO s hn hn16 x) dX2_choose_2 mt_X2_notChoose q2288 q2290 qs55 (hO.at s (i := 0) (by decide)) (by decide) rfl cd_X2_notChoose (Nat.le_of_ble_eq_true rfl) rfl rfl (Nat.le_of_ble_eq_true rfl) (jk_v ?_) jx_v
  refine j_istore_n dX2_choose_5 (by decide) rfl ?_
  refine j_iload_n dX2_choose_6 rfl ?_
  refine j_if_eq (tgt := 16) dX2_choose_7 (by decide) (fun c7 => ?_) (fun c7 => ?_)
  · obtain ⟨-, -, hr_, e_⟩ := mNotChoose_0 c7
    rw [e_]
    refine j_aload_n dX2_choose_16 rfl rfl ?_
    refine j_callV (mm_X2_remembers hO s hc hf hc8 hf8) dX2_choose_17 mt_X2_remembers q2216 q2218 qs40 (hO.at s (i := 0) (by decide)) (by decide) rfl cd_X2_remembers (Nat.le_of_ble_eq_true rfl) rfl rfl (Nat.le_of_ble_eq_true rfl) (jk_n ?_) jx_n
    refine j_aload_n dX2_choose_20 rfl rfl ?_
    refine j_iload_n dX2_choose_21 rfl ?_
    refine j_callV (mm_X2_chooses hO (mRemembers s c f) (show (mRemembers s c f).2 0 2 = nI n by simp only [mset_2, mStamps_2, mBecomes_2, mVoicesGo_2, mClear_2, mGo1_2, mThinks_2, mRemembers_2, mNot_2, mRef_2, mGive_2, mFeastComes_2, mBans_2, mRents_2, mAges_2, mYear0_2, mYear_2, mWeekOn_2, mWeekGoes_2, mWeeksGo_2, mComesIn_2, mGownStep_2, mwset1_2]; exact hn) hn16 x (by rw [mThat_w (mRemembers_w s c f)]; exact hr_)) dX2_choose_22 mt_X2_chooses q2299 q2301 qs57 (hO.at (mRemembers s c f) (i := 0) (by decide)) (by decide) rfl cd_X2_chooses (Nat.le_of_ble_eq_true rfl) rfl rfl (Nat.le_of_ble_eq_true rfl) (jk_v ?_) jx_v
    exact j_ireturn dX2_choose_25 rfl (mjv (by unfold mPub; rw [if_pos c7, e_]) (by unfold mPub; rw [if_pos c7, e_]))
  · refine j_aload_n dX2_choose_10 rfl rfl ?_
    refine j_iload_n dX2_choose_11 rfl ?_
    refine j_callV (mm_X2_refuses hO ((mNotChoose s n x).2) ((mNotChoose s n x).1)) dX2_choose_12 mt_X2_refuses q2212 q2214 qs39 (hO.at ((mNotChoose s n x).2) (i := 0) (by decide)) (by decide) rfl cd_X2_refuses (Nat.le_of_ble_eq_true rfl) rfl rfl (Nat.le_of_ble_eq_true rfl) (jk_v ?_) jx_v
    exact j_ireturn dX2_choose_15 rfl (mjv (by unfold mPub; rw [if_neg c7]) (by unfold mPub; rw [if_neg c7]))

theorem mm_X2_notLeave (hO : mOK G M L) (s : MS) {n : Nat} (hn : s.2 0 2 = nI n) (hn16 : n ≤ 16) (x : Int32) : JM l G 3 yX2_notLeave wX2_notLeave [.ref (L 0), .int x] (mput M L s) (jv (.int ((mNotLeave s n x).1)) (mput M L ((mNotLeave s n x).2))) := by
  refine JM.of pn_X2 (Nat.le_of_ble_eq_true rfl) (hO.1.1) ?_
  show JW l G 3 YX2_notLeave _ 0 [(0, .ref (L 0)), (1, .int x)] [] (mput M L s)
  refine j_iload_n dX2_notLeave_0 rfl ?_
  refine j_callS (mm_X2_isCell hO s x) dX2_notLeave_1 mt_X2_isCell q2292 q2293 cd_X2_isCell (Nat.le_of_ble_eq_true rfl) rfl rfl (Nat.le_of_ble_eq_true rfl) (jk_v ?_) jx_v
  refine j_ifneB (tgt := 10) dX2_notLeave_4 (by decide) (fun c4 => ?_) (fun c4 => ?_)
  · refine j_aload_n dX2_notLeave_10 rfl rfl ?_
    refine j_iload_n dX2_notLeave_11 rfl ?_
    refine j_callV (mm_X2_brotherIn hO s hn hn16 x) dX2_notLeave_12 mt_X2_brotherIn q2295 q2297 qs56 (hO.at s (i := 0) (by decide)) (by decide) rfl cd_X2_brotherIn (Nat.le_of_ble_eq_true rfl) rfl rfl (Nat.le_of_ble_eq_true rfl) (jk_v ?_) jx_v
    refine j_if_ge (tgt := 28) dX2_notLeave_15 (by decide) (fun c15 => ?_) (fun c15 => ?_)
    · refine j_iconst (v := 0) dX2_notLeave_28 (by decide) ?_
      exact j_ireturn dX2_notLeave_29 rfl (mjv (by first | rfl | (simp_all [jb, mPub, mNotLeave]; done) | (simp_all [jb, mPub, mNotLeave]; rfl) | (simp_all [jb, mPub, mNotLeave, ← Int32.not_lt]; done)) (by first | rfl | (simp_all [jb, mPub, mNotLeave]; done) | (simp_all [jb, mPub, mNotLeave]; rfl) | (simp_all [jb, mPub, mNotLeave, ← Int32.not_lt]; done)))
    · refine j_aload_n dX2_notLeave_18 rfl rfl ?_
      refine j_bipush (v := 7) dX2_notLeave_19 (by decide) ?_
      refine j_iload_n dX2_notLeave_21 rfl ?_
      refine j_callV (mm_X2_isNot hO s 7 x) dX2_notLeave_22 mt_X2_isNot q2208 q2210 qs38 (hO.at s (i := 0) (by decide)) (by decide) rfl cd_X2_isNot (Nat.le_of_ble_eq_true rfl) rfl rfl (Nat.le_of_ble_eq_true rfl) (jk_v ?_) jx_v
      refine j_goto (tgt := 29) dX2_notLeave_25 (by decide) ?_
      exact j_ireturn dX2_notLeave_29 rfl (mjv (by first | rfl | (simp_all [jb, mPub, mNotLeave]; done) | (simp_all [jb, mPub, mNotLeave]; rfl) | (simp_all [jb, mPub, mNotLeave, ← Int32.not_lt]; done)) (by first | rfl | (simp_all [jb, mPub, mNotLeave]; done) | (simp_all [jb, mPub, mNotLeave]; rfl) | (simp_all [jb, mPub, mNotLeave, ← Int32.not_lt]; done)))
  · refine j_bipush (v := (-11)) dX2_notLeave_7 (by decide) ?_
    exact j_ireturn dX2_notLeave_9 rfl (mjv (by first | rfl | (simp_all [jb, mPub, mNotLeave]; done) | (simp_all [jb, mPub, mNotLeave]; rfl) | (simp_all [jb, mPub, mNotLeave, ← Int32.not_lt]; done)) (by first | rfl | (simp_all [jb, mPub, mNotLeave]; done) | (simp_all [jb, mPub, mNotLeave]; rfl) | (simp_all [jb, mPub, mNotLeave, ← Int32.not_lt]; done)))

theorem mm_X2_leaves (hO : mOK G M L) (s : MS) {n : Nat} (hn : s.2 0 2 = nI n) (hn16 : n ≤ 16) (x : Int32) (hl : ¬ mBrotherIn s n x < 0) : JM l G 4 yX2_leaves wX2_leaves [.ref (L 0), .int x] (mput M L s) (jv (.int ((mLeaves s n x).1)) (mput M L ((mLeaves s n x).2))) := by
  refine JM.of pn_X2 (Nat.le_of_ble_eq_true rfl) (hO.1.1) ?_
  show JW l G 4 YX2_leaves _ 0 [(0, .ref (L 0)), (1, .int x)] [] (mput M L s)
  refine j_aload_n dX2_leaves_0 rfl rfl ?_
  refine j_iload_n dX2_leaves_1 rfl ?_
  refine j_callV (mm_X2_brotherIn hO s hn hn16 x) dX2_leaves_2 mt_X2_brotherIn q2295 q2297 qs56 (hO.at s (i := 0) (by decide)) (by decide) rfl cd_X2_brotherIn (Nat.le_of_ble_eq_true rfl) rfl rfl (Nat.le_of_ble_eq_true rfl) (jk_v ?_) jx_v
  refine j_istore_n dX2_leaves_5 (by decide) rfl ?_
  obtain ⟨b, hb, eb_, -⟩ := mBrotherIn_of hl
  have eN_ : mN (nI b) = b := mN_nI (by omega)
  rw [show (mBrotherIn s n x) = (nI b) from eb_]
  refine j_aload_n dX2_leaves_6 rfl rfl ?_
  refine j_iload_n dX2_leaves_7 rfl ?_
  refine j_iconst (v := 3) dX2_leaves_8 (by decide) ?_
  refine j_callV (mm_X2_becomes hO s hn hn16 (b := b) (by omega) 3) dX2_leaves_9 mt_X2_becomes q2252 q2254 qs48 (hO.at s (i := 0) (by decide)) (by decide) rfl cd_X2_becomes (Nat.le_of_ble_eq_true rfl) rfl rfl (Nat.le_of_ble_eq_true rfl) (jk_n ?_) jx_n
  refine j_iload_n dX2_leaves_12 rfl ?_
  exact j_ireturn dX2_leaves_13 rfl (mjv (by show _ = mBrotherIn s n x; rw [eb_]) (by show _ = mBecomes s n (mN (mBrotherIn s n x)) 3; rw [eb_, eN_]))

theorem mm_X2_leave (hO : mOK G M L) (s : MS) {n : Nat} (hn : s.2 0 2 = nI n) (hn16 : n ≤ 16) {c f : Nat} (hc : s.1 8 = nI c) (hf : s.1 9 = nI f) (hc8 : c ≤ 8) (hf8 : f < 8) (x : Int32) : JM l G 5 yX2_leave wX2_leave [.ref (L 0), .int x] (mput M L s) (jv (.int ((mPub c f (mNotLeave s n x) (fun t => mLeaves t n x)).1)) (mput M L ((mPub c f (mNotLeave s n x) (fun t => mLeaves t n x)).2))) := by
  refine JM.of pn_X2 (Nat.le_of_ble_eq_true rfl) (hO.1.1) ?_
  show JW l G 5 YX2_leave _ 0 [(0, .ref (L 0)), (1, .int x)] [] (mput M L s)
  refine j_aload_n dX2_leave_0 rfl rfl ?_
  refine j_iload_n dX2_leave_1 rfl ?_
  refine j_callV (mm_X2_notLeave hO s hn hn16 x) dX2_leave_2 mt_X2_notLeave q2315 q2317 qs60 (hO.at s (i := 0) (by decide)) (by decide) rfl cd_X2_notLeave (Nat.le_of_ble_eq_true rfl) rfl rfl (Nat.le_of_ble_eq_true rfl) (jk_v ?_) jx_v
  refine j_istore_n dX2_leave_5 (by decide) rfl ?_
  refine j_iload_n dX2_leave_6 rfl ?_
  refine j_if_eq (tgt := 16) dX2_leave_7 (by decide) (fun c7 => ?_) (fun c7 => ?_)
  · obtain ⟨-, hl_, e_⟩ := mNotLeave_0 c7
    rw [e_]
    refine j_aload_n dX2_leave_16 rfl rfl ?_
    refine j_callV (mm_X2_remembers hO s hc hf hc8 hf8) dX2_leave_17 mt_X2_remembers q2216 q2218 qs40 (hO.at s (i := 0) (by decide)) (by decide) rfl cd_X2_remembers (Nat.le_of_ble_eq_true rfl) rfl rfl (Nat.le_of_ble_eq_true rfl) (jk_n ?_) jx_n
    refine j_aload_n dX2_leave_20 rfl rfl ?_
    refine j_iload_n dX2_leave_21 rfl ?_
    refine j_callV (mm_X2_leaves hO (mRemembers s c f) (show (mRemembers s c f).2 0 2 = nI n by simp only [mset_2, mStamps_2, mBecomes_2, mVoicesGo_2, mClear_2, mGo1_2, mThinks_2, mRemembers_2, mNot_2, mRef_2, mGive_2, mFeastComes_2, mBans_2, mRents_2, mAges_2, mYear0_2, mYear_2, mWeekOn_2, mWeekGoes_2, mWeeksGo_2, mComesIn_2, mGownStep_2, mwset1_2]; exact hn) hn16 x (by rw [mBrotherIn_w (mRemembers_w s c f)]; exact hl_)) dX2_leave_22 mt_X2_leaves q2319 q2321 qs61 (hO.at (mRemembers s c f) (i := 0) (by decide)) (by decide) rfl cd_X2_leaves (Nat.le_of_ble_eq_true rfl) rfl rfl (Nat.le_of_ble_eq_true rfl) (jk_v ?_) jx_v
    exact j_ireturn dX2_leave_25 rfl (mjv (by unfold mPub; rw [if_pos c7, e_]) (by unfold mPub; rw [if_pos c7, e_]))
  · refine j_aload_n dX2_leave_10 rfl rfl ?_
    refine j_iload_n dX2_leave_11 rfl ?_
    refine j_callV (mm_X2_refuses hO ((mNotLeave s n x).2) ((mNotLeave s n x).1)) dX2_leave_12 mt_X2_refuses q2212 q2214 qs39 (hO.at ((mNotLeave s n x).2) (i := 0) (by decide)) (by decide) rfl cd_X2_refuses (Nat.le_of_ble_eq_true rfl) rfl rfl (Nat.le_of_ble_eq_true rfl) (jk_v ?_) jx_v
    exact j_ireturn dX2_leave_15 rfl (mjv (by unfold mPub; rw [if_neg c7]) (by unfold mPub; rw [if_neg c7]))

theorem mm_X2_notFeast (hO : mOK G M L) (s : MS) (x y : Int32) : JM l G 1 yX2_notFeast wX2_notFeast [.ref (L 0), .int x, .int y] (mput M L s) (jv (.int ((mNotFeast s x y).1)) (mput M L ((mNotFeast s x y).2))) := by
  refine JM.of pn_X2 (Nat.le_of_ble_eq_true rfl) (hO.1.1) ?_
  show JW l G 1 YX2_notFeast _ 0 [(0, .ref (L 0)), (1, .int x), (2, .int y)] [] (mput M L s)
  refine j_iload_n dX2_notFeast_0 rfl ?_
  refine j_iconst (v := 0) dX2_notFeast_1 (by decide) ?_
  refine j_bipush (v := 51) dX2_notFeast_2 (by decide) ?_
  refine j_callS (mm_X2_isBetween hO s x 0 51) dX2_notFeast_4 mt_X2_isBetween q2205 q2206 cd_X2_isBetween (Nat.le_of_ble_eq_true rfl) rfl rfl (Nat.le_of_ble_eq_true rfl) (jk_v ?_) jx_v
  refine j_ifeqB (tgt := 20) dX2_notFeast_7 (by decide) (fun c7 => ?_) (fun c7 => ?_)
  · refine j_bipush (v := (-12)) dX2_notFeast_20 (by decide) ?_
    exact j_ireturn dX2_notFeast_22 rfl (mjv (by first | rfl | (simp_all [jb, mPub, mNotFeast]; done) | (simp_all [jb, mPub, mNotFeast]; rfl) | (simp_all [jb, mPub, mNotFeast, ← Int32.not_lt]; done)) (by first | rfl | (simp_all [jb, mPub, mNotFeast]; done) | (simp_all [jb, mPub, mNotFeast]; rfl) | (simp_all [jb, mPub, mNotFeast, ← Int32.not_lt]; done)))
  · refine j_iload_n dX2_notFeast_10 rfl ?_
    refine j_iconst (v := 1) dX2_notFeast_11 (by decide) ?_
    refine j_bipush (v := 9) dX2_notFeast_12 (by decide) ?_
    refine j_callS (mm_X2_isBetween hO s y 1 9) dX2_notFeast_14 mt_X2_isBetween q2205 q2206 cd_X2_isBetween (Nat.le_of_ble_eq_true rfl) rfl rfl (Nat.le_of_ble_eq_true rfl) (jk_v ?_) jx_v
    refine j_ifneB (tgt := 23) dX2_notFeast_17 (by decide) (fun c17 => ?_) (fun c17 => ?_)
    · obtain ⟨k, hkl_, hk_, rfl⟩ := mIn_of (a := 0) (b := 51) (by decide) c7 (by decide)
      have ek_ : mN (nI k) = k := mN_nI (by omega)
      refine j_aload_n dX2_notFeast_23 rfl rfl ?_
      refine mj_get hO dX2_notFeast_24 fd_X2_7_2 rfl ?_
      refine j_bipush (v := 12) dX2_notFeast_27 (by decide) ?_
      refine j_iload_n dX2_notFeast_29 rfl ?_
      refine j_iadd dX2_notFeast_30 ?_
      refine mj_iald (j := 0) (i := (12 + k)) hO dX2_notFeast_31 (by decide) (nI_add 12 k) (by show _ < 320; omega) ?_
      refine j_if_ne (tgt := 58) dX2_notFeast_32 (by decide) (fun c32 => ?_) (fun c32 => ?_)
      · refine j_iconst (v := 0) dX2_notFeast_58 (by decide) ?_
        exact j_ireturn dX2_notFeast_59 rfl (mjv (by first | rfl | (simp_all [jb, mPub, mNotFeast]; done) | (simp_all [jb, mPub, mNotFeast]; rfl) | (simp_all [jb, mPub, mNotFeast, ← Int32.not_lt]; done)) (by first | rfl | (simp_all [jb, mPub, mNotFeast]; done) | (simp_all [jb, mPub, mNotFeast]; rfl) | (simp_all [jb, mPub, mNotFeast, ← Int32.not_lt]; done)))
      · refine j_aload_n dX2_notFeast_35 rfl rfl ?_
        refine mj_get hO dX2_notFeast_36 fd_X2_7_2 rfl ?_
        refine j_bipush (v := 9) dX2_notFeast_39 (by decide) ?_
        refine mj_iald (j := 0) (i := 9) hO dX2_notFeast_41 (by decide) rfl (by decide) ?_
        refine j_bipush (v := 6) dX2_notFeast_42 (by decide) ?_
        refine j_icmp_ne (tgt := 58) dX2_notFeast_44 (by decide) (fun c44 => ?_) (fun c44 => ?_)
        · refine j_iconst (v := 0) dX2_notFeast_58 (by decide) ?_
          exact j_ireturn dX2_notFeast_59 rfl (mjv (by first | rfl | (simp_all [jb, mPub, mNotFeast]; done) | (simp_all [jb, mPub, mNotFeast]; rfl) | (simp_all [jb, mPub, mNotFeast, ← Int32.not_lt]; done)) (by first | rfl | (simp_all [jb, mPub, mNotFeast]; done) | (simp_all [jb, mPub, mNotFeast]; rfl) | (simp_all [jb, mPub, mNotFeast, ← Int32.not_lt]; done)))
        · refine j_aload_n dX2_notFeast_47 rfl rfl ?_
          refine j_bipush (v := 8) dX2_notFeast_48 (by decide) ?_
          refine j_bipush (v := 6) dX2_notFeast_50 (by decide) ?_
          refine j_callV (mm_X2_isNot hO s 8 6) dX2_notFeast_52 mt_X2_isNot q2208 q2210 qs38 (hO.at s (i := 0) (by decide)) (by decide) rfl cd_X2_isNot (Nat.le_of_ble_eq_true rfl) rfl rfl (Nat.le_of_ble_eq_true rfl) (jk_v ?_) jx_v
          refine j_goto (tgt := 59) dX2_notFeast_55 (by decide) ?_
          exact j_ireturn dX2_notFeast_59 rfl (mjv (by first | rfl | (simp_all [jb, mPub, mNotFeast]; done) | (simp_all [jb, mPub, mNotFeast]; rfl) | (simp_all [jb, mPub, mNotFeast, ← Int32.not_lt]; done)) (by first | rfl | (simp_all [jb, mPub, mNotFeast]; done) | (simp_all [jb, mPub, mNotFeast]; rfl) | (simp_all [jb, mPub, mNotFeast, ← Int32.not_lt]; done)))
    · refine j_bipush (v := (-12)) dX2_notFeast_20 (by decide) ?_
      exact j_ireturn dX2_notFeast_22 rfl (mjv (by first | rfl | (simp_all [jb, mPub, mNotFeast]; done) | (simp_all [jb, mPub, mNotFeast]; rfl) | (simp_all [jb, mPub, mNotFeast, ← Int32.not_lt]; done)) (by first | rfl | (simp_all [jb, mPub, mNotFeast]; done) | (simp_all [jb, mPub, mNotFeast]; rfl) | (simp_all [jb, mPub, mNotFeast, ← Int32.not_lt]; done)))

theorem mm_X2_tells (hO : mOK G M L) (s : MS) {x : Int32} (hx : mIn x 0 51 = true) (y : Int32) : JM l G 0 yX2_tells wX2_tells [.ref (L 0), .int x, .int y] (mput M L s) (jv (.int ((mTells s x y).1)) (mput M L ((mTells s x y).2))) := by
  refine JM.of pn_X2 (Nat.le_of_ble_eq_true rfl) (hO.1.1) ?_
  show JW l G 0 YX2_tells _ 0 [(0, .ref (L 0)), (1, .int x), (2, .int y)] [] (mput M L s)
  obtain ⟨k, hkl_, hk_, rfl⟩ := mIn_of (a := 0) (b := 51) (by decide) hx (by decide)
  have ek_ : mN (nI k) = k := mN_nI (by omega)
  refine j_aload_n dX2_tells_0 rfl rfl ?_
  refine mj_get hO dX2_tells_1 fd_X2_7_2 rfl ?_
  refine j_bipush (v := 12) dX2_tells_4 (by decide) ?_
  refine j_iload_n dX2_tells_6 rfl ?_
  refine j_iadd dX2_tells_7 ?_
  refine mj_iald (j := 0) (i := (12 + k)) hO dX2_tells_8 (by decide) (nI_add 12 k) (by show _ < 320; omega) ?_
  refine j_if_ne (tgt := 23) dX2_tells_9 (by decide) (fun c9 => ?_) (fun c9 => ?_)
  · refine j_aload_n dX2_tells_23 rfl rfl ?_
    refine mj_get hO dX2_tells_24 fd_X2_7_2 rfl ?_
    refine j_bipush (v := 12) dX2_tells_27 (by decide) ?_
    refine j_iload_n dX2_tells_29 rfl ?_
    refine j_iadd dX2_tells_30 ?_
    refine j_iload_n dX2_tells_31 rfl ?_
    refine mj_iast (j := 0) (i := (12 + k)) hO dX2_tells_32 (by decide) (nI_add 12 k) (by show _ < 320; omega) ?_
    refine j_aload_n dX2_tells_33 rfl rfl ?_
    refine mj_get hO dX2_tells_34 fd_X2_7_2 rfl ?_
    refine j_bipush (v := 9) dX2_tells_37 (by decide) ?_
    refine mj_iald (j := 0) (i := 9) hO dX2_tells_39 (by decide) rfl (by decide) ?_
    exact j_ireturn dX2_tells_40 rfl (mjv (by first | rfl | (simp_all [jb, mPub, mTells]; done) | (simp_all [jb, mPub, mTells]; rfl) | (simp_all [jb, mPub, mTells, ← Int32.not_lt]; done)) (by first | rfl | (simp_all [jb, mPub, mTells]; done) | (simp_all [jb, mPub, mTells]; rfl) | (simp_all [jb, mPub, mTells, ← Int32.not_lt]; done)))
  · refine j_aload_n dX2_tells_12 rfl rfl ?_
    refine mj_get hO dX2_tells_13 fd_X2_7_2 rfl ?_
    refine j_bipush (v := 9) dX2_tells_16 (by decide) ?_
    refine j_dup2_11 dX2_tells_18 rfl rfl ?_
    refine mj_iald (j := 0) (i := 9) hO dX2_tells_19 (by decide) rfl (by decide) ?_
    refine j_iconst (v := 1) dX2_tells_20 (by decide) ?_
    refine j_iadd dX2_tells_21 ?_
    refine mj_iast (j := 0) (i := 9) hO dX2_tells_22 (by decide) rfl (by decide) ?_
    refine j_aload_n dX2_tells_23 rfl rfl ?_
    refine mj_get hO dX2_tells_24 fd_X2_7_2 rfl ?_
    refine j_bipush (v := 12) dX2_tells_27 (by decide) ?_
    refine j_iload_n dX2_tells_29 rfl ?_
    refine j_iadd dX2_tells_30 ?_
    refine j_iload_n dX2_tells_31 rfl ?_
    refine mj_iast (j := 0) (i := (12 + k)) hO dX2_tells_32 (by decide) (nI_add 12 k) (by show _ < 320; omega) ?_
    refine j_aload_n dX2_tells_33 rfl rfl ?_
    refine mj_get hO dX2_tells_34 fd_X2_7_2 rfl ?_
    refine j_bipush (v := 9) dX2_tells_37 (by decide) ?_
    refine mj_iald (j := 0) (i := 9) hO dX2_tells_39 (by decide) rfl (by decide) ?_
    exact j_ireturn dX2_tells_40 rfl (mjv (by first | rfl | (simp_all [jb, mPub, mTells]; done) | (simp_all [jb, mPub, mTells]; rfl) | (simp_all [jb, mPub, mTells, ← Int32.not_lt]; done)) (by first | rfl | (simp_all [jb, mPub, mTells]; done) | (simp_all [jb, mPub, mTells]; rfl) | (simp_all [jb, mPub, mTells, ← Int32.not_lt]; done)))

theorem mm_X2_feast (hO : mOK G M L) (s : MS) {c f : Nat} (hc : s.1 8 = nI c) (hf : s.1 9 = nI f) (hc8 : c ≤ 8) (hf8 : f < 8) (x y : Int32) : JM l G 2 yX2_feast wX2_feast [.ref (L 0), .int x, .int y] (mput M L s) (jv (.int ((mPub c f (mNotFeast s x y) (fun t => mTells t x y)).1)) (mput M L ((mPub c f (mNotFeast s x y) (fun t => mTells t x y)).2))) := by
  refine JM.of pn_X2 (Nat.le_of_ble_eq_true rfl) (hO.1.1) ?_
  show JW l G 2 YX2_feast _ 0 [(0, .ref (L 0)), (1, .int x), (2, .int y)] [] (mput M L s)
  refine j_aload_n dX2_feast_0 rfl rfl ?_
  refine j_iload_n dX2_feast_1 rfl ?_
  refine j_iload_n dX2_feast_2 rfl ?_
  refine j_callV (mm_X2_notFeast hO s x y) dX2_feast_3 mt_X2_notFeast q2327 q2329 qs62 (hO.at s (i := 0) (by decide)) (by decide) rfl cd_X2_notFeast (Nat.le_of_ble_eq_true rfl) rfl rfl (Nat.le_of_ble_eq_true rfl) (jk_v ?_) jx_v
  refine j_istore_n dX2_feast_6 (by decide) rfl ?_
  refine j_iload_n dX2_feast_7 rfl ?_
  refine j_if_eq (tgt := 17) dX2_feast_8 (by decide) (fun c8 => ?_) (fun c8 => ?_)
  · obtain ⟨hw_, -, e_⟩ := mNotFeast_0 c8
    rw [e_]
    refine j_aload_n dX2_feast_17 rfl rfl ?_
    refine j_callV (mm_X2_remembers hO s hc hf hc8 hf8) dX2_feast_18 mt_X2_remembers q2216 q2218 qs40 (hO.at s (i := 0) (by decide)) (by decide) rfl cd_X2_remembers (Nat.le_of_ble_eq_true rfl) rfl rfl (Nat.le_of_ble_eq_true rfl) (jk_n ?_) jx_n
    refine j_aload_n dX2_feast_21 rfl rfl ?_
    refine j_iload_n dX2_feast_22 rfl ?_
    refine j_iload_n dX2_feast_23 rfl ?_
    refine j_callV (mm_X2_tells hO (mRemembers s c f) hw_ y) dX2_feast_24 mt_X2_tells q2331 q2333 qs63 (hO.at (mRemembers s c f) (i := 0) (by decide)) (by decide) rfl cd_X2_tells (Nat.le_of_ble_eq_true rfl) rfl rfl (Nat.le_of_ble_eq_true rfl) (jk_v ?_) jx_v
    exact j_ireturn dX2_feast_27 rfl (mjv (by unfold mPub; rw [if_pos c8, e_]) (by unfold mPub; rw [if_pos c8, e_]))
  · refine j_aload_n dX2_feast_11 rfl rfl ?_
    refine j_iload_n dX2_feast_12 rfl ?_
    refine j_callV (mm_X2_refuses hO ((mNotFeast s x y).2) ((mNotFeast s x y).1)) dX2_feast_13 mt_X2_refuses q2212 q2214 qs39 (hO.at ((mNotFeast s x y).2) (i := 0) (by decide)) (by decide) rfl cd_X2_refuses (Nat.le_of_ble_eq_true rfl) rfl rfl (Nat.le_of_ble_eq_true rfl) (jk_v ?_) jx_v
    exact j_ireturn dX2_feast_16 rfl (mjv (by unfold mPub; rw [if_neg c8]) (by unfold mPub; rw [if_neg c8]))

theorem mm_X2_notBreach (hO : mOK G M L) (s : MS) {n : Nat} (hn : s.2 0 2 = nI n) (hn16 : n ≤ 16) (x y : Int32) : JM l G 2 yX2_notBreach wX2_notBreach [.ref (L 0), .int x, .int y] (mput M L s) (jv (.int ((mNotBreach s x y).1)) (mput M L ((mNotBreach s x y).2))) := by
  refine JM.of pn_X2 (Nat.le_of_ble_eq_true rfl) (hO.1.1) ?_
  show JW l G 2 YX2_notBreach _ 0 [(0, .ref (L 0)), (1, .int x), (2, .int y)] [] (mput M L s)
  refine j_aload_n dX2_notBreach_0 rfl rfl ?_
  refine j_iload_n dX2_notBreach_1 rfl ?_
  refine j_callV (mm_X2_isBrother hO s x) dX2_notBreach_2 mt_X2_isBrother q2240 q2242 qs45 (hO.at s (i := 0) (by decide)) (by decide) rfl cd_X2_isBrother (Nat.le_of_ble_eq_true rfl) rfl rfl (Nat.le_of_ble_eq_true rfl) (jk_v ?_) jx_v
  refine j_ifeqB (tgt := 17) dX2_notBreach_5 (by decide) (fun c5 => ?_) (fun c5 => ?_)
  · refine j_bipush (v := (-11)) dX2_notBreach_17 (by decide) ?_
    exact j_ireturn dX2_notBreach_19 rfl (mjv (by first | rfl | (simp_all [jb, mPub, mNotBreach]; done) | (simp_all [jb, mPub, mNotBreach]; rfl) | (simp_all [jb, mPub, mNotBreach, ← Int32.not_lt]; done)) (by first | rfl | (simp_all [jb, mPub, mNotBreach]; done) | (simp_all [jb, mPub, mNotBreach]; rfl) | (simp_all [jb, mPub, mNotBreach, ← Int32.not_lt]; done)))
  · refine j_iload_n dX2_notBreach_8 rfl ?_
    refine j_iconst (v := 0) dX2_notBreach_9 (by decide) ?_
    refine j_iconst (v := 4) dX2_notBreach_10 (by decide) ?_
    refine j_callS (mm_X2_isBetween hO s y 0 4) dX2_notBreach_11 mt_X2_isBetween q2205 q2206 cd_X2_isBetween (Nat.le_of_ble_eq_true rfl) rfl rfl (Nat.le_of_ble_eq_true rfl) (jk_v ?_) jx_v
    refine j_ifneB (tgt := 20) dX2_notBreach_14 (by decide) (fun c14 => ?_) (fun c14 => ?_)
    · obtain ⟨b, hb, rfl⟩ := mBr_of hn hn16 c5
      have eb_ : mN (nI b) = b := mN_nI (by omega)
      refine j_aload_n dX2_notBreach_20 rfl rfl ?_
      refine j_iload_n dX2_notBreach_21 rfl ?_
      refine j_iconst (v := 1) dX2_notBreach_22 (by decide) ?_
      refine j_callV (mm_X2_isSo hO s (b := b) (by omega) 1) dX2_notBreach_23 mt_X2_isSo q2244 q2246 qs46 (hO.at s (i := 0) (by decide)) (by decide) rfl cd_X2_isSo (Nat.le_of_ble_eq_true rfl) rfl rfl (Nat.le_of_ble_eq_true rfl) (jk_v ?_) jx_v
      refine j_ifeqB (tgt := 33) dX2_notBreach_26 (by decide) (fun c26 => ?_) (fun c26 => ?_)
      · refine j_aload_n dX2_notBreach_33 rfl rfl ?_
        refine j_iconst (v := 3) dX2_notBreach_34 (by decide) ?_
        refine j_aload_n dX2_notBreach_35 rfl rfl ?_
        refine j_iload_n dX2_notBreach_36 rfl ?_
        refine j_iconst (v := 2) dX2_notBreach_37 (by decide) ?_
        refine j_callV (mm_X2_of hO s (b := b) (k := 2) (by omega) (by omega)) dX2_notBreach_38 mt_X2_of q2248 q2250 qs47 (hO.at s (i := 0) (by decide)) (by decide) rfl cd_X2_of (Nat.le_of_ble_eq_true rfl) rfl rfl (Nat.le_of_ble_eq_true rfl) (jk_v ?_) jx_v
        refine j_callV (mm_X2_isNot hO s 3 (mo s b 2)) dX2_notBreach_41 mt_X2_isNot q2208 q2210 qs38 (hO.at s (i := 0) (by decide)) (by decide) rfl cd_X2_isNot (Nat.le_of_ble_eq_true rfl) rfl rfl (Nat.le_of_ble_eq_true rfl) (jk_v ?_) jx_v
        exact j_ireturn dX2_notBreach_44 rfl (mjv (by first | rfl | (simp_all [jb, mPub, mNotBreach]; done) | (simp_all [jb, mPub, mNotBreach]; rfl) | (simp_all [jb, mPub, mNotBreach, ← Int32.not_lt]; done)) (by first | rfl | (simp_all [jb, mPub, mNotBreach]; done) | (simp_all [jb, mPub, mNotBreach]; rfl) | (simp_all [jb, mPub, mNotBreach, ← Int32.not_lt]; done)))
      · refine j_iconst (v := 0) dX2_notBreach_29 (by decide) ?_
        refine j_goto (tgt := 44) dX2_notBreach_30 (by decide) ?_
        exact j_ireturn dX2_notBreach_44 rfl (mjv (by first | rfl | (simp_all [jb, mPub, mNotBreach]; done) | (simp_all [jb, mPub, mNotBreach]; rfl) | (simp_all [jb, mPub, mNotBreach, ← Int32.not_lt]; done)) (by first | rfl | (simp_all [jb, mPub, mNotBreach]; done) | (simp_all [jb, mPub, mNotBreach]; rfl) | (simp_all [jb, mPub, mNotBreach, ← Int32.not_lt]; done)))
    · refine j_bipush (v := (-11)) dX2_notBreach_17 (by decide) ?_
      exact j_ireturn dX2_notBreach_19 rfl (mjv (by first | rfl | (simp_all [jb, mPub, mNotBreach]; done) | (simp_all [jb, mPub, mNotBreach]; rfl) | (simp_all [jb, mPub, mNotBreach, ← Int32.not_lt]; done)) (by first | rfl | (simp_all [jb, mPub, mNotBreach]; done) | (simp_all [jb, mPub, mNotBreach]; rfl) | (simp_all [jb, mPub, mNotBreach, ← Int32.not_lt]; done)))

theorem mm_X2_breaks (hO : mOK G M L) (s : MS) {n : Nat} (hn : s.2 0 2 = nI n) (hn16 : n ≤ 16) {x y : Int32} (hx : mBr s x = true) (hy : mIn y 0 4 = true) : JM l G 4 yX2_breaks wX2_breaks [.ref (L 0), .int x, .int y] (mput M L s) (jv (.int ((mBreaks s n x y).1)) (mput M L ((mBreaks s n x y).2))) := by
  refine JM.of pn_X2 (Nat.le_of_ble_eq_true rfl) (hO.1.1) ?_
  show JW l G 4 YX2_breaks _ 0 [(0, .ref (L 0)), (1, .int x), (2, .int y)] [] (mput M L s)
  obtain ⟨b, hb, rfl⟩ := mBr_of hn hn16 hx
  have eb_ : mN (nI b) = b := mN_nI (by omega)
  obtain ⟨k, hkl_, hk_, rfl⟩ := mIn_of (a := 0) (b := 4) (by decide) hy (by decide)
  have ek_ : mN (nI k) = k := mN_nI (by omega)
  refine j_aload_n dX2_breaks_0 rfl rfl ?_
  refine j_iload_n dX2_breaks_1 rfl ?_
  refine j_bipush (v := 9) dX2_breaks_2 (by decide) ?_
  refine j_iload_n dX2_breaks_4 rfl ?_
  refine j_iadd dX2_breaks_5 ?_
  rw [show (9 + (nI k)) = (nI (9 + k)) from nI_add 9 k]
  refine j_callV (mm_X2_of hO s (b := b) (k := (9 + k)) (by omega) (by omega)) dX2_breaks_6 mt_X2_of q2248 q2250 qs47 (hO.at s (i := 0) (by decide)) (by decide) rfl cd_X2_of (Nat.le_of_ble_eq_true rfl) rfl rfl (Nat.le_of_ble_eq_true rfl) (jk_v ?_) jx_v
  refine j_iconst (v := 1) dX2_breaks_9 (by decide) ?_
  refine j_iadd dX2_breaks_10 ?_
  refine j_istore_n dX2_breaks_11 (by decide) rfl ?_
  refine j_aload_n dX2_breaks_12 rfl rfl ?_
  refine j_iload_n dX2_breaks_13 rfl ?_
  refine j_bipush (v := 9) dX2_breaks_14 (by decide) ?_
  refine j_iload_n dX2_breaks_16 rfl ?_
  refine j_iadd dX2_breaks_17 ?_
  rw [show (9 + (nI k)) = (nI (9 + k)) from nI_add 9 k]
  refine j_iload_n dX2_breaks_18 rfl ?_
  refine j_callV (mm_X2_sets hO s (b := b) (k := (9 + k)) (by omega) (by omega) ((mo s b (9 + k)) + 1)) dX2_breaks_19 mt_X2_sets q2228 q2230 qs43 (hO.at s (i := 0) (by decide)) (by decide) rfl cd_X2_sets (Nat.le_of_ble_eq_true rfl) rfl rfl (Nat.le_of_ble_eq_true rfl) (jk_n ?_) jx_n
  refine j_iload_n dX2_breaks_22 rfl ?_
  refine j_iconst (v := 3) dX2_breaks_23 (by decide) ?_
  refine j_icmp_ne (tgt := 36) dX2_breaks_24 (by decide) (fun c24 => ?_) (fun c24 => ?_)
  · refine j_aload_n dX2_breaks_36 rfl rfl ?_
    refine j_iload_n dX2_breaks_37 rfl ?_
    refine j_iconst (v := 5) dX2_breaks_38 (by decide) ?_
    refine j_aload_n dX2_breaks_39 rfl rfl ?_
    refine j_iload_n dX2_breaks_40 rfl ?_
    refine j_iconst (v := 5) dX2_breaks_41 (by decide) ?_
    refine j_callV (mm_X2_of hO (mset s b (9 + k) ((mo s b (9 + k)) + 1)) (b := b) (k := 5) (by omega) (by omega)) dX2_breaks_42 mt_X2_of q2248 q2250 qs47 (hO.at (mset s b (9 + k) ((mo s b (9 + k)) + 1)) (i := 0) (by decide)) (by decide) rfl cd_X2_of (Nat.le_of_ble_eq_true rfl) rfl rfl (Nat.le_of_ble_eq_true rfl) (jk_v ?_) jx_v
    refine j_iload_n dX2_breaks_45 rfl ?_
    refine j_iadd dX2_breaks_46 ?_
    refine j_callV (mm_X2_sets hO (mset s b (9 + k) ((mo s b (9 + k)) + 1)) (b := b) (k := 5) (by omega) (by omega) ((mo (mset s b (9 + k) ((mo s b (9 + k)) + 1)) b 5) + ((mo s b (9 + k)) + 1))) dX2_breaks_47 mt_X2_sets q2228 q2230 qs43 (hO.at (mset s b (9 + k) ((mo s b (9 + k)) + 1)) (i := 0) (by decide)) (by decide) rfl cd_X2_sets (Nat.le_of_ble_eq_true rfl) rfl rfl (Nat.le_of_ble_eq_true rfl) (jk_n ?_) jx_n
    refine j_aload_n dX2_breaks_50 rfl rfl ?_
    refine j_iload_n dX2_breaks_51 rfl ?_
    refine j_iconst (v := 5) dX2_breaks_52 (by decide) ?_
    refine j_callV (mm_X2_of hO (mset (mset s b (9 + k) ((mo s b (9 + k)) + 1)) b 5 ((mo (mset s b (9 + k) ((mo s b (9 + k)) + 1)) b 5) + ((mo s b (9 + k)) + 1))) (b := b) (k := 5) (by omega) (by omega)) dX2_breaks_53 mt_X2_of q2248 q2250 qs47 (hO.at (mset (mset s b (9 + k) ((mo s b (9 + k)) + 1)) b 5 ((mo (mset s b (9 + k) ((mo s b (9 + k)) + 1)) b 5) + ((mo s b (9 + k)) + 1))) (i := 0) (by decide)) (by decide) rfl cd_X2_of (Nat.le_of_ble_eq_true rfl) rfl rfl (Nat.le_of_ble_eq_true rfl) (jk_v ?_) jx_v
    exact j_ireturn dX2_breaks_56 rfl (mjv (by first | rfl | (simp_all [jb, mPub, mBreaks]; done) | (simp_all [jb, mPub, mBreaks]; rfl) | (simp_all [jb, mPub, mBreaks, ← Int32.not_lt]; done)) (by first | rfl | (simp_all [jb, mPub, mBreaks]; done) | (simp_all [jb, mPub, mBreaks]; rfl) | (simp_all [jb, mPub, mBreaks, ← Int32.not_lt]; done)))
  · refine j_aload_n dX2_breaks_27 rfl rfl ?_
    refine j_iload_n dX2_breaks_28 rfl ?_
    refine j_iconst (v := 2) dX2_breaks_29 (by decide) ?_
    refine j_callV (mm_X2_becomes hO (mset s b (9 + k) ((mo s b (9 + k)) + 1)) (show (mset s b (9 + k) ((mo s b (9 + k)) + 1)).2 0 2 = nI n by simp only [mset_2, mStamps_2, mBecomes_2, mVoicesGo_2, mClear_2, mGo1_2, mThinks_2, mRemembers_2, mNot_2, mRef_2, mGive_2, mFeastComes_2, mBans_2, mRents_2, mAges_2, mYear0_2, mYear_2, mWeekOn_2, mWeekGoes_2, mWeeksGo_2, mComesIn_2, mGownStep_2, mwset1_2]; exact hn) hn16 (b := b) (by omega) 2) dX2_breaks_30 mt_X2_becomes q2252 q2254 qs48 (hO.at (mset s b (9 + k) ((mo s b (9 + k)) + 1)) (i := 0) (by decide)) (by decide) rfl cd_X2_becomes (Nat.le_of_ble_eq_true rfl) rfl rfl (Nat.le_of_ble_eq_true rfl) (jk_n ?_) jx_n
    refine j_goto (tgt := 50) dX2_breaks_33 (by decide) ?_
    refine j_aload_n dX2_breaks_50 rfl rfl ?_
    refine j_iload_n dX2_breaks_51 rfl ?_
    refine j_iconst (v := 5) dX2_breaks_52 (by decide) ?_
    refine j_callV (mm_X2_of hO (mBecomes (mset s b (9 + k) ((mo s b (9 + k)) + 1)) n b 2) (b := b) (k := 5) (by omega) (by omega)) dX2_breaks_53 mt_X2_of q2248 q2250 qs47 (hO.at (mBecomes (mset s b (9 + k) ((mo s b (9 + k)) + 1)) n b 2) (i := 0) (by decide)) (by decide) rfl cd_X2_of (Nat.le_of_ble_eq_true rfl) rfl rfl (Nat.le_of_ble_eq_true rfl) (jk_v ?_) jx_v
    exact j_ireturn dX2_breaks_56 rfl (mjv (by first | rfl | (simp_all [jb, mPub, mBreaks]; done) | (simp_all [jb, mPub, mBreaks]; rfl) | (simp_all [jb, mPub, mBreaks, ← Int32.not_lt]; done)) (by first | rfl | (simp_all [jb, mPub, mBreaks]; done) | (simp_all [jb, mPub, mBreaks]; rfl) | (simp_all [jb, mPub, mBreaks, ← Int32.not_lt]; done)))

theorem mm_X2_breach (hO : mOK G M L) (s : MS) {n : Nat} (hn : s.2 0 2 = nI n) (hn16 : n ≤ 16) {c f : Nat} (hc : s.1 8 = nI c) (hf : s.1 9 = nI f) (hc8 : c ≤ 8) (hf8 : f < 8) (x y : Int32) : JM l G 5 yX2_breach wX2_breach [.ref (L 0), .int x, .int y] (mput M L s) (jv (.int ((mPub c f (mNotBreach s x y) (fun t => mBreaks t n x y)).1)) (mput M L ((mPub c f (mNotBreach s x y) (fun t => mBreaks t n x y)).2))) := by
  refine JM.of pn_X2 (Nat.le_of_ble_eq_true rfl) (hO.1.1) ?_
  show JW l G 5 YX2_breach _ 0 [(0, .ref (L 0)), (1, .int x), (2, .int y)] [] (mput M L s)
  refine j_aload_n dX2_breach_0 rfl rfl ?_
  refine j_iload_n dX2_breach_1 rfl ?_
  refine j_iload_n dX2_breach_2 rfl ?_
  refine j_callV (mm_X2_notBreach hO s hn hn16 x y) dX2_breach_3 mt_X2_notBreach q2339 q2341 qs64 (hO.at s (i := 0) (by decide)) (by decide) rfl cd_X2_notBreach (Nat.le_of_ble_eq_true rfl) rfl rfl (Nat.le_of_ble_eq_true rfl) (jk_v ?_) jx_v
  refine j_istore_n dX2_breach_6 (by decide) rfl ?_
  refine j_iload_n dX2_breach_7 rfl ?_
  refine j_if_eq (tgt := 17) dX2_breach_8 (by decide) (fun c8 => ?_) (fun c8 => ?_)
  · obtain ⟨hx_, hy_, -, e_⟩ := mNotBreach_0 c8
    rw [e_]
    refine j_aload_n dX2_breach_17 rfl rfl ?_
    refine j_callV (mm_X2_remembers hO s hc hf hc8 hf8) dX2_breach_18 mt_X2_remembers q2216 q2218 qs40 (hO.at s (i := 0) (by decide)) (by decide) rfl cd_X2_remembers (Nat.le_of_ble_eq_true rfl) rfl rfl (Nat.le_of_ble_eq_true rfl) (jk_n ?_) jx_n
    refine j_aload_n dX2_breach_21 rfl rfl ?_
    refine j_iload_n dX2_breach_22 rfl ?_
    refine j_iload_n dX2_breach_23 rfl ?_
    refine j_callV (mm_X2_breaks hO (mRemembers s c f) (show (mRemembers s c f).2 0 2 = nI n by simp only [mset_2, mStamps_2, mBecomes_2, mVoicesGo_2, mClear_2, mGo1_2, mThinks_2, mRemembers_2, mNot_2, mRef_2, mGive_2, mFeastComes_2, mBans_2, mRents_2, mAges_2, mYear0_2, mYear_2, mWeekOn_2, mWeekGoes_2, mWeeksGo_2, mComesIn_2, mGownStep_2, mwset1_2]; exact hn) hn16 ((mBr_eq (t := (mRemembers s c f)) (s := s) (by simp only [mset_2, mStamps_2, mBecomes_2, mVoicesGo_2, mClear_2, mGo1_2, mThinks_2, mRemembers_2, mNot_2, mRef_2, mGive_2, mFeastComes_2, mBans_2, mRents_2, mAges_2, mYear0_2, mYear_2, mWeekOn_2, mWeekGoes_2, mWeeksGo_2, mComesIn_2, mGownStep_2, mwset1_2])).trans hx_) hy_) dX2_breach_24 mt_X2_breaks q2343 q2345 qs65 (hO.at (mRemembers s c f) (i := 0) (by decide)) (by decide) rfl cd_X2_breaks (Nat.le_of_ble_eq_true rfl) rfl rfl (Nat.le_of_ble_eq_true rfl) (jk_v ?_) jx_v
    exact j_ireturn dX2_breach_27 rfl (mjv (by unfold mPub; rw [if_pos c8, e_]) (by unfold mPub; rw [if_pos c8, e_]))
  · refine j_aload_n dX2_breach_11 rfl rfl ?_
    refine j_iload_n dX2_breach_12 rfl ?_
    refine j_callV (mm_X2_refuses hO ((mNotBreach s x y).2) ((mNotBreach s x y).1)) dX2_breach_13 mt_X2_refuses q2212 q2214 qs39 (hO.at ((mNotBreach s x y).2) (i := 0) (by decide)) (by decide) rfl cd_X2_refuses (Nat.le_of_ble_eq_true rfl) rfl rfl (Nat.le_of_ble_eq_true rfl) (jk_v ?_) jx_v
    exact j_ireturn dX2_breach_16 rfl (mjv (by unfold mPub; rw [if_neg c8]) (by unfold mPub; rw [if_neg c8]))

theorem mm_X2_notPardon (hO : mOK G M L) (s : MS) {n : Nat} (hn : s.2 0 2 = nI n) (hn16 : n ≤ 16) (x : Int32) : JM l G 2 yX2_notPardon wX2_notPardon [.ref (L 0), .int x] (mput M L s) (jv (.int ((mNotPardon s x).1)) (mput M L ((mNotPardon s x).2))) := by
  refine JM.of pn_X2 (Nat.le_of_ble_eq_true rfl) (hO.1.1) ?_
  show JW l G 2 YX2_notPardon _ 0 [(0, .ref (L 0)), (1, .int x)] [] (mput M L s)
  refine j_aload_n dX2_notPardon_0 rfl rfl ?_
  refine j_iload_n dX2_notPardon_1 rfl ?_
  refine j_callV (mm_X2_isBrother hO s x) dX2_notPardon_2 mt_X2_isBrother q2240 q2242 qs45 (hO.at s (i := 0) (by decide)) (by decide) rfl cd_X2_isBrother (Nat.le_of_ble_eq_true rfl) rfl rfl (Nat.le_of_ble_eq_true rfl) (jk_v ?_) jx_v
  refine j_ifneB (tgt := 11) dX2_notPardon_5 (by decide) (fun c5 => ?_) (fun c5 => ?_)
  · obtain ⟨b, hb, rfl⟩ := mBr_of hn hn16 c5
    have eb_ : mN (nI b) = b := mN_nI (by omega)
    refine j_aload_n dX2_notPardon_11 rfl rfl ?_
    refine j_iload_n dX2_notPardon_12 rfl ?_
    refine j_iconst (v := 1) dX2_notPardon_13 (by decide) ?_
    refine j_callV (mm_X2_isSo hO s (b := b) (by omega) 1) dX2_notPardon_14 mt_X2_isSo q2244 q2246 qs46 (hO.at s (i := 0) (by decide)) (by decide) rfl cd_X2_isSo (Nat.le_of_ble_eq_true rfl) rfl rfl (Nat.le_of_ble_eq_true rfl) (jk_v ?_) jx_v
    refine j_ifneB (tgt := 32) dX2_notPardon_17 (by decide) (fun c17 => ?_) (fun c17 => ?_)
    · refine j_aload_n dX2_notPardon_32 rfl rfl ?_
      refine j_iload_n dX2_notPardon_33 rfl ?_
      refine j_iconst (v := 5) dX2_notPardon_34 (by decide) ?_
      refine j_callV (mm_X2_of hO s (b := b) (k := 5) (by omega) (by omega)) dX2_notPardon_35 mt_X2_of q2248 q2250 qs47 (hO.at s (i := 0) (by decide)) (by decide) rfl cd_X2_of (Nat.le_of_ble_eq_true rfl) rfl rfl (Nat.le_of_ble_eq_true rfl) (jk_v ?_) jx_v
      refine j_if_ne (tgt := 49) dX2_notPardon_38 (by decide) (fun c38 => ?_) (fun c38 => ?_)
      · refine j_aload_n dX2_notPardon_49 rfl rfl ?_
        refine mj_get hO dX2_notPardon_50 fd_X2_7_2 rfl ?_
        refine j_bipush (v := 8) dX2_notPardon_53 (by decide) ?_
        refine mj_iald (j := 0) (i := 8) hO dX2_notPardon_55 (by decide) rfl (by decide) ?_
        refine j_iconst (v := 2) dX2_notPardon_56 (by decide) ?_
        refine j_icmp_ne (tgt := 70) dX2_notPardon_57 (by decide) (fun c57 => ?_) (fun c57 => ?_)
        · refine j_iconst (v := 0) dX2_notPardon_70 (by decide) ?_
          exact j_ireturn dX2_notPardon_71 rfl (mjv (by first | rfl | (simp_all [jb, mPub, mNotPardon]; done) | (simp_all [jb, mPub, mNotPardon]; rfl) | (simp_all [jb, mPub, mNotPardon, ← Int32.not_lt]; done)) (by first | rfl | (simp_all [jb, mPub, mNotPardon]; done) | (simp_all [jb, mPub, mNotPardon]; rfl) | (simp_all [jb, mPub, mNotPardon, ← Int32.not_lt]; done)))
        · refine j_aload_n dX2_notPardon_60 rfl rfl ?_
          refine j_bipush (v := 9) dX2_notPardon_61 (by decide) ?_
          refine j_iconst (v := 2) dX2_notPardon_63 (by decide) ?_
          refine j_callV (mm_X2_isNot hO s 9 2) dX2_notPardon_64 mt_X2_isNot q2208 q2210 qs38 (hO.at s (i := 0) (by decide)) (by decide) rfl cd_X2_isNot (Nat.le_of_ble_eq_true rfl) rfl rfl (Nat.le_of_ble_eq_true rfl) (jk_v ?_) jx_v
          refine j_goto (tgt := 71) dX2_notPardon_67 (by decide) ?_
          exact j_ireturn dX2_notPardon_71 rfl (mjv (by first | rfl | (simp_all [jb, mPub, mNotPardon]; done) | (simp_all [jb, mPub, mNotPardon]; rfl) | (simp_all [jb, mPub, mNotPardon, ← Int32.not_lt]; done)) (by first | rfl | (simp_all [jb, mPub, mNotPardon]; done) | (simp_all [jb, mPub, mNotPardon]; rfl) | (simp_all [jb, mPub, mNotPardon, ← Int32.not_lt]; done)))
      · refine j_aload_n dX2_notPardon_41 rfl rfl ?_
        refine j_bipush (v := 10) dX2_notPardon_42 (by decide) ?_
        refine j_iload_n dX2_notPardon_44 rfl ?_
        refine j_callV (mm_X2_isNot hO s 10 (nI b)) dX2_notPardon_45 mt_X2_isNot q2208 q2210 qs38 (hO.at s (i := 0) (by decide)) (by decide) rfl cd_X2_isNot (Nat.le_of_ble_eq_true rfl) rfl rfl (Nat.le_of_ble_eq_true rfl) (jk_v ?_) jx_v
        exact j_ireturn dX2_notPardon_48 rfl (mjv (by first | rfl | (simp_all [jb, mPub, mNotPardon]; done) | (simp_all [jb, mPub, mNotPardon]; rfl) | (simp_all [jb, mPub, mNotPardon, ← Int32.not_lt]; done)) (by first | rfl | (simp_all [jb, mPub, mNotPardon]; done) | (simp_all [jb, mPub, mNotPardon]; rfl) | (simp_all [jb, mPub, mNotPardon, ← Int32.not_lt]; done)))
    · refine j_aload_n dX2_notPardon_20 rfl rfl ?_
      refine j_iconst (v := 3) dX2_notPardon_21 (by decide) ?_
      refine j_aload_n dX2_notPardon_22 rfl rfl ?_
      refine j_iload_n dX2_notPardon_23 rfl ?_
      refine j_iconst (v := 2) dX2_notPardon_24 (by decide) ?_
      refine j_callV (mm_X2_of hO s (b := b) (k := 2) (by omega) (by omega)) dX2_notPardon_25 mt_X2_of q2248 q2250 qs47 (hO.at s (i := 0) (by decide)) (by decide) rfl cd_X2_of (Nat.le_of_ble_eq_true rfl) rfl rfl (Nat.le_of_ble_eq_true rfl) (jk_v ?_) jx_v
      refine j_callV (mm_X2_isNot hO s 3 (mo s b 2)) dX2_notPardon_28 mt_X2_isNot q2208 q2210 qs38 (hO.at s (i := 0) (by decide)) (by decide) rfl cd_X2_isNot (Nat.le_of_ble_eq_true rfl) rfl rfl (Nat.le_of_ble_eq_true rfl) (jk_v ?_) jx_v
      exact j_ireturn dX2_notPardon_31 rfl (mjv (by first | rfl | (simp_all [jb, mPub, mNotPardon]; done) | (simp_all [jb, mPub, mNotPardon]; rfl) | (simp_all [jb, mPub, mNotPardon, ← Int32.not_lt]; done)) (by first | rfl | (simp_all [jb, mPub, mNotPardon]; done) | (simp_all [jb, mPub, mNotPardon]; rfl) | (simp_all [jb, mPub, mNotPardon, ← Int32.not_lt]; done)))
  · refine j_bipush (v := (-11)) dX2_notPardon_8 (by decide) ?_
    exact j_ireturn dX2_notPardon_10 rfl (mjv (by first | rfl | (simp_all [jb, mPub, mNotPardon]; done) | (simp_all [jb, mPub, mNotPardon]; rfl) | (simp_all [jb, mPub, mNotPardon, ← Int32.not_lt]; done)) (by first | rfl | (simp_all [jb, mPub, mNotPardon]; done) | (simp_all [jb, mPub, mNotPardon]; rfl) | (simp_all [jb, mPub, mNotPardon, ← Int32.not_lt]; done)))

theorem mm_X2_pardons (hO : mOK G M L) (s : MS) {n : Nat} (hn : s.2 0 2 = nI n) (hn16 : n ≤ 16) {x : Int32} (hx : mBr s x = true) : JM l G 1 yX2_pardons wX2_pardons [.ref (L 0), .int x] (mput M L s) (jv (.int ((mPardons s x).1)) (mput M L ((mPardons s x).2))) := by
  refine JM.of pn_X2 (Nat.le_of_ble_eq_true rfl) (hO.1.1) ?_
  show JW l G 1 YX2_pardons _ 0 [(0, .ref (L 0)), (1, .int x)] [] (mput M L s)
  obtain ⟨b, hb, rfl⟩ := mBr_of hn hn16 hx
  have eb_ : mN (nI b) = b := mN_nI (by omega)
  refine j_aload_n dX2_pardons_0 rfl rfl ?_
  refine j_iload_n dX2_pardons_1 rfl ?_
  refine j_iconst (v := 5) dX2_pardons_2 (by decide) ?_
  refine j_callV (mm_X2_of hO s (b := b) (k := 5) (by omega) (by omega)) dX2_pardons_3 mt_X2_of q2248 q2250 qs47 (hO.at s (i := 0) (by decide)) (by decide) rfl cd_X2_of (Nat.le_of_ble_eq_true rfl) rfl rfl (Nat.le_of_ble_eq_true rfl) (jk_v ?_) jx_v
  refine j_istore_n dX2_pardons_6 (by decide) rfl ?_
  refine j_aload_n dX2_pardons_7 rfl rfl ?_
  refine j_iload_n dX2_pardons_8 rfl ?_
  refine j_iconst (v := 5) dX2_pardons_9 (by decide) ?_
  refine j_iconst (v := 0) dX2_pardons_10 (by decide) ?_
  refine j_callV (mm_X2_sets hO s (b := b) (k := 5) (by omega) (by omega) 0) dX2_pardons_11 mt_X2_sets q2228 q2230 qs43 (hO.at s (i := 0) (by decide)) (by decide) rfl cd_X2_sets (Nat.le_of_ble_eq_true rfl) rfl rfl (Nat.le_of_ble_eq_true rfl) (jk_n ?_) jx_n
  refine j_aload_n dX2_pardons_14 rfl rfl ?_
  refine mj_get hO dX2_pardons_15 fd_X2_7_2 rfl ?_
  refine j_bipush (v := 8) dX2_pardons_18 (by decide) ?_
  refine j_dup2_11 dX2_pardons_20 rfl rfl ?_
  refine mj_iald (j := 0) (i := 8) hO dX2_pardons_21 (by decide) rfl (by decide) ?_
  refine j_iconst (v := 1) dX2_pardons_22 (by decide) ?_
  refine j_iadd dX2_pardons_23 ?_
  refine mj_iast (j := 0) (i := 8) hO dX2_pardons_24 (by decide) rfl (by decide) ?_
  refine j_iload_n dX2_pardons_25 rfl ?_
  exact j_ireturn dX2_pardons_26 rfl (mjv (by first | rfl | (simp_all [jb, mPub, mPardons]; done) | (simp_all [jb, mPub, mPardons]; rfl) | (simp_all [jb, mPub, mPardons, ← Int32.not_lt]; done)) (by first | rfl | (simp_all [jb, mPub, mPardons]; done) | (simp_all [jb, mPub, mPardons]; rfl) | (simp_all [jb, mPub, mPardons, ← Int32.not_lt]; done)))

theorem mm_X2_pardon (hO : mOK G M L) (s : MS) {n : Nat} (hn : s.2 0 2 = nI n) (hn16 : n ≤ 16) {c f : Nat} (hc : s.1 8 = nI c) (hf : s.1 9 = nI f) (hc8 : c ≤ 8) (hf8 : f < 8) (x : Int32) : JM l G 3 yX2_pardon wX2_pardon [.ref (L 0), .int x] (mput M L s) (jv (.int ((mPub c f (mNotPardon s x) (fun t => mPardons t x)).1)) (mput M L ((mPub c f (mNotPardon s x) (fun t => mPardons t x)).2))) := by
  refine JM.of pn_X2 (Nat.le_of_ble_eq_true rfl) (hO.1.1) ?_
  show JW l G 3 YX2_pardon _ 0 [(0, .ref (L 0)), (1, .int x)] [] (mput M L s)
  refine j_aload_n dX2_pardon_0 rfl rfl ?_
  refine j_iload_n dX2_pardon_1 rfl ?_
  refine j_callV (mm_X2_notPardon hO s hn hn16 x) dX2_pardon_2 mt_X2_notPardon q2351 q2353 qs66 (hO.at s (i := 0) (by decide)) (by decide) rfl cd_X2_notPardon (Nat.le_of_ble_eq_true rfl) rfl rfl (Nat.le_of_ble_eq_true rfl) (jk_v ?_) jx_v
  refine j_istore_n dX2_pardon_5 (by decide) rfl ?_
  refine j_iload_n dX2_pardon_6 rfl ?_
  refine j_if_eq (tgt := 16) dX2_pardon_7 (by decide) (fun c7 => ?_) (fun c7 => ?_)
  · obtain ⟨hx_, -, -, e_⟩ := mNotPardon_0 c7
    rw [e_]
    refine j_aload_n dX2_pardon_16 rfl rfl ?_
    refine j_callV (mm_X2_remembers hO s hc hf hc8 hf8) dX2_pardon_17 mt_X2_remembers q2216 q2218 qs40 (hO.at s (i := 0) (by decide)) (by decide) rfl cd_X2_remembers (Nat.le_of_ble_eq_true rfl) rfl rfl (Nat.le_of_ble_eq_true rfl) (jk_n ?_) jx_n
    refine j_aload_n dX2_pardon_20 rfl rfl ?_
    refine j_iload_n dX2_pardon_21 rfl ?_
    refine j_callV (mm_X2_pardons hO (mRemembers s c f) (show (mRemembers s c f).2 0 2 = nI n by simp only [mset_2, mStamps_2, mBecomes_2, mVoicesGo_2, mClear_2, mGo1_2, mThinks_2, mRemembers_2, mNot_2, mRef_2, mGive_2, mFeastComes_2, mBans_2, mRents_2, mAges_2, mYear0_2, mYear_2, mWeekOn_2, mWeekGoes_2, mWeeksGo_2, mComesIn_2, mGownStep_2, mwset1_2]; exact hn) hn16 ((mBr_eq (t := (mRemembers s c f)) (s := s) (by simp only [mset_2, mStamps_2, mBecomes_2, mVoicesGo_2, mClear_2, mGo1_2, mThinks_2, mRemembers_2, mNot_2, mRef_2, mGive_2, mFeastComes_2, mBans_2, mRents_2, mAges_2, mYear0_2, mYear_2, mWeekOn_2, mWeekGoes_2, mWeeksGo_2, mComesIn_2, mGownStep_2, mwset1_2])).trans hx_)) dX2_pardon_22 mt_X2_pardons q2355 q2357 qs67 (hO.at (mRemembers s c f) (i := 0) (by decide)) (by decide) rfl cd_X2_pardons (Nat.le_of_ble_eq_true rfl) rfl rfl (Nat.le_of_ble_eq_true rfl) (jk_v ?_) jx_v
    exact j_ireturn dX2_pardon_25 rfl (mjv (by unfold mPub; rw [if_pos c7, e_]) (by unfold mPub; rw [if_pos c7, e_]))
  · refine j_aload_n dX2_pardon_10 rfl rfl ?_
    refine j_iload_n dX2_pardon_11 rfl ?_
    refine j_callV (mm_X2_refuses hO ((mNotPardon s x).2) ((mNotPardon s x).1)) dX2_pardon_12 mt_X2_refuses q2212 q2214 qs39 (hO.at ((mNotPardon s x).2) (i := 0) (by decide)) (by decide) rfl cd_X2_refuses (Nat.le_of_ble_eq_true rfl) rfl rfl (Nat.le_of_ble_eq_true rfl) (jk_v ?_) jx_v
    exact j_ireturn dX2_pardon_15 rfl (mjv (by unfold mPub; rw [if_neg c7]) (by unfold mPub; rw [if_neg c7]))

theorem mm_X2_puts (hO : mOK G M L) (s : MS) (p : Int32) : JM l G 2 yX2_puts wX2_puts [.ref (L 0), .int p] (mput M L s) (jv (.int ((mPuts s p).1)) (mput M L ((mPuts s p).2))) := by
  refine JM.of pn_X2 (Nat.le_of_ble_eq_true rfl) (hO.1.1) ?_
  show JW l G 2 YX2_puts _ 0 [(0, .ref (L 0)), (1, .int p)] [] (mput M L s)
  refine j_aload_n dX2_puts_0 rfl rfl ?_
  refine j_iload_n dX2_puts_1 rfl ?_
  refine j_callV (mm_X2_comesIn hO s p) dX2_puts_2 mt_X2_comesIn q2367 q2369 qs69 (hO.at s (i := 0) (by decide)) (by decide) rfl cd_X2_comesIn (Nat.le_of_ble_eq_true rfl) rfl rfl (Nat.le_of_ble_eq_true rfl) (jk_n ?_) jx_n
  refine j_aload_n dX2_puts_5 rfl rfl ?_
  refine mj_get hO dX2_puts_6 fd_X2_7_2 rfl ?_
  refine j_iconst (v := 3) dX2_puts_9 (by decide) ?_
  refine mj_iald (j := 0) (i := 3) hO dX2_puts_10 (by decide) rfl (by decide) ?_
  exact j_ireturn dX2_puts_11 rfl (mjv rfl rfl)

theorem mm_X2_gift (hO : mOK G M L) (s : MS) {c f : Nat} (hc : s.1 8 = nI c) (hf : s.1 9 = nI f) (hc8 : c ≤ 8) (hf8 : f < 8) (p : Int32) : JM l G 3 yX2_gift wX2_gift [.ref (L 0), .int p] (mput M L s) (jv (.int ((mGift s c f p).1)) (mput M L ((mGift s c f p).2))) := by
  refine JM.of pn_X2 (Nat.le_of_ble_eq_true rfl) (hO.1.1) ?_
  show JW l G 3 YX2_gift _ 0 [(0, .ref (L 0)), (1, .int p)] [] (mput M L s)
  refine j_iload_n dX2_gift_0 rfl ?_
  refine j_iconst (v := 1) dX2_gift_1 (by decide) ?_
  refine j_sipush (v := 500) dX2_gift_2 (by decide) ?_
  refine j_callS (mm_X2_isBetween hO s p 1 500) dX2_gift_5 mt_X2_isBetween q2205 q2206 cd_X2_isBetween (Nat.le_of_ble_eq_true rfl) rfl rfl (Nat.le_of_ble_eq_true rfl) (jk_v ?_) jx_v
  refine j_ifneB (tgt := 14) dX2_gift_8 (by decide) (fun c8 => ?_) (fun c8 => ?_)
  · refine j_aload_n dX2_gift_14 rfl rfl ?_
    refine j_callV (mm_X2_remembers hO s hc hf hc8 hf8) dX2_gift_15 mt_X2_remembers q2216 q2218 qs40 (hO.at s (i := 0) (by decide)) (by decide) rfl cd_X2_remembers (Nat.le_of_ble_eq_true rfl) rfl rfl (Nat.le_of_ble_eq_true rfl) (jk_n ?_) jx_n
    refine j_aload_n dX2_gift_18 rfl rfl ?_
    refine j_iload_n dX2_gift_19 rfl ?_
    refine j_callV (mm_X2_puts hO (mRemembers s c f) p) dX2_gift_20 mt_X2_puts q2363 q2365 qs68 (hO.at (mRemembers s c f) (i := 0) (by decide)) (by decide) rfl cd_X2_puts (Nat.le_of_ble_eq_true rfl) rfl rfl (Nat.le_of_ble_eq_true rfl) (jk_v ?_) jx_v
    exact j_ireturn dX2_gift_23 rfl (mjv (by simp only [mGift, c8, if_true, if_false, Bool.false_eq_true]) (by simp only [mGift, c8, if_true, if_false, Bool.false_eq_true]))
  · refine j_bipush (v := (-12)) dX2_gift_11 (by decide) ?_
    exact j_ireturn dX2_gift_13 rfl (mjv (by simp only [mGift, c8, if_true, if_false, Bool.false_eq_true]) (by simp only [mGift, c8, if_true, if_false, Bool.false_eq_true]))

end M3
