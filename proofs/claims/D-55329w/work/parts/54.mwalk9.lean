section M9
variable {l : Launch} {G : j_G} {M : j_M} {L : Nat → Nat}
theorem mm_X2_run (hO : mOK G M L) (s : MS) {n : Nat} (hn : s.2 0 2 = nI n) (hn16 : n ≤ 16) {c f : Nat} (hc : s.1 8 = nI c) (hf : s.1 9 = nI f) (hc8 : c ≤ 8) (hf8 : f < 8) (hw : mWk s) {len : Nat} (hl : s.1 13 = nI len) (h60 : len ≤ 60) : JM l G 9 yX2_run wX2_run [.ref (L 0)] (mput M L s) (jv (.int ((mRun s n c f len).1)) (mput M L ((mRun s n c f len).2))) := by
  refine JM.of pn_X2 (Nat.le_of_ble_eq_true rfl) (hO.1.1) ?_
  show JW l G 9 YX2_run _ 0 [(0, .ref (L 0))] [] (mput M L s)
  refine j_aload_n dX2_run_0 rfl rfl ?_
  refine j_callV (mm_X2_readsAll hO s hl h60) dX2_run_1 mt_X2_readsAll q2486 q2488 qs82 (hO.at s (i := 0) (by decide)) (by decide) rfl cd_X2_readsAll (Nat.le_of_ble_eq_true rfl) rfl rfl (Nat.le_of_ble_eq_true rfl) (jk_v ?_) jx_v
  refine j_ifneB (tgt := 21) dX2_run_4 (by decide) (fun c4 => ?_) (fun c4 => ?_)
  · refine j_aload_n dX2_run_21 rfl rfl ?_
    refine j_callV (mm_X2_thinks hO (mS1 s len)) dX2_run_22 mt_X2_thinks q2220 q2222 qs41 (hO.at (mS1 s len) (i := 0) (by decide)) (by decide) rfl cd_X2_thinks (Nat.le_of_ble_eq_true rfl) rfl rfl (Nat.le_of_ble_eq_true rfl) (jk_n ?_) jx_n
    refine j_aload_n dX2_run_25 rfl rfl ?_
    refine j_callV (mm_X2_doesAll hO (mThinks (mS1 s len)) (n := n) hn hn16 hw (len := len) hl h60) dX2_run_26 mt_X2_doesAll q2510 q2512 qs88 (hO.at (mThinks (mS1 s len)) (i := 0) (by decide)) (by decide) rfl cd_X2_doesAll (Nat.le_of_ble_eq_true rfl) rfl rfl (Nat.le_of_ble_eq_true rfl) (jk_v ?_) jx_v
    refine j_istore_n dX2_run_29 (by decide) rfl ?_
    refine j_aload_n dX2_run_30 rfl rfl ?_
    refine j_iconst (v := 0) dX2_run_31 (by decide) ?_
    refine mj_put hO dX2_run_32 fd_X2_204_2 rfl (fun r hr => ⟨(ft_2_13 r hr).1, (ft_2_13 r hr).2.1⟩) rfl rfl ?_
    refine j_iload_n dX2_run_35 rfl ?_
    refine j_ifeqB (tgt := 48) dX2_run_36 (by decide) (fun c36 => ?_) (fun c36 => ?_)
    · have c36_ : (mDoes n len 61 0 (mS2 s len)).1 = false := c36
      refine j_aload_n dX2_run_48 rfl rfl ?_
      refine j_callV (mm_X2_forgets hO (ms_z ((mDoes n len 61 0 (mS2 s len)).2) 13 0)) dX2_run_49 mt_X2_forgets q2418 q2420 qs79 (hO.at (ms_z ((mDoes n len 61 0 (mS2 s len)).2) 13 0) (i := 0) (by decide)) (by decide) rfl cd_X2_forgets (Nat.le_of_ble_eq_true rfl) rfl rfl (Nat.le_of_ble_eq_true rfl) (jk_n ?_) jx_n
      refine j_aload_n dX2_run_52 rfl rfl ?_
      refine j_aload_n dX2_run_53 rfl rfl ?_
      refine j_bipush (v := 11) dX2_run_54 (by decide) ?_
      refine j_aload_n dX2_run_56 rfl rfl ?_
      refine mj_get hO dX2_run_57 fd_X2_229_2 rfl ?_
      refine j_callV (mm_X2_isNot hO (mForgets (ms_z ((mDoes n len 61 0 (mS2 s len)).2) 13 0)) 11 ((mForgets (ms_z ((mDoes n len 61 0 (mS2 s len)).2) 13 0)).1 17)) dX2_run_60 mt_X2_isNot q2208 q2210 qs38 (hO.at (mForgets (ms_z ((mDoes n len 61 0 (mS2 s len)).2) 13 0)) (i := 0) (by decide)) (by decide) rfl cd_X2_isNot (Nat.le_of_ble_eq_true rfl) rfl rfl (Nat.le_of_ble_eq_true rfl) (jk_v ?_) jx_v
      refine j_callV (mm_X2_refuses hO (mNot (mForgets (ms_z ((mDoes n len 61 0 (mS2 s len)).2) 13 0)) 11 ((mForgets (ms_z ((mDoes n len 61 0 (mS2 s len)).2) 13 0)).1 17)) (-14)) dX2_run_63 mt_X2_refuses q2212 q2214 qs39 (hO.at (mNot (mForgets (ms_z ((mDoes n len 61 0 (mS2 s len)).2) 13 0)) 11 ((mForgets (ms_z ((mDoes n len 61 0 (mS2 s len)).2) 13 0)).1 17)) (i := 0) (by decide)) (by decide) rfl cd_X2_refuses (Nat.le_of_ble_eq_true rfl) rfl rfl (Nat.le_of_ble_eq_true rfl) (jk_v ?_) jx_v
      exact j_ireturn dX2_run_66 rfl (mjv (by unfold mRun; rw [if_pos c4, if_neg (Bool.eq_false_iff.mp c36_)]; first | done | rfl) (by unfold mRun; rw [if_pos c4, if_neg (Bool.eq_false_iff.mp c36_)]; first | done | rfl))
    · have c36_ : (mDoes n len 61 0 (mS2 s len)).1 = true := c36
      have hc_ : (ms_z (mDoes n len 61 0 (mS2 s len)).2 13 0).1 8 = nI c := (mDoes_s n len 8 (by decide) 61 0 (mS2 s len)).trans hc
      have hf_ : (ms_z (mDoes n len 61 0 (mS2 s len)).2 13 0).1 9 = nI f := (mDoes_s n len 9 (by decide) 61 0 (mS2 s len)).trans hf
      refine j_aload_n dX2_run_39 rfl rfl ?_
      refine j_callV (mm_X2_keepsMind hO (ms_z ((mDoes n len 61 0 (mS2 s len)).2) 13 0) hc_ hf_ hc8 hf8) dX2_run_40 mt_X2_keepsMind q2224 q2226 qs42 (hO.at (ms_z ((mDoes n len 61 0 (mS2 s len)).2) 13 0) (i := 0) (by decide)) (by decide) rfl cd_X2_keepsMind (Nat.le_of_ble_eq_true rfl) rfl rfl (Nat.le_of_ble_eq_true rfl) (jk_n ?_) jx_n
      refine j_aload_n dX2_run_43 rfl rfl ?_
      refine mj_get hO dX2_run_44 fd_X2_229_2 rfl ?_
      exact j_ireturn dX2_run_47 rfl (mjv (by unfold mRun; rw [if_pos c4, if_pos c36_]; first | done | rfl) (by unfold mRun; rw [if_pos c4, if_pos c36_]; first | done | rfl))
  · refine j_aload_n dX2_run_7 rfl rfl ?_
    refine j_iconst (v := 0) dX2_run_8 (by decide) ?_
    refine mj_put hO dX2_run_9 fd_X2_204_2 rfl (fun r hr => ⟨(ft_2_13 r hr).1, (ft_2_13 r hr).2.1⟩) rfl rfl ?_
    refine j_sipush (v := (-1000)) dX2_run_12 (by decide) ?_
    refine j_aload_n dX2_run_15 rfl rfl ?_
    refine mj_get hO dX2_run_16 fd_X2_207_2 rfl ?_
    refine j_isub dX2_run_19 ?_
    exact j_ireturn dX2_run_20 rfl (mjv (by unfold mRun; rw [if_neg (Bool.eq_false_iff.mp c4)]; first | done | rfl) (by unfold mRun; rw [if_neg (Bool.eq_false_iff.mp c4)]; first | done | rfl))

theorem mm_X2_writes (hO : mOK G M L) (s : MS) (cs : List Int32) (hcs : cs.length < 160) (c : Int32) : JM l G 0 yX2_writes wX2_writes [.ref (L 0), .int c] (mput M L (mLn s cs)) (jn (mput M L (mLn s (cs ++ [mChr c])))) := by
  refine JM.of pn_X2 (Nat.le_of_ble_eq_true rfl) (hO.1.1) ?_
  show JW l G 0 YX2_writes _ 0 [(0, .ref (L 0)), (1, .int c)] [] (mput M L (mLn s cs))
  refine j_aload_n dX2_writes_0 rfl rfl ?_
  refine mj_get hO dX2_writes_1 fd_X2_32_2 rfl ?_
  refine j_aload_n dX2_writes_4 rfl rfl ?_
  refine mj_get hO dX2_writes_5 fd_X2_244_2 rfl ?_
  refine j_iload_n dX2_writes_8 rfl ?_
  refine j_i2c dX2_writes_9 ?_
  refine mj_cast (j := 7) (i := cs.length) hO dX2_writes_10 (by decide) rfl (by show _ < 160; omega) ?_
  refine j_aload_n dX2_writes_11 rfl rfl ?_
  refine j_dup dX2_writes_12 rfl ?_
  refine mj_get hO dX2_writes_13 fd_X2_244_2 rfl ?_
  refine j_iconst (v := 1) dX2_writes_16 (by decide) ?_
  refine j_iadd dX2_writes_17 ?_
  refine mj_put hO dX2_writes_18 fd_X2_244_2 rfl (fun r hr => ⟨(ft_2_19 r hr).1, (ft_2_19 r hr).2.1⟩) rfl rfl ?_
  refine j_mem (M' := mput M L (mLn s (cs ++ [mChr c]))) (congrArg (mput M L) (show mLn s (cs ++ [mChr c]) = ms_z (ms_a (mLn s cs) 7 (va_up ((mLn s cs).2 7) cs.length (mChr c))) 19 (nI cs.length + 1) by rw [nI_1, mLn_s])) ?_
  exact j_return dX2_writes_21 rfl (mjn rfl)

theorem mm_X2_writesNumber (hO : mOK G M L) (s : MS) (cs : List Int32) (hcs : cs.length < 158) (v : Int32) : JM l G 1 yX2_writesNumber wX2_writesNumber [.ref (L 0), .int v] (mput M L (mLn s cs)) (jn (mput M L (mLn s (cs ++ mDec v)))) := by
  refine JM.of pn_X2 (Nat.le_of_ble_eq_true rfl) (hO.1.1) ?_
  show JW l G 1 YX2_writesNumber _ 0 [(0, .ref (L 0)), (1, .int v)] [] (mput M L (mLn s cs))
  refine j_iload_n dX2_writesNumber_0 rfl ?_
  refine j_bipush (v := 9) dX2_writesNumber_1 (by decide) ?_
  refine j_icmp_le (tgt := 17) dX2_writesNumber_3 (by decide) (fun c3 => ?_) (fun c3 => ?_)
  · refine j_aload_n dX2_writesNumber_17 rfl rfl ?_
    refine j_bipush (v := 48) dX2_writesNumber_18 (by decide) ?_
    refine j_iload_n dX2_writesNumber_20 rfl ?_
    refine j_bipush (v := 10) dX2_writesNumber_21 (by decide) ?_
    refine j_irem dX2_writesNumber_23 (by decide) ?_
    refine j_iadd dX2_writesNumber_24 ?_
    refine j_callV (mm_X2_writes hO s cs (by first | omega | (simp only [List.length_append, List.length_cons, List.length_nil]; omega)) (48 + (v - v / 10 * 10))) dX2_writesNumber_25 mt_X2_writes q2526 q2528 qs91 (hO.at (mLn s cs) (i := 0) (by decide)) (by decide) rfl cd_X2_writes (Nat.le_of_ble_eq_true rfl) rfl rfl (Nat.le_of_ble_eq_true rfl) (jk_n ?_) jx_n
    exact j_return dX2_writesNumber_28 rfl (mjn (by unfold mDec; first | (rw [if_pos (Int32.not_le.mp c3), List.append_assoc]) | (rw [if_neg (Int32.not_lt.mpr c3)]; rfl)))
  · refine j_aload_n dX2_writesNumber_6 rfl rfl ?_
    refine j_bipush (v := 48) dX2_writesNumber_7 (by decide) ?_
    refine j_iload_n dX2_writesNumber_9 rfl ?_
    refine j_bipush (v := 10) dX2_writesNumber_10 (by decide) ?_
    refine j_idiv dX2_writesNumber_12 (by decide) ?_
    refine j_iadd dX2_writesNumber_13 ?_
    refine j_callV (mm_X2_writes hO s cs (by first | omega | (simp only [List.length_append, List.length_cons, List.length_nil]; omega)) (48 + (v / 10))) dX2_writesNumber_14 mt_X2_writes q2526 q2528 qs91 (hO.at (mLn s cs) (i := 0) (by decide)) (by decide) rfl cd_X2_writes (Nat.le_of_ble_eq_true rfl) rfl rfl (Nat.le_of_ble_eq_true rfl) (jk_n ?_) jx_n
    refine j_aload_n dX2_writesNumber_17 rfl rfl ?_
    refine j_bipush (v := 48) dX2_writesNumber_18 (by decide) ?_
    refine j_iload_n dX2_writesNumber_20 rfl ?_
    refine j_bipush (v := 10) dX2_writesNumber_21 (by decide) ?_
    refine j_irem dX2_writesNumber_23 (by decide) ?_
    refine j_iadd dX2_writesNumber_24 ?_
    refine j_callV (mm_X2_writes hO s (cs ++ [mChr (48 + (v / 10))]) (by first | omega | (simp only [List.length_append, List.length_cons, List.length_nil]; omega)) (48 + (v - v / 10 * 10))) dX2_writesNumber_25 mt_X2_writes q2526 q2528 qs91 (hO.at (mLn s (cs ++ [mChr (48 + (v / 10))])) (i := 0) (by decide)) (by decide) rfl cd_X2_writes (Nat.le_of_ble_eq_true rfl) rfl rfl (Nat.le_of_ble_eq_true rfl) (jk_n ?_) jx_n
    exact j_return dX2_writesNumber_28 rfl (mjn (by unfold mDec; first | (rw [if_pos (Int32.not_le.mp c3), List.append_assoc]) | (rw [if_neg (Int32.not_lt.mpr c3)]; rfl)))

theorem mm_X2_writesCell (hO : mOK G M L) (s : MS) {n : Nat} (hn : s.2 0 2 = nI n) (hn16 : n ≤ 16) (cs : List Int32) (hcs : cs.length < 150) {c : Nat} (hc : c < 8) : JM l G 4 yX2_writesCell wX2_writesCell [.ref (L 0), .int (nI c)] (mput M L (mLn s cs)) (jn (mput M L (mLn s (cs ++ mCellTxt s n (nI c))))) := by
  refine JM.of pn_X2 (Nat.le_of_ble_eq_true rfl) (hO.1.1) ?_
  show JW l G 4 YX2_writesCell _ 0 [(0, .ref (L 0)), (1, .int (nI c))] [] (mput M L (mLn s cs))
  have hdl_ : ∀ v, (mDec v).length ≤ 2 := mDec_len
  refine j_aload_n dX2_writesCell_0 rfl rfl ?_
  refine j_iload_n dX2_writesCell_1 rfl ?_
  refine j_callV (mm_X2_brotherIn hO (mLn s cs) (show (mLn s cs).2 0 2 = nI n by simp only [mset_2, mStamps_2, mBecomes_2, mVoicesGo_2, mClear_2, mGo1_2, mThinks_2, mRemembers_2, mNot_2, mRef_2, mGive_2, mFeastComes_2, mBans_2, mRents_2, mAges_2, mYear0_2, mYear_2, mWeekOn_2, mWeekGoes_2, mWeeksGo_2, mComesIn_2, mGownStep_2, mwset1_2, mCnt_2, msP_2, mLn_2, mT1_2, mT2_2, mLn_2]; exact hn) hn16 (nI c)) dX2_writesCell_2 mt_X2_brotherIn q2295 q2297 qs56 (hO.at (mLn s cs) (i := 0) (by decide)) (by decide) rfl cd_X2_brotherIn (Nat.le_of_ble_eq_true rfl) rfl rfl (Nat.le_of_ble_eq_true rfl) (jk_v ?_) jx_v
  refine j_istore_n dX2_writesCell_5 (by decide) rfl ?_
  refine j_iload_n dX2_writesCell_6 rfl ?_
  refine j_if_ge (tgt := 17) dX2_writesCell_7 (by decide) (fun c7 => ?_) (fun c7 => ?_)
  · obtain ⟨b, hb, eb_, -⟩ := mBrotherIn_of (s := s) (show ¬ mBrotherIn s n (nI c) < 0 from Int32.not_lt.mpr c7)
    have eN_ : mN (nI b) = b := mN_nI (by omega)
    rw [show (mBrotherIn (mLn s cs) n (nI c)) = (nI b) from eb_]
    refine j_aload_n dX2_writesCell_17 rfl rfl ?_
    refine j_iload_n dX2_writesCell_18 rfl ?_
    refine j_callV (mm_X2_writesNumber hO s cs (by first | omega | (have := mDec_len (nI b); simp only [List.length_append, List.length_cons, List.length_nil]; omega)) (nI b)) dX2_writesCell_19 mt_X2_writesNumber q2534 q2536 qs93 (hO.at (mLn s cs) (i := 0) (by decide)) (by decide) rfl cd_X2_writesNumber (Nat.le_of_ble_eq_true rfl) rfl rfl (Nat.le_of_ble_eq_true rfl) (jk_n ?_) jx_n
    refine j_aload_n dX2_writesCell_22 rfl rfl ?_
    refine j_iload_n dX2_writesCell_23 rfl ?_
    refine j_iconst (v := 5) dX2_writesCell_24 (by decide) ?_
    refine j_callV (mm_X2_of hO (mLn s (cs ++ mDec (nI b))) (b := b) (k := 5) (by omega) (by omega)) dX2_writesCell_25 mt_X2_of q2248 q2250 qs47 (hO.at (mLn s (cs ++ mDec (nI b))) (i := 0) (by decide)) (by decide) rfl cd_X2_of (Nat.le_of_ble_eq_true rfl) rfl rfl (Nat.le_of_ble_eq_true rfl) (jk_v ?_) jx_v
    refine j_if_le (tgt := 37) dX2_writesCell_28 (by decide) (fun c28 => ?_) (fun c28 => ?_)
    · refine j_aload_n dX2_writesCell_37 rfl rfl ?_
      refine j_iload_n dX2_writesCell_38 rfl ?_
      refine j_iconst (v := 4) dX2_writesCell_39 (by decide) ?_
      refine j_callV (mm_X2_of hO (mLn s (cs ++ mDec (nI b))) (b := b) (k := 4) (by omega) (by omega)) dX2_writesCell_40 mt_X2_of q2248 q2250 qs47 (hO.at (mLn s (cs ++ mDec (nI b))) (i := 0) (by decide)) (by decide) rfl cd_X2_of (Nat.le_of_ble_eq_true rfl) rfl rfl (Nat.le_of_ble_eq_true rfl) (jk_v ?_) jx_v
      refine j_iconst (v := 2) dX2_writesCell_43 (by decide) ?_
      refine j_icmp_lt (tgt := 53) dX2_writesCell_44 (by decide) (fun c44 => ?_) (fun c44 => ?_)
      · exact j_return dX2_writesCell_53 rfl (mjn (by unfold mCellTxt; rw [if_neg (show ¬ mBrotherIn s n (nI c) < 0 from Int32.not_lt.mpr c7), eb_, eN_]; first | (rw [if_pos (show 0 < mo s b 5 from Int32.not_le.mp c28), if_neg (show ¬ 2 ≤ mo s b 4 from Int32.not_le.mpr c44)]; simp only [List.append_assoc, List.append_nil]) | (rw [if_pos (show 0 < mo s b 5 from Int32.not_le.mp c28), if_pos (show 2 ≤ mo s b 4 from Int32.not_lt.mp c44)]; simp only [List.append_assoc, List.append_nil]) | (rw [if_neg (show ¬ 0 < mo s b 5 from Int32.not_lt.mpr c28), if_neg (show ¬ 2 ≤ mo s b 4 from Int32.not_le.mpr c44)]; simp only [List.append_assoc, List.append_nil]) | (rw [if_neg (show ¬ 0 < mo s b 5 from Int32.not_lt.mpr c28), if_pos (show 2 ≤ mo s b 4 from Int32.not_lt.mp c44)]; simp only [List.append_assoc, List.append_nil])))
      · refine j_aload_n dX2_writesCell_47 rfl rfl ?_
        refine j_bipush (v := 42) dX2_writesCell_48 (by decide) ?_
        refine j_callV (mm_X2_writes hO s (cs ++ mDec (nI b)) (by first | omega | (have := mDec_len (nI b); simp only [List.length_append, List.length_cons, List.length_nil]; omega)) 42) dX2_writesCell_50 mt_X2_writes q2526 q2528 qs91 (hO.at (mLn s (cs ++ mDec (nI b))) (i := 0) (by decide)) (by decide) rfl cd_X2_writes (Nat.le_of_ble_eq_true rfl) rfl rfl (Nat.le_of_ble_eq_true rfl) (jk_n ?_) jx_n
        exact j_return dX2_writesCell_53 rfl (mjn (by unfold mCellTxt; rw [if_neg (show ¬ mBrotherIn s n (nI c) < 0 from Int32.not_lt.mpr c7), eb_, eN_]; first | (rw [if_pos (show 0 < mo s b 5 from Int32.not_le.mp c28), if_neg (show ¬ 2 ≤ mo s b 4 from Int32.not_le.mpr c44)]; simp only [List.append_assoc, List.append_nil]) | (rw [if_pos (show 0 < mo s b 5 from Int32.not_le.mp c28), if_pos (show 2 ≤ mo s b 4 from Int32.not_lt.mp c44)]; simp only [List.append_assoc, List.append_nil]) | (rw [if_neg (show ¬ 0 < mo s b 5 from Int32.not_lt.mpr c28), if_neg (show ¬ 2 ≤ mo s b 4 from Int32.not_le.mpr c44)]; simp only [List.append_assoc, List.append_nil]) | (rw [if_neg (show ¬ 0 < mo s b 5 from Int32.not_lt.mpr c28), if_pos (show 2 ≤ mo s b 4 from Int32.not_lt.mp c44)]; simp only [List.append_assoc, List.append_nil])))
    · refine j_aload_n dX2_writesCell_31 rfl rfl ?_
      refine j_bipush (v := 33) dX2_writesCell_32 (by decide) ?_
      refine j_callV (mm_X2_writes hO s (cs ++ mDec (nI b)) (by first | omega | (have := mDec_len (nI b); simp only [List.length_append, List.length_cons, List.length_nil]; omega)) 33) dX2_writesCell_34 mt_X2_writes q2526 q2528 qs91 (hO.at (mLn s (cs ++ mDec (nI b))) (i := 0) (by decide)) (by decide) rfl cd_X2_writes (Nat.le_of_ble_eq_true rfl) rfl rfl (Nat.le_of_ble_eq_true rfl) (jk_n ?_) jx_n
      refine j_aload_n dX2_writesCell_37 rfl rfl ?_
      refine j_iload_n dX2_writesCell_38 rfl ?_
      refine j_iconst (v := 4) dX2_writesCell_39 (by decide) ?_
      refine j_callV (mm_X2_of hO (mLn s ((cs ++ mDec (nI b)) ++ [mChr 33])) (b := b) (k := 4) (by omega) (by omega)) dX2_writesCell_40 mt_X2_of q2248 q2250 qs47 (hO.at (mLn s ((cs ++ mDec (nI b)) ++ [mChr 33])) (i := 0) (by decide)) (by decide) rfl cd_X2_of (Nat.le_of_ble_eq_true rfl) rfl rfl (Nat.le_of_ble_eq_true rfl) (jk_v ?_) jx_v
      refine j_iconst (v := 2) dX2_writesCell_43 (by decide) ?_
      refine j_icmp_lt (tgt := 53) dX2_writesCell_44 (by decide) (fun c44 => ?_) (fun c44 => ?_)
      · exact j_return dX2_writesCell_53 rfl (mjn (by unfold mCellTxt; rw [if_neg (show ¬ mBrotherIn s n (nI c) < 0 from Int32.not_lt.mpr c7), eb_, eN_]; first | (rw [if_pos (show 0 < mo s b 5 from Int32.not_le.mp c28), if_neg (show ¬ 2 ≤ mo s b 4 from Int32.not_le.mpr c44)]; simp only [List.append_assoc, List.append_nil]) | (rw [if_pos (show 0 < mo s b 5 from Int32.not_le.mp c28), if_pos (show 2 ≤ mo s b 4 from Int32.not_lt.mp c44)]; simp only [List.append_assoc, List.append_nil]) | (rw [if_neg (show ¬ 0 < mo s b 5 from Int32.not_lt.mpr c28), if_neg (show ¬ 2 ≤ mo s b 4 from Int32.not_le.mpr c44)]; simp only [List.append_assoc, List.append_nil]) | (rw [if_neg (show ¬ 0 < mo s b 5 from Int32.not_lt.mpr c28), if_pos (show 2 ≤ mo s b 4 from Int32.not_lt.mp c44)]; simp only [List.append_assoc, List.append_nil])))
      · refine j_aload_n dX2_writesCell_47 rfl rfl ?_
        refine j_bipush (v := 42) dX2_writesCell_48 (by decide) ?_
        refine j_callV (mm_X2_writes hO s ((cs ++ mDec (nI b)) ++ [mChr 33]) (by first | omega | (have := mDec_len (nI b); simp only [List.length_append, List.length_cons, List.length_nil]; omega)) 42) dX2_writesCell_50 mt_X2_writes q2526 q2528 qs91 (hO.at (mLn s ((cs ++ mDec (nI b)) ++ [mChr 33])) (i := 0) (by decide)) (by decide) rfl cd_X2_writes (Nat.le_of_ble_eq_true rfl) rfl rfl (Nat.le_of_ble_eq_true rfl) (jk_n ?_) jx_n
        exact j_return dX2_writesCell_53 rfl (mjn (by unfold mCellTxt; rw [if_neg (show ¬ mBrotherIn s n (nI c) < 0 from Int32.not_lt.mpr c7), eb_, eN_]; first | (rw [if_pos (show 0 < mo s b 5 from Int32.not_le.mp c28), if_neg (show ¬ 2 ≤ mo s b 4 from Int32.not_le.mpr c44)]; simp only [List.append_assoc, List.append_nil]) | (rw [if_pos (show 0 < mo s b 5 from Int32.not_le.mp c28), if_pos (show 2 ≤ mo s b 4 from Int32.not_lt.mp c44)]; simp only [List.append_assoc, List.append_nil]) | (rw [if_neg (show ¬ 0 < mo s b 5 from Int32.not_lt.mpr c28), if_neg (show ¬ 2 ≤ mo s b 4 from Int32.not_le.mpr c44)]; simp only [List.append_assoc, List.append_nil]) | (rw [if_neg (show ¬ 0 < mo s b 5 from Int32.not_lt.mpr c28), if_pos (show 2 ≤ mo s b 4 from Int32.not_lt.mp c44)]; simp only [List.append_assoc, List.append_nil])))
  · refine j_aload_n dX2_writesCell_10 rfl rfl ?_
    refine j_bipush (v := 45) dX2_writesCell_11 (by decide) ?_
    refine j_callV (mm_X2_writes hO s cs (by first | omega | (have := mDec_len (nI b); simp only [List.length_append, List.length_cons, List.length_nil]; omega)) 45) dX2_writesCell_13 mt_X2_writes q2526 q2528 qs91 (hO.at (mLn s cs) (i := 0) (by decide)) (by decide) rfl cd_X2_writes (Nat.le_of_ble_eq_true rfl) rfl rfl (Nat.le_of_ble_eq_true rfl) (jk_n ?_) jx_n
    exact j_return dX2_writesCell_16 rfl (mjn (by unfold mCellTxt; rw [if_pos (show mBrotherIn s n (nI c) < 0 from Int32.not_le.mp c7)]))

theorem mm_X2_tell (hO : mOK G M L) (s : MS) {n : Nat} (hn : s.2 0 2 = nI n) (hn16 : n ≤ 16) : JM l G 5 yX2_tell wX2_tell [.ref (L 0)] (mput M L s) (jv (.int ((mTell s n).1)) (mput M L ((mTell s n).2))) := by
  refine JM.of pn_X2 (Nat.le_of_ble_eq_true rfl) (hO.1.1) ?_
  show JW l G 5 YX2_tell _ 0 [(0, .ref (L 0))] [] (mput M L s)
  refine j_aload_n dX2_tell_0 rfl rfl ?_
  refine j_iconst (v := 0) dX2_tell_1 (by decide) ?_
  refine mj_put hO dX2_tell_2 fd_X2_244_2 rfl (fun r hr => ⟨(ft_2_19 r hr).1, (ft_2_19 r hr).2.1⟩) rfl rfl ?_
  refine j_mem (M' := mput M L (mLn s (mTellN s n 0))) (congrArg (mput M L) (mLn_0 s).symm) ?_
  refine j_iconst (v := 0) dX2_tell_5 (by decide) ?_
  refine j_istore_n dX2_tell_6 (by decide) rfl ?_
  have l_ : ∀ (fu_ : Nat) (k : Nat), 8 - k < fu_ → (k ≤ 8) → JW l G 5 YX2_tell (jv (.int ((mTell s n).1)) (mput M L ((mTell s n).2))) 7 [(0, .ref (L 0)), (1, .int (nI k))] [] (mput M L (mLn s (mTellN s n k))) := by
    intro fu_
    induction fu_ with
    | zero => intro k hf_; exact absurd hf_ (Nat.not_lt_zero _)
    | succ fu_ ih_ =>
      intro k hf_ hk
      refine j_iload_n dX2_tell_7 rfl ?_
      refine j_bipush (v := 8) dX2_tell_8 (by decide) ?_
      refine j_icmp_ge (tgt := 34) dX2_tell_10 (by decide) (fun q_ => ?_) (fun q_ => ?_)
      · obtain rfl : k = 8 := c_end (n := 8) (by decide) hk q_
        refine j_aload_n dX2_tell_34 rfl rfl ?_
        refine mj_get hO dX2_tell_35 fd_X2_244_2 rfl ?_
        exact j_ireturn dX2_tell_38 rfl (mjv rfl rfl)
      · have hk_ : k < 8 := c_on (n := 8) (by decide) q_ hk
        refine j_iload_n dX2_tell_13 rfl ?_
        refine j_if_le (tgt := 23) dX2_tell_14 (by decide) (fun c14 => ?_) (fun c14 => ?_)
        · have c14_ : ¬ 0 < k := fun w => absurd ((nI_ltI (a := 0) (by decide) (by omega)).mpr w) (Int32.not_lt.mpr c14)
          refine j_aload_n dX2_tell_23 rfl rfl ?_
          refine j_iload_n dX2_tell_24 rfl ?_
          refine j_callV (mm_X2_writesCell hO s hn hn16 (mTellN s n k) (by have := mTellN_len s n k; first | omega | (simp only [List.length_append, List.length_cons, List.length_nil]; omega)) (c := k) (by omega)) dX2_tell_25 mt_X2_writesCell q2530 q2532 qs92 (hO.at (mLn s (mTellN s n k)) (i := 0) (by decide)) (by decide) rfl cd_X2_writesCell (Nat.le_of_ble_eq_true rfl) rfl rfl (Nat.le_of_ble_eq_true rfl) (jk_n ?_) jx_n
          refine j_iinc (v := nI (k + 1)) dX2_tell_28 rfl (nI_1 _) (by decide) rfl ?_
          refine j_goto (tgt := 7) dX2_tell_31 (by decide) ?_
          have e9_ : mTellN s n (k + 1) = ((mTellN s n k) ++ mCellTxt s n (nI k)) := by
            conv => lhs; unfold mTellN
            first | rw [if_pos ((nI_ltI (by decide) (by omega)).mp (Int32.not_le.mp c14))] | rw [if_neg (fun w => c14_ w), List.append_nil]
          refine j_mem (M' := mput M L (mLn s (mTellN s n (k + 1)))) (congrArg (mput M L) (congrArg (mLn s) e9_)) ?_
          refine j_locs (ls2 := [(0, .ref (L 0)), (1, .int (nI (k + 1)))]) ⟨rfl, rfl, trivial⟩ (ih_ (k + 1) (by omega) (by omega))
        · refine j_aload_n dX2_tell_17 rfl rfl ?_
          refine j_bipush (v := 32) dX2_tell_18 (by decide) ?_
          refine j_callV (mm_X2_writes hO s (mTellN s n k) (by have := mTellN_len s n k; first | omega | (simp only [List.length_append, List.length_cons, List.length_nil]; omega)) 32) dX2_tell_20 mt_X2_writes q2526 q2528 qs91 (hO.at (mLn s (mTellN s n k)) (i := 0) (by decide)) (by decide) rfl cd_X2_writes (Nat.le_of_ble_eq_true rfl) rfl rfl (Nat.le_of_ble_eq_true rfl) (jk_n ?_) jx_n
          refine j_aload_n dX2_tell_23 rfl rfl ?_
          refine j_iload_n dX2_tell_24 rfl ?_
          refine j_callV (mm_X2_writesCell hO s hn hn16 ((mTellN s n k) ++ [mChr 32]) (by have := mTellN_len s n k; first | omega | (simp only [List.length_append, List.length_cons, List.length_nil]; omega)) (c := k) (by omega)) dX2_tell_25 mt_X2_writesCell q2530 q2532 qs92 (hO.at (mLn s ((mTellN s n k) ++ [mChr 32])) (i := 0) (by decide)) (by decide) rfl cd_X2_writesCell (Nat.le_of_ble_eq_true rfl) rfl rfl (Nat.le_of_ble_eq_true rfl) (jk_n ?_) jx_n
          refine j_iinc (v := nI (k + 1)) dX2_tell_28 rfl (nI_1 _) (by decide) rfl ?_
          refine j_goto (tgt := 7) dX2_tell_31 (by decide) ?_
          have e9_ : mTellN s n (k + 1) = (((mTellN s n k) ++ [mChr 32]) ++ mCellTxt s n (nI k)) := by
            conv => lhs; unfold mTellN
            first | rw [if_pos ((nI_ltI (by decide) (by omega)).mp (Int32.not_le.mp c14))] | rw [if_neg (fun w => c14_ w), List.append_nil]
          refine j_mem (M' := mput M L (mLn s (mTellN s n (k + 1)))) (congrArg (mput M L) (congrArg (mLn s) e9_)) ?_
          refine j_locs (ls2 := [(0, .ref (L 0)), (1, .int (nI (k + 1)))]) ⟨rfl, rfl, trivial⟩ (ih_ (k + 1) (by omega) (by omega))
  refine j_locs (ls2 := [(0, .ref (L 0)), (1, .int (nI 0))]) ⟨rfl, rfl, trivial⟩ ?_
  exact l_ _ 0 (Nat.lt_succ_self _) (Nat.zero_le _)

theorem mm_X2_tellWaiting (hO : mOK G M L) (s : MS) {n : Nat} (hn : s.2 0 2 = nI n) (hn16 : n ≤ 16) {m : Nat} (hm : mThat s n 0 = nI m) (hm16 : m ≤ 16) (hin : ∀ p, p < m → ∃ b, b < n ∧ mInLine s n (nI p) = nI b) : JM l G 5 yX2_tellWaiting wX2_tellWaiting [.ref (L 0)] (mput M L s) (jv (.int ((mTellWaiting s n m).1)) (mput M L ((mTellWaiting s n m).2))) := by
  refine JM.of pn_X2 (Nat.le_of_ble_eq_true rfl) (hO.1.1) ?_
  show JW l G 5 YX2_tellWaiting _ 0 [(0, .ref (L 0))] [] (mput M L s)
  refine j_aload_n dX2_tellWaiting_0 rfl rfl ?_
  refine j_iconst (v := 0) dX2_tellWaiting_1 (by decide) ?_
  refine mj_put hO dX2_tellWaiting_2 fd_X2_244_2 rfl (fun r hr => ⟨(ft_2_19 r hr).1, (ft_2_19 r hr).2.1⟩) rfl rfl ?_
  refine j_mem (M' := mput M L (mLn s (mWaitN s n 0))) (congrArg (mput M L) (mLn_0 s).symm) ?_
  refine j_iconst (v := 0) dX2_tellWaiting_5 (by decide) ?_
  refine j_istore_n dX2_tellWaiting_6 (by decide) rfl ?_
  have l_ : ∀ (fu_ : Nat) (k : Nat), m - k < fu_ → (k ≤ m) → JW l G 5 YX2_tellWaiting (jv (.int ((mTellWaiting s n m).1)) (mput M L ((mTellWaiting s n m).2))) 7 [(0, .ref (L 0)), (1, .int (nI k))] [] (mput M L (mLn s (mWaitN s n k))) := by
    intro fu_
    induction fu_ with
    | zero => intro k hf_; exact absurd hf_ (Nat.not_lt_zero _)
    | succ fu_ ih_ =>
      intro k hf_ hk
      refine j_iload_n dX2_tellWaiting_7 rfl ?_
      refine j_aload_n dX2_tellWaiting_8 rfl rfl ?_
      refine j_iconst (v := 0) dX2_tellWaiting_9 (by decide) ?_
      refine j_callV (mm_X2_brethrenThat hO (mLn s (mWaitN s n k)) (show (mLn s (mWaitN s n k)).2 0 2 = nI n by simp only [mset_2, mStamps_2, mBecomes_2, mVoicesGo_2, mClear_2, mGo1_2, mThinks_2, mRemembers_2, mNot_2, mRef_2, mGive_2, mFeastComes_2, mBans_2, mRents_2, mAges_2, mYear0_2, mYear_2, mWeekOn_2, mWeekGoes_2, mWeeksGo_2, mComesIn_2, mGownStep_2, mwset1_2, mCnt_2, msP_2, mLn_2, mT1_2, mT2_2, mLn_2]; exact hn) hn16 0) dX2_tellWaiting_10 mt_X2_brethrenThat q2260 q2262 qs50 (hO.at (mLn s (mWaitN s n k)) (i := 0) (by decide)) (by decide) rfl cd_X2_brethrenThat (Nat.le_of_ble_eq_true rfl) rfl rfl (Nat.le_of_ble_eq_true rfl) (jk_v ?_) jx_v
      rw [show mThat (mLn s (mWaitN s n k)) n 0 = nI m from hm]
      refine j_icmp_ge (tgt := 74) dX2_tellWaiting_13 (by decide) (fun q_ => ?_) (fun q_ => ?_)
      · obtain rfl : m = k := (c_end (by omega) hk q_).symm
        refine j_aload_n dX2_tellWaiting_74 rfl rfl ?_
        refine mj_get hO dX2_tellWaiting_75 fd_X2_244_2 rfl ?_
        exact j_ireturn dX2_tellWaiting_78 rfl (mjv rfl rfl)
      · have hk_ : k < m := c_on (by omega) q_ hk
        obtain ⟨b, hb, eb_⟩ := hin k hk_
        have eN_ : mN (nI b) = b := mN_nI (by omega)
        refine j_aload_n dX2_tellWaiting_16 rfl rfl ?_
        refine j_iload_n dX2_tellWaiting_17 rfl ?_
        refine j_callV (mm_X2_inLine hO (mLn s (mWaitN s n k)) (show (mLn s (mWaitN s n k)).2 0 2 = nI n by simp only [mset_2, mStamps_2, mBecomes_2, mVoicesGo_2, mClear_2, mGo1_2, mThinks_2, mRemembers_2, mNot_2, mRef_2, mGive_2, mFeastComes_2, mBans_2, mRents_2, mAges_2, mYear0_2, mYear_2, mWeekOn_2, mWeekGoes_2, mWeeksGo_2, mComesIn_2, mGownStep_2, mwset1_2, mCnt_2, msP_2, mLn_2, mT1_2, mT2_2, mLn_2]; exact hn) hn16 (nI k)) dX2_tellWaiting_18 mt_X2_inLine q2542 q2544 qs94 (hO.at (mLn s (mWaitN s n k)) (i := 0) (by decide)) (by decide) rfl cd_X2_inLine (Nat.le_of_ble_eq_true rfl) rfl rfl (Nat.le_of_ble_eq_true rfl) (jk_v ?_) jx_v
        rw [show mInLine (mLn s (mWaitN s n k)) n (nI k) = nI b from eb_]
        refine j_istore_n dX2_tellWaiting_21 (by decide) rfl ?_
        refine j_iload_n dX2_tellWaiting_22 rfl ?_
        refine j_if_le (tgt := 32) dX2_tellWaiting_23 (by decide) (fun c23 => ?_) (fun c23 => ?_)
        · have c23_ : ¬ 0 < k := fun w => absurd ((nI_ltI (a := 0) (by decide) (by omega)).mpr w) (Int32.not_lt.mpr c23)
          refine j_aload_n dX2_tellWaiting_32 rfl rfl ?_
          refine j_iload_n dX2_tellWaiting_33 rfl ?_
          refine j_callV (mm_X2_writesNumber hO s (mWaitN s n k) (by have h1_ := mWaitN_len s n k; have h2_ := mDec_len (nI b); first | omega | (simp only [List.length_append, List.length_cons, List.length_nil]; omega)) (nI b)) dX2_tellWaiting_34 mt_X2_writesNumber q2534 q2536 qs93 (hO.at (mLn s (mWaitN s n k)) (i := 0) (by decide)) (by decide) rfl cd_X2_writesNumber (Nat.le_of_ble_eq_true rfl) rfl rfl (Nat.le_of_ble_eq_true rfl) (jk_n ?_) jx_n
          refine j_aload_n dX2_tellWaiting_37 rfl rfl ?_
          refine j_iload_n dX2_tellWaiting_38 rfl ?_
          refine j_iconst (v := 1) dX2_tellWaiting_39 (by decide) ?_
          refine j_callV (mm_X2_of hO (mLn s ((mWaitN s n k) ++ mDec (nI b))) (b := b) (k := 1) (by omega) (by omega)) dX2_tellWaiting_40 mt_X2_of q2248 q2250 qs47 (hO.at (mLn s ((mWaitN s n k) ++ mDec (nI b))) (i := 0) (by decide)) (by decide) rfl cd_X2_of (Nat.le_of_ble_eq_true rfl) rfl rfl (Nat.le_of_ble_eq_true rfl) (jk_v ?_) jx_v
          refine j_iconst (v := 1) dX2_tellWaiting_43 (by decide) ?_
          refine j_icmp_ne (tgt := 53) dX2_tellWaiting_44 (by decide) (fun c44 => ?_) (fun c44 => ?_)
          · refine j_aload_n dX2_tellWaiting_53 rfl rfl ?_
            refine j_bipush (v := 58) dX2_tellWaiting_54 (by decide) ?_
            refine j_callV (mm_X2_writes hO s ((mWaitN s n k) ++ mDec (nI b)) (by have h1_ := mWaitN_len s n k; have h2_ := mDec_len (nI b); first | omega | (simp only [List.length_append, List.length_cons, List.length_nil]; omega)) 58) dX2_tellWaiting_56 mt_X2_writes q2526 q2528 qs91 (hO.at (mLn s ((mWaitN s n k) ++ mDec (nI b))) (i := 0) (by decide)) (by decide) rfl cd_X2_writes (Nat.le_of_ble_eq_true rfl) rfl rfl (Nat.le_of_ble_eq_true rfl) (jk_n ?_) jx_n
            refine j_aload_n dX2_tellWaiting_59 rfl rfl ?_
            refine j_aload_n dX2_tellWaiting_60 rfl rfl ?_
            refine j_iload_n dX2_tellWaiting_61 rfl ?_
            refine j_callV (mm_X2_voicesFor hO (mLn s (((mWaitN s n k) ++ mDec (nI b)) ++ [mChr 58])) (show (mLn s (((mWaitN s n k) ++ mDec (nI b)) ++ [mChr 58])).2 0 2 = nI n by simp only [mset_2, mStamps_2, mBecomes_2, mVoicesGo_2, mClear_2, mGo1_2, mThinks_2, mRemembers_2, mNot_2, mRef_2, mGive_2, mFeastComes_2, mBans_2, mRents_2, mAges_2, mYear0_2, mYear_2, mWeekOn_2, mWeekGoes_2, mWeeksGo_2, mComesIn_2, mGownStep_2, mwset1_2, mCnt_2, msP_2, mLn_2, mT1_2, mT2_2, mLn_2]; exact hn) hn16 (b := b) (by omega)) dX2_tellWaiting_62 mt_X2_voicesFor q2276 q2278 qs53 (hO.at (mLn s (((mWaitN s n k) ++ mDec (nI b)) ++ [mChr 58])) (i := 0) (by decide)) (by decide) rfl cd_X2_voicesFor (Nat.le_of_ble_eq_true rfl) rfl rfl (Nat.le_of_ble_eq_true rfl) (jk_v ?_) jx_v
            refine j_callV (mm_X2_writesNumber hO s (((mWaitN s n k) ++ mDec (nI b)) ++ [mChr 58]) (by have h1_ := mWaitN_len s n k; have h2_ := mDec_len (nI b); first | omega | (simp only [List.length_append, List.length_cons, List.length_nil]; omega)) (mVoices (mLn s (((mWaitN s n k) ++ mDec (nI b)) ++ [mChr 58])) n b)) dX2_tellWaiting_65 mt_X2_writesNumber q2534 q2536 qs93 (hO.at (mLn s (((mWaitN s n k) ++ mDec (nI b)) ++ [mChr 58])) (i := 0) (by decide)) (by decide) rfl cd_X2_writesNumber (Nat.le_of_ble_eq_true rfl) rfl rfl (Nat.le_of_ble_eq_true rfl) (jk_n ?_) jx_n
            refine j_iinc (v := nI (k + 1)) dX2_tellWaiting_68 rfl (nI_1 _) (by decide) rfl ?_
            refine j_goto (tgt := 7) dX2_tellWaiting_71 (by decide) ?_
            have e9_ : mWaitN s n (k + 1) = ((((mWaitN s n k) ++ mDec (nI b)) ++ [mChr 58]) ++ mDec (mVoices (mLn s (((mWaitN s n k) ++ mDec (nI b)) ++ [mChr 58])) n b)) := by
              conv => lhs; unfold mWaitN
              rw [eb_, eN_]; unfold mWaitTxt
              first | rw [if_pos ((nI_ltI (by decide) (by omega)).mp (Int32.not_le.mp c23))] | rw [if_neg (fun w => c23_ w), List.append_nil]
              first | rw [if_pos (show mo s b 1 = 1 from c44)] | rw [if_neg (show ¬ mo s b 1 = 1 from c44)]
              simp only [List.append_assoc, List.append_nil, List.nil_append, List.cons_append]; first | done | rfl
            refine j_mem (M' := mput M L (mLn s (mWaitN s n (k + 1)))) (congrArg (mput M L) (congrArg (mLn s) e9_)) ?_
            refine j_locs (ls2 := [(0, .ref (L 0)), (1, .int (nI (k + 1)))]) ⟨rfl, rfl, trivial⟩ (ih_ (k + 1) (by omega) (by omega))
          · refine j_aload_n dX2_tellWaiting_47 rfl rfl ?_
            refine j_bipush (v := 107) dX2_tellWaiting_48 (by decide) ?_
            refine j_callV (mm_X2_writes hO s ((mWaitN s n k) ++ mDec (nI b)) (by have h1_ := mWaitN_len s n k; have h2_ := mDec_len (nI b); first | omega | (simp only [List.length_append, List.length_cons, List.length_nil]; omega)) 107) dX2_tellWaiting_50 mt_X2_writes q2526 q2528 qs91 (hO.at (mLn s ((mWaitN s n k) ++ mDec (nI b))) (i := 0) (by decide)) (by decide) rfl cd_X2_writes (Nat.le_of_ble_eq_true rfl) rfl rfl (Nat.le_of_ble_eq_true rfl) (jk_n ?_) jx_n
            refine j_aload_n dX2_tellWaiting_53 rfl rfl ?_
            refine j_bipush (v := 58) dX2_tellWaiting_54 (by decide) ?_
            refine j_callV (mm_X2_writes hO s (((mWaitN s n k) ++ mDec (nI b)) ++ [mChr 107]) (by have h1_ := mWaitN_len s n k; have h2_ := mDec_len (nI b); first | omega | (simp only [List.length_append, List.length_cons, List.length_nil]; omega)) 58) dX2_tellWaiting_56 mt_X2_writes q2526 q2528 qs91 (hO.at (mLn s (((mWaitN s n k) ++ mDec (nI b)) ++ [mChr 107])) (i := 0) (by decide)) (by decide) rfl cd_X2_writes (Nat.le_of_ble_eq_true rfl) rfl rfl (Nat.le_of_ble_eq_true rfl) (jk_n ?_) jx_n
            refine j_aload_n dX2_tellWaiting_59 rfl rfl ?_
            refine j_aload_n dX2_tellWaiting_60 rfl rfl ?_
            refine j_iload_n dX2_tellWaiting_61 rfl ?_
            refine j_callV (mm_X2_voicesFor hO (mLn s ((((mWaitN s n k) ++ mDec (nI b)) ++ [mChr 107]) ++ [mChr 58])) (show (mLn s ((((mWaitN s n k) ++ mDec (nI b)) ++ [mChr 107]) ++ [mChr 58])).2 0 2 = nI n by simp only [mset_2, mStamps_2, mBecomes_2, mVoicesGo_2, mClear_2, mGo1_2, mThinks_2, mRemembers_2, mNot_2, mRef_2, mGive_2, mFeastComes_2, mBans_2, mRents_2, mAges_2, mYear0_2, mYear_2, mWeekOn_2, mWeekGoes_2, mWeeksGo_2, mComesIn_2, mGownStep_2, mwset1_2, mCnt_2, msP_2, mLn_2, mT1_2, mT2_2, mLn_2]; exact hn) hn16 (b := b) (by omega)) dX2_tellWaiting_62 mt_X2_voicesFor q2276 q2278 qs53 (hO.at (mLn s ((((mWaitN s n k) ++ mDec (nI b)) ++ [mChr 107]) ++ [mChr 58])) (i := 0) (by decide)) (by decide) rfl cd_X2_voicesFor (Nat.le_of_ble_eq_true rfl) rfl rfl (Nat.le_of_ble_eq_true rfl) (jk_v ?_) jx_v
            refine j_callV (mm_X2_writesNumber hO s ((((mWaitN s n k) ++ mDec (nI b)) ++ [mChr 107]) ++ [mChr 58]) (by have h1_ := mWaitN_len s n k; have h2_ := mDec_len (nI b); first | omega | (simp only [List.length_append, List.length_cons, List.length_nil]; omega)) (mVoices (mLn s ((((mWaitN s n k) ++ mDec (nI b)) ++ [mChr 107]) ++ [mChr 58])) n b)) dX2_tellWaiting_65 mt_X2_writesNumber q2534 q2536 qs93 (hO.at (mLn s ((((mWaitN s n k) ++ mDec (nI b)) ++ [mChr 107]) ++ [mChr 58])) (i := 0) (by decide)) (by decide) rfl cd_X2_writesNumber (Nat.le_of_ble_eq_true rfl) rfl rfl (Nat.le_of_ble_eq_true rfl) (jk_n ?_) jx_n
            refine j_iinc (v := nI (k + 1)) dX2_tellWaiting_68 rfl (nI_1 _) (by decide) rfl ?_
            refine j_goto (tgt := 7) dX2_tellWaiting_71 (by decide) ?_
            have e9_ : mWaitN s n (k + 1) = (((((mWaitN s n k) ++ mDec (nI b)) ++ [mChr 107]) ++ [mChr 58]) ++ mDec (mVoices (mLn s ((((mWaitN s n k) ++ mDec (nI b)) ++ [mChr 107]) ++ [mChr 58])) n b)) := by
              conv => lhs; unfold mWaitN
              rw [eb_, eN_]; unfold mWaitTxt
              first | rw [if_pos ((nI_ltI (by decide) (by omega)).mp (Int32.not_le.mp c23))] | rw [if_neg (fun w => c23_ w), List.append_nil]
              first | rw [if_pos (show mo s b 1 = 1 from c44)] | rw [if_neg (show ¬ mo s b 1 = 1 from c44)]
              simp only [List.append_assoc, List.append_nil, List.nil_append, List.cons_append]; first | done | rfl
            refine j_mem (M' := mput M L (mLn s (mWaitN s n (k + 1)))) (congrArg (mput M L) (congrArg (mLn s) e9_)) ?_
            refine j_locs (ls2 := [(0, .ref (L 0)), (1, .int (nI (k + 1)))]) ⟨rfl, rfl, trivial⟩ (ih_ (k + 1) (by omega) (by omega))
        · refine j_aload_n dX2_tellWaiting_26 rfl rfl ?_
          refine j_bipush (v := 44) dX2_tellWaiting_27 (by decide) ?_
          refine j_callV (mm_X2_writes hO s (mWaitN s n k) (by have h1_ := mWaitN_len s n k; have h2_ := mDec_len (nI b); first | omega | (simp only [List.length_append, List.length_cons, List.length_nil]; omega)) 44) dX2_tellWaiting_29 mt_X2_writes q2526 q2528 qs91 (hO.at (mLn s (mWaitN s n k)) (i := 0) (by decide)) (by decide) rfl cd_X2_writes (Nat.le_of_ble_eq_true rfl) rfl rfl (Nat.le_of_ble_eq_true rfl) (jk_n ?_) jx_n
          refine j_aload_n dX2_tellWaiting_32 rfl rfl ?_
          refine j_iload_n dX2_tellWaiting_33 rfl ?_
          refine j_callV (mm_X2_writesNumber hO s ((mWaitN s n k) ++ [mChr 44]) (by have h1_ := mWaitN_len s n k; have h2_ := mDec_len (nI b); first | omega | (simp only [List.length_append, List.length_cons, List.length_nil]; omega)) (nI b)) dX2_tellWaiting_34 mt_X2_writesNumber q2534 q2536 qs93 (hO.at (mLn s ((mWaitN s n k) ++ [mChr 44])) (i := 0) (by decide)) (by decide) rfl cd_X2_writesNumber (Nat.le_of_ble_eq_true rfl) rfl rfl (Nat.le_of_ble_eq_true rfl) (jk_n ?_) jx_n
          refine j_aload_n dX2_tellWaiting_37 rfl rfl ?_
          refine j_iload_n dX2_tellWaiting_38 rfl ?_
          refine j_iconst (v := 1) dX2_tellWaiting_39 (by decide) ?_
          refine j_callV (mm_X2_of hO (mLn s (((mWaitN s n k) ++ [mChr 44]) ++ mDec (nI b))) (b := b) (k := 1) (by omega) (by omega)) dX2_tellWaiting_40 mt_X2_of q2248 q2250 qs47 (hO.at (mLn s (((mWaitN s n k) ++ [mChr 44]) ++ mDec (nI b))) (i := 0) (by decide)) (by decide) rfl cd_X2_of (Nat.le_of_ble_eq_true rfl) rfl rfl (Nat.le_of_ble_eq_true rfl) (jk_v ?_) jx_v
          refine j_iconst (v := 1) dX2_tellWaiting_43 (by decide) ?_
          refine j_icmp_ne (tgt := 53) dX2_tellWaiting_44 (by decide) (fun c44 => ?_) (fun c44 => ?_)
          · refine j_aload_n dX2_tellWaiting_53 rfl rfl ?_
            refine j_bipush (v := 58) dX2_tellWaiting_54 (by decide) ?_
            refine j_callV (mm_X2_writes hO s (((mWaitN s n k) ++ [mChr 44]) ++ mDec (nI b)) (by have h1_ := mWaitN_len s n k; have h2_ := mDec_len (nI b); first | omega | (simp only [List.length_append, List.length_cons, List.length_nil]; omega)) 58) dX2_tellWaiting_56 mt_X2_writes q2526 q2528 qs91 (hO.at (mLn s (((mWaitN s n k) ++ [mChr 44]) ++ mDec (nI b))) (i := 0) (by decide)) (by decide) rfl cd_X2_writes (Nat.le_of_ble_eq_true rfl) rfl rfl (Nat.le_of_ble_eq_true rfl) (jk_n ?_) jx_n
            refine j_aload_n dX2_tellWaiting_59 rfl rfl ?_
            refine j_aload_n dX2_tellWaiting_60 rfl rfl ?_
            refine j_iload_n dX2_tellWaiting_61 rfl ?_
            refine j_callV (mm_X2_voicesFor hO (mLn s ((((mWaitN s n k) ++ [mChr 44]) ++ mDec (nI b)) ++ [mChr 58])) (show (mLn s ((((mWaitN s n k) ++ [mChr 44]) ++ mDec (nI b)) ++ [mChr 58])).2 0 2 = nI n by simp only [mset_2, mStamps_2, mBecomes_2, mVoicesGo_2, mClear_2, mGo1_2, mThinks_2, mRemembers_2, mNot_2, mRef_2, mGive_2, mFeastComes_2, mBans_2, mRents_2, mAges_2, mYear0_2, mYear_2, mWeekOn_2, mWeekGoes_2, mWeeksGo_2, mComesIn_2, mGownStep_2, mwset1_2, mCnt_2, msP_2, mLn_2, mT1_2, mT2_2, mLn_2]; exact hn) hn16 (b := b) (by omega)) dX2_tellWaiting_62 mt_X2_voicesFor q2276 q2278 qs53 (hO.at (mLn s ((((mWaitN s n k) ++ [mChr 44]) ++ mDec (nI b)) ++ [mChr 58])) (i := 0) (by decide)) (by decide) rfl cd_X2_voicesFor (Nat.le_of_ble_eq_true rfl) rfl rfl (Nat.le_of_ble_eq_true rfl) (jk_v ?_) jx_v
            refine j_callV (mm_X2_writesNumber hO s ((((mWaitN s n k) ++ [mChr 44]) ++ mDec (nI b)) ++ [mChr 58]) (by have h1_ := mWaitN_len s n k; have h2_ := mDec_len (nI b); first | omega | (simp only [List.length_append, List.length_cons, List.length_nil]; omega)) (mVoices (mLn s ((((mWaitN s n k) ++ [mChr 44]) ++ mDec (nI b)) ++ [mChr 58])) n b)) dX2_tellWaiting_65 mt_X2_writesNumber q2534 q2536 qs93 (hO.at (mLn s ((((mWaitN s n k) ++ [mChr 44]) ++ mDec (nI b)) ++ [mChr 58])) (i := 0) (by decide)) (by decide) rfl cd_X2_writesNumber (Nat.le_of_ble_eq_true rfl) rfl rfl (Nat.le_of_ble_eq_true rfl) (jk_n ?_) jx_n
            refine j_iinc (v := nI (k + 1)) dX2_tellWaiting_68 rfl (nI_1 _) (by decide) rfl ?_
            refine j_goto (tgt := 7) dX2_tellWaiting_71 (by decide) ?_
            have e9_ : mWaitN s n (k + 1) = (((((mWaitN s n k) ++ [mChr 44]) ++ mDec (nI b)) ++ [mChr 58]) ++ mDec (mVoices (mLn s ((((mWaitN s n k) ++ [mChr 44]) ++ mDec (nI b)) ++ [mChr 58])) n b)) := by
              conv => lhs; unfold mWaitN
              rw [eb_, eN_]; unfold mWaitTxt
              first | rw [if_pos ((nI_ltI (by decide) (by omega)).mp (Int32.not_le.mp c23))] | rw [if_neg (fun w => c23_ w), List.append_nil]
              first | rw [if_pos (show mo s b 1 = 1 from c44)] | rw [if_neg (show ¬ mo s b 1 = 1 from c44)]
              simp only [List.append_assoc, List.append_nil, List.nil_append, List.cons_append]; first | done | rfl
            refine j_mem (M' := mput M L (mLn s (mWaitN s n (k + 1)))) (congrArg (mput M L) (congrArg (mLn s) e9_)) ?_
            refine j_locs (ls2 := [(0, .ref (L 0)), (1, .int (nI (k + 1)))]) ⟨rfl, rfl, trivial⟩ (ih_ (k + 1) (by omega) (by omega))
          · refine j_aload_n dX2_tellWaiting_47 rfl rfl ?_
            refine j_bipush (v := 107) dX2_tellWaiting_48 (by decide) ?_
            refine j_callV (mm_X2_writes hO s (((mWaitN s n k) ++ [mChr 44]) ++ mDec (nI b)) (by have h1_ := mWaitN_len s n k; have h2_ := mDec_len (nI b); first | omega | (simp only [List.length_append, List.length_cons, List.length_nil]; omega)) 107) dX2_tellWaiting_50 mt_X2_writes q2526 q2528 qs91 (hO.at (mLn s (((mWaitN s n k) ++ [mChr 44]) ++ mDec (nI b))) (i := 0) (by decide)) (by decide) rfl cd_X2_writes (Nat.le_of_ble_eq_true rfl) rfl rfl (Nat.le_of_ble_eq_true rfl) (jk_n ?_) jx_n
            refine j_aload_n dX2_tellWaiting_53 rfl rfl ?_
            refine j_bipush (v := 58) dX2_tellWaiting_54 (by decide) ?_
            refine j_callV (mm_X2_writes hO s ((((mWaitN s n k) ++ [mChr 44]) ++ mDec (nI b)) ++ [mChr 107]) (by have h1_ := mWaitN_len s n k; have h2_ := mDec_len (nI b); first | omega | (simp only [List.length_append, List.length_cons, List.length_nil]; omega)) 58) dX2_tellWaiting_56 mt_X2_writes q2526 q2528 qs91 (hO.at (mLn s ((((mWaitN s n k) ++ [mChr 44]) ++ mDec (nI b)) ++ [mChr 107])) (i := 0) (by decide)) (by decide) rfl cd_X2_writes (Nat.le_of_ble_eq_true rfl) rfl rfl (Nat.le_of_ble_eq_true rfl) (jk_n ?_) jx_n
            refine j_aload_n dX2_tellWaiting_59 rfl rfl ?_
            refine j_aload_n dX2_tellWaiting_60 rfl rfl ?_
            refine j_iload_n dX2_tellWaiting_61 rfl ?_
            refine j_callV (mm_X2_voicesFor hO (mLn s (((((mWaitN s n k) ++ [mChr 44]) ++ mDec (nI b)) ++ [mChr 107]) ++ [mChr 58])) (show (mLn s (((((mWaitN s n k) ++ [mChr 44]) ++ mDec (nI b)) ++ [mChr 107]) ++ [mChr 58])).2 0 2 = nI n by simp only [mset_2, mStamps_2, mBecomes_2, mVoicesGo_2, mClear_2, mGo1_2, mThinks_2, mRemembers_2, mNot_2, mRef_2, mGive_2, mFeastComes_2, mBans_2, mRents_2, mAges_2, mYear0_2, mYear_2, mWeekOn_2, mWeekGoes_2, mWeeksGo_2, mComesIn_2, mGownStep_2, mwset1_2, mCnt_2, msP_2, mLn_2, mT1_2, mT2_2, mLn_2]; exact hn) hn16 (b := b) (by omega)) dX2_tellWaiting_62 mt_X2_voicesFor q2276 q2278 qs53 (hO.at (mLn s (((((mWaitN s n k) ++ [mChr 44]) ++ mDec (nI b)) ++ [mChr 107]) ++ [mChr 58])) (i := 0) (by decide)) (by decide) rfl cd_X2_voicesFor (Nat.le_of_ble_eq_true rfl) rfl rfl (Nat.le_of_ble_eq_true rfl) (jk_v ?_) jx_v
            refine j_callV (mm_X2_writesNumber hO s (((((mWaitN s n k) ++ [mChr 44]) ++ mDec (nI b)) ++ [mChr 107]) ++ [mChr 58]) (by have h1_ := mWaitN_len s n k; have h2_ := mDec_len (nI b); first | omega | (simp only [List.length_append, List.length_cons, List.length_nil]; omega)) (mVoices (mLn s (((((mWaitN s n k) ++ [mChr 44]) ++ mDec (nI b)) ++ [mChr 107]) ++ [mChr 58])) n b)) dX2_tellWaiting_65 mt_X2_writesNumber q2534 q2536 qs93 (hO.at (mLn s (((((mWaitN s n k) ++ [mChr 44]) ++ mDec (nI b)) ++ [mChr 107]) ++ [mChr 58])) (i := 0) (by decide)) (by decide) rfl cd_X2_writesNumber (Nat.le_of_ble_eq_true rfl) rfl rfl (Nat.le_of_ble_eq_true rfl) (jk_n ?_) jx_n
            refine j_iinc (v := nI (k + 1)) dX2_tellWaiting_68 rfl (nI_1 _) (by decide) rfl ?_
            refine j_goto (tgt := 7) dX2_tellWaiting_71 (by decide) ?_
            have e9_ : mWaitN s n (k + 1) = ((((((mWaitN s n k) ++ [mChr 44]) ++ mDec (nI b)) ++ [mChr 107]) ++ [mChr 58]) ++ mDec (mVoices (mLn s (((((mWaitN s n k) ++ [mChr 44]) ++ mDec (nI b)) ++ [mChr 107]) ++ [mChr 58])) n b)) := by
              conv => lhs; unfold mWaitN
              rw [eb_, eN_]; unfold mWaitTxt
              first | rw [if_pos ((nI_ltI (by decide) (by omega)).mp (Int32.not_le.mp c23))] | rw [if_neg (fun w => c23_ w), List.append_nil]
              first | rw [if_pos (show mo s b 1 = 1 from c44)] | rw [if_neg (show ¬ mo s b 1 = 1 from c44)]
              simp only [List.append_assoc, List.append_nil, List.nil_append, List.cons_append]; first | done | rfl
            refine j_mem (M' := mput M L (mLn s (mWaitN s n (k + 1)))) (congrArg (mput M L) (congrArg (mLn s) e9_)) ?_
            refine j_locs (ls2 := [(0, .ref (L 0)), (1, .int (nI (k + 1)))]) ⟨rfl, rfl, trivial⟩ (ih_ (k + 1) (by omega) (by omega))
  refine j_locs (ls2 := [(0, .ref (L 0)), (1, .int (nI 0))]) ⟨rfl, rfl, trivial⟩ ?_
  exact l_ _ 0 (Nat.lt_succ_self _) (Nat.zero_le _)

theorem mm_X2_character (hO : mOK G M L) (s : MS) {w : Nat} (hw : s.1 19 = nI w) (hw160 : w ≤ 160) (x : Int32) : JM l G 1 yX2_character wX2_character [.ref (L 0), .int x] (mput M L s) (jv (.int (mCharacter s x)) (mput M L s)) := by
  refine JM.of pn_X2 (Nat.le_of_ble_eq_true rfl) (hO.1.1) ?_
  show JW l G 1 YX2_character _ 0 [(0, .ref (L 0)), (1, .int x)] [] (mput M L s)
  refine j_iload_n dX2_character_0 rfl ?_
  refine j_iconst (v := 0) dX2_character_1 (by decide) ?_
  refine j_aload_n dX2_character_2 rfl rfl ?_
  refine mj_get hO dX2_character_3 fd_X2_244_2 rfl ?_
  refine j_iconst (v := 1) dX2_character_6 (by decide) ?_
  refine j_isub dX2_character_7 ?_
  refine j_callS (mm_X2_isBetween hO s x 0 ((s.1 19) - 1)) dX2_character_8 mt_X2_isBetween q2205 q2206 cd_X2_isBetween (Nat.le_of_ble_eq_true rfl) rfl rfl (Nat.le_of_ble_eq_true rfl) (jk_v ?_) jx_v
  refine j_ifeqB (tgt := 23) dX2_character_11 (by decide) (fun c11 => ?_) (fun c11 => ?_)
  · refine j_bipush (v := (-11)) dX2_character_23 (by decide) ?_
    exact j_ireturn dX2_character_25 rfl (mjv (by unfold mCharacter; rw [if_neg (Bool.eq_false_iff.mp c11)]) rfl)
  · have hx_ : ∃ k, k < w ∧ x = nI k := by
      have h1 := (Bool.and_eq_true _ _).mp c11
      have h2 : 0 ≤ x := of_decide_eq_true h1.1
      have h3 : x ≤ s.1 19 - 1 := of_decide_eq_true h1.2
      rw [hw] at h3
      obtain ⟨j, hj, rfl⟩ := nI_of (x := x) (Int32.not_lt.mpr h2)
      refine ⟨j, ?_, rfl⟩
      rw [Int32.le_iff_toInt_le, show (1 : Int32) = nI 1 from rfl, pk_sub_toInt (by omega) (by omega), nI_toInt hj] at h3
      omega
    obtain ⟨k, hk_, rfl⟩ := hx_
    have ek_ : mN (nI k) = k := mN_nI (by omega)
    refine j_aload_n dX2_character_14 rfl rfl ?_
    refine mj_get hO dX2_character_15 fd_X2_32_2 rfl ?_
    refine j_iload_n dX2_character_18 rfl ?_
    refine mj_cald (j := 7) (i := k) hO dX2_character_19 (by decide) rfl (by show _ < 160; omega) ?_
    refine j_goto (tgt := 25) dX2_character_20 (by decide) ?_
    exact j_ireturn dX2_character_25 rfl (mjv (by unfold mCharacter; rw [if_pos c11, ek_]) rfl)

end M9
