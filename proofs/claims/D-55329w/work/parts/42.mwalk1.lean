section M1
variable {l : Launch} {G : j_G} {M : j_M} {L : Nat → Nat}
theorem mm_X2_of (hO : mOK G M L) (s : MS) {b k : Nat} (hb : b < 16) (hk : k < 16) : JM l G 0 yX2_of wX2_of [.ref (L 0), .int (nI b), .int (nI k)] (mput M L s) (jv (.int (mo s b k)) (mput M L s)) := by
  refine JM.of pn_X2 (Nat.le_of_ble_eq_true rfl) (hO.1.1) ?_
  show JW l G 0 YX2_of _ 0 [(0, .ref (L 0)), (1, .int (nI b)), (2, .int (nI k))] [] (mput M L s)
  refine j_aload_n dX2_of_0 rfl rfl ?_
  refine mj_get hO dX2_of_1 fd_X2_7_2 rfl ?_
  refine j_bipush (v := 64) dX2_of_4 (by decide) ?_
  refine j_bipush (v := 16) dX2_of_6 (by decide) ?_
  refine j_iload_n dX2_of_8 rfl ?_
  refine j_imul dX2_of_9 ?_
  refine j_iadd dX2_of_10 ?_
  refine j_iload_n dX2_of_11 rfl ?_
  refine j_iadd dX2_of_12 ?_
  refine mj_iald (j := 0) (i := (64 + 16 * b + k)) hO dX2_of_13 (by decide) (m_ix b k) (by show _ < 320; omega) ?_
  exact j_ireturn dX2_of_14 rfl (mjv rfl rfl)

theorem mm_X2_sets (hO : mOK G M L) (s : MS) {b k : Nat} (hb : b < 16) (hk : k < 16) (v : Int32) : JM l G 0 yX2_sets wX2_sets [.ref (L 0), .int (nI b), .int (nI k), .int v] (mput M L s) (jn (mput M L (mset s b k v))) := by
  refine JM.of pn_X2 (Nat.le_of_ble_eq_true rfl) (hO.1.1) ?_
  show JW l G 0 YX2_sets _ 0 [(0, .ref (L 0)), (1, .int (nI b)), (2, .int (nI k)), (3, .int v)] [] (mput M L s)
  refine j_aload_n dX2_sets_0 rfl rfl ?_
  refine mj_get hO dX2_sets_1 fd_X2_7_2 rfl ?_
  refine j_bipush (v := 64) dX2_sets_4 (by decide) ?_
  refine j_bipush (v := 16) dX2_sets_6 (by decide) ?_
  refine j_iload_n dX2_sets_8 rfl ?_
  refine j_imul dX2_sets_9 ?_
  refine j_iadd dX2_sets_10 ?_
  refine j_iload_n dX2_sets_11 rfl ?_
  refine j_iadd dX2_sets_12 ?_
  refine j_iload_n dX2_sets_13 rfl ?_
  refine mj_iast (j := 0) (i := (64 + 16 * b + k)) hO dX2_sets_14 (by decide) (m_ix b k) (by show _ < 320; omega) ?_
  exact j_return dX2_sets_15 rfl (mjn rfl)

theorem mm_X2_isBetween (hO : mOK G M L) (s : MS) (v a b : Int32) : JM l G 0 yX2_isBetween wX2_isBetween [.int v, .int a, .int b] (mput M L s) (jv (.int (jb (mIn v a b))) (mput M L s)) := by
  refine JM.of pn_X2 (Nat.le_of_ble_eq_true rfl) (hO.1.1) ?_
  show JW l G 0 YX2_isBetween _ 0 [(0, .int v), (1, .int a), (2, .int b)] [] (mput M L s)
  refine j_iload_n dX2_isBetween_0 rfl ?_
  refine j_iload_n dX2_isBetween_1 rfl ?_
  refine j_icmp_gt (tgt := 14) dX2_isBetween_2 (by decide) (fun c2 => ?_) (fun c2 => ?_)
  · refine j_iconst (v := 0) dX2_isBetween_14 (by decide) ?_
    exact j_zreturn dX2_isBetween_15 rfl rfl (mjv (by simp_all [jb, mIn, ← Int32.not_le]) rfl)
  · refine j_iload_n dX2_isBetween_5 rfl ?_
    refine j_iload_n dX2_isBetween_6 rfl ?_
    refine j_icmp_gt (tgt := 14) dX2_isBetween_7 (by decide) (fun c7 => ?_) (fun c7 => ?_)
    · refine j_iconst (v := 0) dX2_isBetween_14 (by decide) ?_
      exact j_zreturn dX2_isBetween_15 rfl rfl (mjv (by simp_all [jb, mIn, ← Int32.not_le]) rfl)
    · refine j_iconst (v := 1) dX2_isBetween_10 (by decide) ?_
      refine j_goto (tgt := 15) dX2_isBetween_11 (by decide) ?_
      exact j_zreturn dX2_isBetween_15 rfl rfl (mjv (by simp_all [jb, mIn, ← Int32.not_le]) rfl)

theorem mm_X2_lesser (hO : mOK G M L) (s : MS) (a b : Int32) : JM l G 0 yX2_lesser wX2_lesser [.int a, .int b] (mput M L s) (jv (.int (if a < b then a else b)) (mput M L s)) := by
  refine JM.of pn_X2 (Nat.le_of_ble_eq_true rfl) (hO.1.1) ?_
  show JW l G 0 YX2_lesser _ 0 [(0, .int a), (1, .int b)] [] (mput M L s)
  refine j_iload_n dX2_lesser_0 rfl ?_
  refine j_iload_n dX2_lesser_1 rfl ?_
  refine j_icmp_ge (tgt := 9) dX2_lesser_2 (by decide) (fun c2 => ?_) (fun c2 => ?_)
  · refine j_iload_n dX2_lesser_9 rfl ?_
    exact j_ireturn dX2_lesser_10 rfl (mjv (by simp_all [Int32.not_lt, ← Int32.not_le]) rfl)
  · refine j_iload_n dX2_lesser_5 rfl ?_
    refine j_goto (tgt := 10) dX2_lesser_6 (by decide) ?_
    exact j_ireturn dX2_lesser_10 rfl (mjv (by simp_all [Int32.not_lt, ← Int32.not_le]) rfl)

theorem mm_X2_isCell (hO : mOK G M L) (s : MS) (c : Int32) : JM l G 1 yX2_isCell wX2_isCell [.int c] (mput M L s) (jv (.int (jb (mIn c 0 7))) (mput M L s)) := by
  refine JM.of pn_X2 (Nat.le_of_ble_eq_true rfl) (hO.1.1) ?_
  show JW l G 1 YX2_isCell _ 0 [(0, .int c)] [] (mput M L s)
  refine j_iload_n dX2_isCell_0 rfl ?_
  refine j_iconst (v := 0) dX2_isCell_1 (by decide) ?_
  refine j_bipush (v := 7) dX2_isCell_2 (by decide) ?_
  refine j_callS (mm_X2_isBetween hO s c 0 7) dX2_isCell_4 mt_X2_isBetween q2205 q2206 cd_X2_isBetween (Nat.le_of_ble_eq_true rfl) rfl rfl (Nat.le_of_ble_eq_true rfl) (jk_v ?_) jx_v
  exact j_zreturn dX2_isCell_7 rfl (nar_jb _) (mjv rfl rfl)

theorem mm_X2_isBrother (hO : mOK G M L) (s : MS) (b : Int32) : JM l G 1 yX2_isBrother wX2_isBrother [.ref (L 0), .int b] (mput M L s) (jv (.int (jb (mBr s b))) (mput M L s)) := by
  refine JM.of pn_X2 (Nat.le_of_ble_eq_true rfl) (hO.1.1) ?_
  show JW l G 1 YX2_isBrother _ 0 [(0, .ref (L 0)), (1, .int b)] [] (mput M L s)
  refine j_iload_n dX2_isBrother_0 rfl ?_
  refine j_iconst (v := 0) dX2_isBrother_1 (by decide) ?_
  refine j_aload_n dX2_isBrother_2 rfl rfl ?_
  refine mj_get hO dX2_isBrother_3 fd_X2_7_2 rfl ?_
  refine j_iconst (v := 2) dX2_isBrother_6 (by decide) ?_
  refine mj_iald (j := 0) (i := 2) hO dX2_isBrother_7 (by decide) rfl (by decide) ?_
  refine j_iconst (v := 1) dX2_isBrother_8 (by decide) ?_
  refine j_isub dX2_isBrother_9 ?_
  refine j_callS (mm_X2_isBetween hO s b 0 ((s.2 0 2) - 1)) dX2_isBrother_10 mt_X2_isBetween q2205 q2206 cd_X2_isBetween (Nat.le_of_ble_eq_true rfl) rfl rfl (Nat.le_of_ble_eq_true rfl) (jk_v ?_) jx_v
  exact j_zreturn dX2_isBrother_13 rfl (nar_jb _) (mjv rfl rfl)

theorem mm_X2_isSo (hO : mOK G M L) (s : MS) {b : Nat} (hb : b < 16) (how : Int32) : JM l G 1 yX2_isSo wX2_isSo [.ref (L 0), .int (nI b), .int how] (mput M L s) (jv (.int (jb (mSo s b how))) (mput M L s)) := by
  refine JM.of pn_X2 (Nat.le_of_ble_eq_true rfl) (hO.1.1) ?_
  show JW l G 1 YX2_isSo _ 0 [(0, .ref (L 0)), (1, .int (nI b)), (2, .int how)] [] (mput M L s)
  refine j_aload_n dX2_isSo_0 rfl rfl ?_
  refine j_iload_n dX2_isSo_1 rfl ?_
  refine j_iconst (v := 2) dX2_isSo_2 (by decide) ?_
  refine j_callV (mm_X2_of hO s (b := b) (k := 2) (by omega) (by omega)) dX2_isSo_3 mt_X2_of q2248 q2250 qs47 (hO.at s (i := 0) (by decide)) (by decide) rfl cd_X2_of (Nat.le_of_ble_eq_true rfl) rfl rfl (Nat.le_of_ble_eq_true rfl) (jk_v ?_) jx_v
  refine j_iload_n dX2_isSo_6 rfl ?_
  refine j_icmp_ne (tgt := 14) dX2_isSo_7 (by decide) (fun c7 => ?_) (fun c7 => ?_)
  · refine j_iconst (v := 0) dX2_isSo_14 (by decide) ?_
    exact j_zreturn dX2_isSo_15 rfl rfl (mjv (by simp_all [jb, mSo]) rfl)
  · refine j_iconst (v := 1) dX2_isSo_10 (by decide) ?_
    refine j_goto (tgt := 15) dX2_isSo_11 (by decide) ?_
    exact j_zreturn dX2_isSo_15 rfl rfl (mjv (by simp_all [jb, mSo]) rfl)

theorem mm_X2_countsFor (hO : mOK G M L) (s : MS) {b : Nat} (hb : b < 16) : JM l G 1 yX2_countsFor wX2_countsFor [.ref (L 0), .int (nI b)] (mput M L s) (jv (.int (mCounts s b)) (mput M L s)) := by
  refine JM.of pn_X2 (Nat.le_of_ble_eq_true rfl) (hO.1.1) ?_
  show JW l G 1 YX2_countsFor _ 0 [(0, .ref (L 0)), (1, .int (nI b))] [] (mput M L s)
  refine j_aload_n dX2_countsFor_0 rfl rfl ?_
  refine j_iload_n dX2_countsFor_1 rfl ?_
  refine j_iconst (v := 1) dX2_countsFor_2 (by decide) ?_
  refine j_callV (mm_X2_of hO s (b := b) (k := 1) (by omega) (by omega)) dX2_countsFor_3 mt_X2_of q2248 q2250 qs47 (hO.at s (i := 0) (by decide)) (by decide) rfl cd_X2_of (Nat.le_of_ble_eq_true rfl) rfl rfl (Nat.le_of_ble_eq_true rfl) (jk_v ?_) jx_v
  refine j_iconst (v := 1) dX2_countsFor_6 (by decide) ?_
  refine j_icmp_ne (tgt := 14) dX2_countsFor_7 (by decide) (fun c7 => ?_) (fun c7 => ?_)
  · refine j_iconst (v := 1) dX2_countsFor_14 (by decide) ?_
    exact j_ireturn dX2_countsFor_15 rfl (mjv (by simp_all [mCounts]) rfl)
  · refine j_iconst (v := 2) dX2_countsFor_10 (by decide) ?_
    refine j_goto (tgt := 15) dX2_countsFor_11 (by decide) ?_
    exact j_ireturn dX2_countsFor_15 rfl (mjv (by simp_all [mCounts]) rfl)

theorem mm_X2_isNot (hO : mOK G M L) (s : MS) (r o : Int32) : JM l G 0 yX2_isNot wX2_isNot [.ref (L 0), .int r, .int o] (mput M L s) (jv (.int (-14)) (mput M L (mNot s r o))) := by
  refine JM.of pn_X2 (Nat.le_of_ble_eq_true rfl) (hO.1.1) ?_
  show JW l G 0 YX2_isNot _ 0 [(0, .ref (L 0)), (1, .int r), (2, .int o)] [] (mput M L s)
  refine j_aload_n dX2_isNot_0 rfl rfl ?_
  refine j_iload_n dX2_isNot_1 rfl ?_
  refine mj_put hO dX2_isNot_2 fd_X2_35_2 rfl (fun r hr => ⟨(ft_2_2 r hr).1, (ft_2_2 r hr).2.1⟩) rfl rfl ?_
  refine j_aload_n dX2_isNot_5 rfl rfl ?_
  refine j_iload_n dX2_isNot_6 rfl ?_
  refine mj_put hO dX2_isNot_7 fd_X2_39_2 rfl (fun r hr => ⟨(ft_2_3 r hr).1, (ft_2_3 r hr).2.1⟩) rfl rfl ?_
  refine j_bipush (v := (-14)) dX2_isNot_10 (by decide) ?_
  exact j_ireturn dX2_isNot_12 rfl (mjv rfl rfl)

theorem mm_X2_refuses (hO : mOK G M L) (s : MS) (x : Int32) : JM l G 0 yX2_refuses wX2_refuses [.ref (L 0), .int x] (mput M L s) (jv (.int x) (mput M L (mRef s x))) := by
  refine JM.of pn_X2 (Nat.le_of_ble_eq_true rfl) (hO.1.1) ?_
  show JW l G 0 YX2_refuses _ 0 [(0, .ref (L 0)), (1, .int x)] [] (mput M L s)
  refine j_iload_n dX2_refuses_0 rfl ?_
  refine j_bipush (v := (-14)) dX2_refuses_1 (by decide) ?_
  refine j_icmp_ne (tgt := 22) dX2_refuses_3 (by decide) (fun c3 => ?_) (fun c3 => ?_)
  · refine j_iload_n dX2_refuses_22 rfl ?_
    exact j_ireturn dX2_refuses_23 rfl (mjv rfl (by simp_all [mRef, ms_z, va_up]))
  · refine j_aload_n dX2_refuses_6 rfl rfl ?_
    refine j_aload_n dX2_refuses_7 rfl rfl ?_
    refine mj_get hO dX2_refuses_8 fd_X2_35_2 rfl ?_
    refine mj_put hO dX2_refuses_11 fd_X2_42_2 rfl (fun r hr => ⟨(ft_2_0 r hr).1, (ft_2_0 r hr).2.1⟩) rfl rfl ?_
    refine j_aload_n dX2_refuses_14 rfl rfl ?_
    refine j_aload_n dX2_refuses_15 rfl rfl ?_
    refine mj_get hO dX2_refuses_16 fd_X2_39_2 rfl ?_
    refine mj_put hO dX2_refuses_19 fd_X2_45_2 rfl (fun r hr => ⟨(ft_2_1 r hr).1, (ft_2_1 r hr).2.1⟩) rfl rfl ?_
    refine j_iload_n dX2_refuses_22 rfl ?_
    exact j_ireturn dX2_refuses_23 rfl (mjv rfl (by simp_all [mRef, ms_z, va_up]))

theorem mm_X2_reason (hO : mOK G M L) (s : MS) (d : Bool) : JM l G 0 yX2_reason wX2_reason [.ref (L 0), .int (jb d)] (mput M L s) (jv (.int (mReason s d)) (mput M L s)) := by
  refine JM.of pn_X2 (Nat.le_of_ble_eq_true rfl) (hO.1.1) ?_
  show JW l G 0 YX2_reason _ 0 [(0, .ref (L 0)), (1, .int (jb d))] [] (mput M L s)
  refine j_aload_n dX2_reason_0 rfl rfl ?_
  refine mj_get hO dX2_reason_1 fd_X2_42_2 rfl ?_
  refine j_if_ne (tgt := 12) dX2_reason_4 (by decide) (fun c4 => ?_) (fun c4 => ?_)
  · refine j_iload_n dX2_reason_12 rfl ?_
    refine j_ifeqB (tgt := 23) dX2_reason_13 (by decide) (fun c13 => ?_) (fun c13 => ?_)
    · refine j_aload_n dX2_reason_23 rfl rfl ?_
      refine mj_get hO dX2_reason_24 fd_X2_42_2 rfl ?_
      exact j_ireturn dX2_reason_27 rfl (mjv (by simp_all [mReason]) rfl)
    · refine j_aload_n dX2_reason_16 rfl rfl ?_
      refine mj_get hO dX2_reason_17 fd_X2_45_2 rfl ?_
      refine j_goto (tgt := 27) dX2_reason_20 (by decide) ?_
      exact j_ireturn dX2_reason_27 rfl (mjv (by simp_all [mReason]) rfl)
  · refine j_bipush (v := (-15)) dX2_reason_7 (by decide) ?_
    refine j_goto (tgt := 27) dX2_reason_9 (by decide) ?_
    exact j_ireturn dX2_reason_27 rfl (mjv (by simp_all [mReason]) rfl)

theorem mm_X2_stamps (hO : mOK G M L) (s : MS) {b : Nat} (hb : b < 16) : JM l G 1 yX2_stamps wX2_stamps [.ref (L 0), .int (nI b)] (mput M L s) (jn (mput M L (mStamps s b))) := by
  refine JM.of pn_X2 (Nat.le_of_ble_eq_true rfl) (hO.1.1) ?_
  show JW l G 1 YX2_stamps _ 0 [(0, .ref (L 0)), (1, .int (nI b))] [] (mput M L s)
  refine j_aload_n dX2_stamps_0 rfl rfl ?_
  refine mj_get hO dX2_stamps_1 fd_X2_7_2 rfl ?_
  refine j_bipush (v := 10) dX2_stamps_4 (by decide) ?_
  refine j_dup2_11 dX2_stamps_6 rfl rfl ?_
  refine mj_iald (j := 0) (i := 10) hO dX2_stamps_7 (by decide) rfl (by decide) ?_
  refine j_iconst (v := 1) dX2_stamps_8 (by decide) ?_
  refine j_iadd dX2_stamps_9 ?_
  refine mj_iast (j := 0) (i := 10) hO dX2_stamps_10 (by decide) rfl (by decide) ?_
  refine j_aload_n dX2_stamps_11 rfl rfl ?_
  refine j_iload_n dX2_stamps_12 rfl ?_
  refine j_bipush (v := 8) dX2_stamps_13 (by decide) ?_
  refine j_aload_n dX2_stamps_15 rfl rfl ?_
  refine mj_get hO dX2_stamps_16 fd_X2_7_2 rfl ?_
  refine j_bipush (v := 10) dX2_stamps_19 (by decide) ?_
  refine mj_iald (j := 0) (i := 10) hO dX2_stamps_21 (by decide) rfl (by decide) ?_
  refine j_callV (mm_X2_sets hO (ms_a s 0 (va_up (s.2 0) 10 ((s.2 0 10) + 1))) (b := b) (k := 8) (by omega) (by omega) ((ms_a s 0 (va_up (s.2 0) 10 ((s.2 0 10) + 1))).2 0 10)) dX2_stamps_22 mt_X2_sets q2228 q2230 qs43 (hO.at (ms_a s 0 (va_up (s.2 0) 10 ((s.2 0 10) + 1))) (i := 0) (by decide)) (by decide) rfl cd_X2_sets (Nat.le_of_ble_eq_true rfl) rfl rfl (Nat.le_of_ble_eq_true rfl) (jk_n ?_) jx_n
  exact j_return dX2_stamps_25 rfl (mjn rfl)

theorem mm_X2_isEntitled (hO : mOK G M L) (s : MS) {b : Nat} (hb : b < 16) : JM l G 2 yX2_isEntitled wX2_isEntitled [.ref (L 0), .int (nI b)] (mput M L s) (jv (.int (jb (mEnt s b))) (mput M L s)) := by
  refine JM.of pn_X2 (Nat.le_of_ble_eq_true rfl) (hO.1.1) ?_
  show JW l G 2 YX2_isEntitled _ 0 [(0, .ref (L 0)), (1, .int (nI b))] [] (mput M L s)
  refine j_aload_n dX2_isEntitled_0 rfl rfl ?_
  refine j_iload_n dX2_isEntitled_1 rfl ?_
  refine j_iconst (v := 1) dX2_isEntitled_2 (by decide) ?_
  refine j_callV (mm_X2_isSo hO s (b := b) (by omega) 1) dX2_isEntitled_3 mt_X2_isSo q2244 q2246 qs46 (hO.at s (i := 0) (by decide)) (by decide) rfl cd_X2_isSo (Nat.le_of_ble_eq_true rfl) rfl rfl (Nat.le_of_ble_eq_true rfl) (jk_v ?_) jx_v
  refine j_ifeqB (tgt := 22) dX2_isEntitled_6 (by decide) (fun c6 => ?_) (fun c6 => ?_)
  · refine j_iconst (v := 0) dX2_isEntitled_22 (by decide) ?_
    exact j_zreturn dX2_isEntitled_23 rfl rfl (mjv (by first | (simp_all [msum]; done) | (simp_all [jb, mSo, mEnt, msum, mCounts, mAhead, mSenior, mShab]; done) | (simp_all [jb, mSo, mEnt, msum, mCounts, mAhead, mSenior, mShab, ← Int32.not_lt]; done) | grind [jb, msum, mCounts]) rfl)
  · refine j_aload_n dX2_isEntitled_9 rfl rfl ?_
    refine j_iload_n dX2_isEntitled_10 rfl ?_
    refine j_iconst (v := 5) dX2_isEntitled_11 (by decide) ?_
    refine j_callV (mm_X2_of hO s (b := b) (k := 5) (by omega) (by omega)) dX2_isEntitled_12 mt_X2_of q2248 q2250 qs47 (hO.at s (i := 0) (by decide)) (by decide) rfl cd_X2_of (Nat.le_of_ble_eq_true rfl) rfl rfl (Nat.le_of_ble_eq_true rfl) (jk_v ?_) jx_v
    refine j_if_ne (tgt := 22) dX2_isEntitled_15 (by decide) (fun c15 => ?_) (fun c15 => ?_)
    · refine j_iconst (v := 0) dX2_isEntitled_22 (by decide) ?_
      exact j_zreturn dX2_isEntitled_23 rfl rfl (mjv (by first | (simp_all [msum]; done) | (simp_all [jb, mSo, mEnt, msum, mCounts, mAhead, mSenior, mShab]; done) | (simp_all [jb, mSo, mEnt, msum, mCounts, mAhead, mSenior, mShab, ← Int32.not_lt]; done) | grind [jb, msum, mCounts]) rfl)
    · refine j_iconst (v := 1) dX2_isEntitled_18 (by decide) ?_
      refine j_goto (tgt := 23) dX2_isEntitled_19 (by decide) ?_
      exact j_zreturn dX2_isEntitled_23 rfl rfl (mjv (by first | (simp_all [msum]; done) | (simp_all [jb, mSo, mEnt, msum, mCounts, mAhead, mSenior, mShab]; done) | (simp_all [jb, mSo, mEnt, msum, mCounts, mAhead, mSenior, mShab, ← Int32.not_lt]; done) | grind [jb, msum, mCounts]) rfl)

theorem mm_X2_comesIn (hO : mOK G M L) (s : MS) (p : Int32) : JM l G 1 yX2_comesIn wX2_comesIn [.ref (L 0), .int p] (mput M L s) (jn (mput M L (mComesIn s p))) := by
  refine JM.of pn_X2 (Nat.le_of_ble_eq_true rfl) (hO.1.1) ?_
  show JW l G 1 YX2_comesIn _ 0 [(0, .ref (L 0)), (1, .int p)] [] (mput M L s)
  refine j_iload_n dX2_comesIn_0 rfl ?_
  refine j_sipush (v := 9999) dX2_comesIn_1 (by decide) ?_
  refine j_aload_n dX2_comesIn_4 rfl rfl ?_
  refine mj_get hO dX2_comesIn_5 fd_X2_7_2 rfl ?_
  refine j_iconst (v := 3) dX2_comesIn_8 (by decide) ?_
  refine mj_iald (j := 0) (i := 3) hO dX2_comesIn_9 (by decide) rfl (by decide) ?_
  refine j_isub dX2_comesIn_10 ?_
  refine j_callS (mm_X2_lesser hO s p (9999 - (s.2 0 3))) dX2_comesIn_11 mt_X2_lesser q2371 q2372 cd_X2_lesser (Nat.le_of_ble_eq_true rfl) rfl rfl (Nat.le_of_ble_eq_true rfl) (jk_v ?_) jx_v
  refine j_istore_n dX2_comesIn_14 (by decide) rfl ?_
  refine j_aload_n dX2_comesIn_15 rfl rfl ?_
  refine mj_get hO dX2_comesIn_16 fd_X2_7_2 rfl ?_
  refine j_iconst (v := 3) dX2_comesIn_19 (by decide) ?_
  refine j_dup2_11 dX2_comesIn_20 rfl rfl ?_
  refine mj_iald (j := 0) (i := 3) hO dX2_comesIn_21 (by decide) rfl (by decide) ?_
  refine j_iload_n dX2_comesIn_22 rfl ?_
  refine j_iadd dX2_comesIn_23 ?_
  refine mj_iast (j := 0) (i := 3) hO dX2_comesIn_24 (by decide) rfl (by decide) ?_
  refine j_aload_n dX2_comesIn_25 rfl rfl ?_
  refine mj_get hO dX2_comesIn_26 fd_X2_7_2 rfl ?_
  refine j_iconst (v := 4) dX2_comesIn_29 (by decide) ?_
  refine j_dup2_11 dX2_comesIn_30 rfl rfl ?_
  refine mj_iald (j := 0) (i := 4) hO dX2_comesIn_31 (by decide) rfl (by decide) ?_
  refine j_iload_n dX2_comesIn_32 rfl ?_
  refine j_iadd dX2_comesIn_33 ?_
  refine mj_iast (j := 0) (i := 4) hO dX2_comesIn_34 (by decide) rfl (by decide) ?_
  exact j_return dX2_comesIn_35 rfl (mjn rfl)

theorem mm_X2_brethrenThat (hO : mOK G M L) (s : MS) {n : Nat} (hn : s.2 0 2 = nI n) (hn16 : n ≤ 16) (how : Int32) : JM l G 2 yX2_brethrenThat wX2_brethrenThat [.ref (L 0), .int how] (mput M L s) (jv (.int (mThat s n how)) (mput M L s)) := by
  refine JM.of pn_X2 (Nat.le_of_ble_eq_true rfl) (hO.1.1) ?_
  show JW l G 2 YX2_brethrenThat _ 0 [(0, .ref (L 0)), (1, .int how)] [] (mput M L s)
  refine j_iconst (v := 0) dX2_brethrenThat_0 (by decide) ?_
  refine j_istore_n dX2_brethrenThat_1 (by decide) rfl ?_
  refine j_iconst (v := 0) dX2_brethrenThat_2 (by decide) ?_
  refine j_istore_n dX2_brethrenThat_3 (by decide) rfl ?_
  have lp_ : ∀ (fu_ : Nat) (k : Nat) (acc : Int32), n - k < fu_ → (k ≤ n) → (acc = msum (fun b => jb (mSo s b how)) k) → JW l G 2 YX2_brethrenThat (jv (.int (mThat s n how)) (mput M L s)) 4 [(0, .ref (L 0)), (1, .int how), (2, .int acc), (3, .int (nI k))] [] (mput M L s) := by
    intro fu_
    induction fu_ with
    | zero => intro k acc hf_; exact absurd hf_ (Nat.not_lt_zero _)
    | succ fu_ ih_ =>
      intro k acc hf_ hk hacc
      refine j_iload_n dX2_brethrenThat_4 rfl ?_
      refine j_aload_n dX2_brethrenThat_5 rfl rfl ?_
      refine mj_get hO dX2_brethrenThat_6 fd_X2_7_2 rfl ?_
      refine j_iconst (v := 2) dX2_brethrenThat_9 (by decide) ?_
      refine mj_iald (j := 0) (i := 2) hO dX2_brethrenThat_10 (by decide) rfl (by decide) ?_
      refine j_icmp_ge (tgt := 37) dX2_brethrenThat_11 (by decide) (fun c_ => ?_) (fun c_ => ?_)
      · obtain rfl := n_end hn hn16 hk c_
        refine j_iload_n dX2_brethrenThat_37 rfl ?_
        exact j_ireturn dX2_brethrenThat_38 rfl (mjv hacc rfl)
      · have hk_ := n_on hn hn16 c_ hk
        refine j_iload_n dX2_brethrenThat_14 rfl ?_
        refine j_aload_n dX2_brethrenThat_15 rfl rfl ?_
        refine j_iload_n dX2_brethrenThat_16 rfl ?_
        refine j_iload_n dX2_brethrenThat_17 rfl ?_
        refine j_callV (mm_X2_isSo hO s (b := k) (by omega) how) dX2_brethrenThat_18 mt_X2_isSo q2244 q2246 qs46 (hO.at s (i := 0) (by decide)) (by decide) rfl cd_X2_isSo (Nat.le_of_ble_eq_true rfl) rfl rfl (Nat.le_of_ble_eq_true rfl) (jk_v ?_) jx_v
        refine j_ifeqB (tgt := 28) dX2_brethrenThat_21 (by decide) (fun c21 => ?_) (fun c21 => ?_)
        · refine j_iconst (v := 0) dX2_brethrenThat_28 (by decide) ?_
          refine j_iadd dX2_brethrenThat_29 ?_
          refine j_istore_n dX2_brethrenThat_30 (by decide) rfl ?_
          refine j_iinc (v := nI (k + 1)) dX2_brethrenThat_31 rfl (nI_1 _) (by decide) rfl ?_
          refine j_goto (tgt := 4) dX2_brethrenThat_34 (by decide) ?_
          refine j_locs (ls2 := [(0, .ref (L 0)), (1, .int how), (2, .int (acc + 0)), (3, .int (nI (k + 1)))]) ⟨rfl, rfl, rfl, rfl, trivial⟩ (ih_ (k + 1) (acc + 0) (by omega) (by omega) (by rw [hacc]; first | (simp_all [msum]; done) | (simp_all [jb, mSo, mEnt, msum, mCounts, mAhead, mSenior, mShab]; done) | (simp_all [jb, mSo, mEnt, msum, mCounts, mAhead, mSenior, mShab, ← Int32.not_lt]; done) | grind [jb, msum, mCounts]))
        · refine j_iconst (v := 1) dX2_brethrenThat_24 (by decide) ?_
          refine j_goto (tgt := 29) dX2_brethrenThat_25 (by decide) ?_
          refine j_iadd dX2_brethrenThat_29 ?_
          refine j_istore_n dX2_brethrenThat_30 (by decide) rfl ?_
          refine j_iinc (v := nI (k + 1)) dX2_brethrenThat_31 rfl (nI_1 _) (by decide) rfl ?_
          refine j_goto (tgt := 4) dX2_brethrenThat_34 (by decide) ?_
          refine j_locs (ls2 := [(0, .ref (L 0)), (1, .int how), (2, .int (acc + 1)), (3, .int (nI (k + 1)))]) ⟨rfl, rfl, rfl, rfl, trivial⟩ (ih_ (k + 1) (acc + 1) (by omega) (by omega) (by rw [hacc]; first | (simp_all [msum]; done) | (simp_all [jb, mSo, mEnt, msum, mCounts, mAhead, mSenior, mShab]; done) | (simp_all [jb, mSo, mEnt, msum, mCounts, mAhead, mSenior, mShab, ← Int32.not_lt]; done) | grind [jb, msum, mCounts]))
  refine j_locs (ls2 := [(0, .ref (L 0)), (1, .int how), (2, .int 0), (3, .int (nI 0))]) ⟨rfl, rfl, rfl, rfl, trivial⟩ ?_
  exact lp_ _ 0 0 (Nat.lt_succ_self _) (Nat.zero_le _) rfl

theorem mm_X2_voicesFor (hO : mOK G M L) (s : MS) {n : Nat} (hn : s.2 0 2 = nI n) (hn16 : n ≤ 16) {b : Nat} (hb : b < 16) : JM l G 2 yX2_voicesFor wX2_voicesFor [.ref (L 0), .int (nI b)] (mput M L s) (jv (.int (mVoices s n b)) (mput M L s)) := by
  refine JM.of pn_X2 (Nat.le_of_ble_eq_true rfl) (hO.1.1) ?_
  show JW l G 2 YX2_voicesFor _ 0 [(0, .ref (L 0)), (1, .int (nI b))] [] (mput M L s)
  refine j_aload_n dX2_voicesFor_0 rfl rfl ?_
  refine j_iload_n dX2_voicesFor_1 rfl ?_
  refine j_iconst (v := 0) dX2_voicesFor_2 (by decide) ?_
  refine j_callV (mm_X2_isSo hO s (b := b) (by omega) 0) dX2_voicesFor_3 mt_X2_isSo q2244 q2246 qs46 (hO.at s (i := 0) (by decide)) (by decide) rfl cd_X2_isSo (Nat.le_of_ble_eq_true rfl) rfl rfl (Nat.le_of_ble_eq_true rfl) (jk_v ?_) jx_v
  refine j_ifneB (tgt := 11) dX2_voicesFor_6 (by decide) (fun c6 => ?_) (fun c6 => ?_)
  · refine j_iconst (v := 0) dX2_voicesFor_11 (by decide) ?_
    refine j_istore_n dX2_voicesFor_12 (by decide) rfl ?_
    refine j_iconst (v := 0) dX2_voicesFor_13 (by decide) ?_
    refine j_istore_n dX2_voicesFor_14 (by decide) rfl ?_
    have lp_ : ∀ (fu_ : Nat) (k : Nat) (acc : Int32), n - k < fu_ → (k ≤ n) → (acc = msum (fun k => if mo s k 7 = nI b + 1 then mCounts s b else 0) k) → JW l G 2 YX2_voicesFor (jv (.int (mVoices s n b)) (mput M L s)) 15 [(0, .ref (L 0)), (1, .int (nI b)), (2, .int acc), (3, .int (nI k))] [] (mput M L s) := by
      intro fu_
      induction fu_ with
      | zero => intro k acc hf_; exact absurd hf_ (Nat.not_lt_zero _)
      | succ fu_ ih_ =>
        intro k acc hf_ hk hacc
        refine j_iload_n dX2_voicesFor_15 rfl ?_
        refine j_aload_n dX2_voicesFor_16 rfl rfl ?_
        refine mj_get hO dX2_voicesFor_17 fd_X2_7_2 rfl ?_
        refine j_iconst (v := 2) dX2_voicesFor_20 (by decide) ?_
        refine mj_iald (j := 0) (i := 2) hO dX2_voicesFor_21 (by decide) rfl (by decide) ?_
        refine j_icmp_ge (tgt := 56) dX2_voicesFor_22 (by decide) (fun c_ => ?_) (fun c_ => ?_)
        · obtain rfl := n_end hn hn16 hk c_
          refine j_iload_n dX2_voicesFor_56 rfl ?_
          exact j_ireturn dX2_voicesFor_57 rfl (mjv (by rw [hacc]; simp_all [mVoices, mSo]) rfl)
        · have hk_ := n_on hn hn16 c_ hk
          refine j_iload_n dX2_voicesFor_25 rfl ?_
          refine j_aload_n dX2_voicesFor_26 rfl rfl ?_
          refine j_iload_n dX2_voicesFor_27 rfl ?_
          refine j_bipush (v := 7) dX2_voicesFor_28 (by decide) ?_
          refine j_callV (mm_X2_of hO s (b := k) (k := 7) (by omega) (by omega)) dX2_voicesFor_30 mt_X2_of q2248 q2250 qs47 (hO.at s (i := 0) (by decide)) (by decide) rfl cd_X2_of (Nat.le_of_ble_eq_true rfl) rfl rfl (Nat.le_of_ble_eq_true rfl) (jk_v ?_) jx_v
          refine j_iload_n dX2_voicesFor_33 rfl ?_
          refine j_iconst (v := 1) dX2_voicesFor_34 (by decide) ?_
          refine j_iadd dX2_voicesFor_35 ?_
          refine j_icmp_ne (tgt := 47) dX2_voicesFor_36 (by decide) (fun c36 => ?_) (fun c36 => ?_)
          · refine j_iconst (v := 0) dX2_voicesFor_47 (by decide) ?_
            refine j_iadd dX2_voicesFor_48 ?_
            refine j_istore_n dX2_voicesFor_49 (by decide) rfl ?_
            refine j_iinc (v := nI (k + 1)) dX2_voicesFor_50 rfl (nI_1 _) (by decide) rfl ?_
            refine j_goto (tgt := 15) dX2_voicesFor_53 (by decide) ?_
            refine j_locs (ls2 := [(0, .ref (L 0)), (1, .int (nI b)), (2, .int (acc + 0)), (3, .int (nI (k + 1)))]) ⟨rfl, rfl, rfl, rfl, trivial⟩ (ih_ (k + 1) (acc + 0) (by omega) (by omega) (by rw [hacc]; simp_all [msum]))
          · refine j_aload_n dX2_voicesFor_39 rfl rfl ?_
            refine j_iload_n dX2_voicesFor_40 rfl ?_
            refine j_callV (mm_X2_countsFor hO s (b := b) (by omega)) dX2_voicesFor_41 mt_X2_countsFor q2280 q2282 qs54 (hO.at s (i := 0) (by decide)) (by decide) rfl cd_X2_countsFor (Nat.le_of_ble_eq_true rfl) rfl rfl (Nat.le_of_ble_eq_true rfl) (jk_v ?_) jx_v
            refine j_goto (tgt := 48) dX2_voicesFor_44 (by decide) ?_
            refine j_iadd dX2_voicesFor_48 ?_
            refine j_istore_n dX2_voicesFor_49 (by decide) rfl ?_
            refine j_iinc (v := nI (k + 1)) dX2_voicesFor_50 rfl (nI_1 _) (by decide) rfl ?_
            refine j_goto (tgt := 15) dX2_voicesFor_53 (by decide) ?_
            refine j_locs (ls2 := [(0, .ref (L 0)), (1, .int (nI b)), (2, .int (acc + (mCounts s b))), (3, .int (nI (k + 1)))]) ⟨rfl, rfl, rfl, rfl, trivial⟩ (ih_ (k + 1) (acc + (mCounts s b)) (by omega) (by omega) (by rw [hacc]; simp_all [msum]))
    refine j_locs (ls2 := [(0, .ref (L 0)), (1, .int (nI b)), (2, .int 0), (3, .int (nI 0))]) ⟨rfl, rfl, rfl, rfl, trivial⟩ ?_
    exact lp_ _ 0 0 (Nat.lt_succ_self _) (Nat.zero_le _) rfl
  · refine j_iconst (v := 0) dX2_voicesFor_9 (by decide) ?_
    exact j_ireturn dX2_voicesFor_10 rfl (mjv (by simp_all [mVoices, jb, mSo]) rfl)

theorem mm_X2_entitledMany (hO : mOK G M L) (s : MS) {n : Nat} (hn : s.2 0 2 = nI n) (hn16 : n ≤ 16) : JM l G 3 yX2_entitledMany wX2_entitledMany [.ref (L 0)] (mput M L s) (jv (.int (mEntMany s n)) (mput M L s)) := by
  refine JM.of pn_X2 (Nat.le_of_ble_eq_true rfl) (hO.1.1) ?_
  show JW l G 3 YX2_entitledMany _ 0 [(0, .ref (L 0))] [] (mput M L s)
  refine j_iconst (v := 0) dX2_entitledMany_0 (by decide) ?_
  refine j_istore_n dX2_entitledMany_1 (by decide) rfl ?_
  refine j_iconst (v := 0) dX2_entitledMany_2 (by decide) ?_
  refine j_istore_n dX2_entitledMany_3 (by decide) rfl ?_
  have lp_ : ∀ (fu_ : Nat) (k : Nat) (acc : Int32), n - k < fu_ → (k ≤ n) → (acc = msum (fun b => jb (mEnt s b)) k) → JW l G 3 YX2_entitledMany (jv (.int (mEntMany s n)) (mput M L s)) 4 [(0, .ref (L 0)), (1, .int acc), (2, .int (nI k))] [] (mput M L s) := by
    intro fu_
    induction fu_ with
    | zero => intro k acc hf_; exact absurd hf_ (Nat.not_lt_zero _)
    | succ fu_ ih_ =>
      intro k acc hf_ hk hacc
      refine j_iload_n dX2_entitledMany_4 rfl ?_
      refine j_aload_n dX2_entitledMany_5 rfl rfl ?_
      refine mj_get hO dX2_entitledMany_6 fd_X2_7_2 rfl ?_
      refine j_iconst (v := 2) dX2_entitledMany_9 (by decide) ?_
      refine mj_iald (j := 0) (i := 2) hO dX2_entitledMany_10 (by decide) rfl (by decide) ?_
      refine j_icmp_ge (tgt := 36) dX2_entitledMany_11 (by decide) (fun c_ => ?_) (fun c_ => ?_)
      · obtain rfl := n_end hn hn16 hk c_
        refine j_iload_n dX2_entitledMany_36 rfl ?_
        exact j_ireturn dX2_entitledMany_37 rfl (mjv hacc rfl)
      · have hk_ := n_on hn hn16 c_ hk
        refine j_iload_n dX2_entitledMany_14 rfl ?_
        refine j_aload_n dX2_entitledMany_15 rfl rfl ?_
        refine j_iload_n dX2_entitledMany_16 rfl ?_
        refine j_callV (mm_X2_isEntitled hO s (b := k) (by omega)) dX2_entitledMany_17 mt_X2_isEntitled q2394 q2396 qs74 (hO.at s (i := 0) (by decide)) (by decide) rfl cd_X2_isEntitled (Nat.le_of_ble_eq_true rfl) rfl rfl (Nat.le_of_ble_eq_true rfl) (jk_v ?_) jx_v
        refine j_ifeqB (tgt := 27) dX2_entitledMany_20 (by decide) (fun c20 => ?_) (fun c20 => ?_)
        · refine j_iconst (v := 0) dX2_entitledMany_27 (by decide) ?_
          refine j_iadd dX2_entitledMany_28 ?_
          refine j_istore_n dX2_entitledMany_29 (by decide) rfl ?_
          refine j_iinc (v := nI (k + 1)) dX2_entitledMany_30 rfl (nI_1 _) (by decide) rfl ?_
          refine j_goto (tgt := 4) dX2_entitledMany_33 (by decide) ?_
          refine j_locs (ls2 := [(0, .ref (L 0)), (1, .int (acc + 0)), (2, .int (nI (k + 1)))]) ⟨rfl, rfl, rfl, trivial⟩ (ih_ (k + 1) (acc + 0) (by omega) (by omega) (by rw [hacc]; first | (simp_all [msum]; done) | (simp_all [jb, mSo, mEnt, msum, mCounts, mAhead, mSenior, mShab]; done) | (simp_all [jb, mSo, mEnt, msum, mCounts, mAhead, mSenior, mShab, ← Int32.not_lt]; done) | grind [jb, msum, mCounts]))
        · refine j_iconst (v := 1) dX2_entitledMany_23 (by decide) ?_
          refine j_goto (tgt := 28) dX2_entitledMany_24 (by decide) ?_
          refine j_iadd dX2_entitledMany_28 ?_
          refine j_istore_n dX2_entitledMany_29 (by decide) rfl ?_
          refine j_iinc (v := nI (k + 1)) dX2_entitledMany_30 rfl (nI_1 _) (by decide) rfl ?_
          refine j_goto (tgt := 4) dX2_entitledMany_33 (by decide) ?_
          refine j_locs (ls2 := [(0, .ref (L 0)), (1, .int (acc + 1)), (2, .int (nI (k + 1)))]) ⟨rfl, rfl, rfl, trivial⟩ (ih_ (k + 1) (acc + 1) (by omega) (by omega) (by rw [hacc]; first | (simp_all [msum]; done) | (simp_all [jb, mSo, mEnt, msum, mCounts, mAhead, mSenior, mShab]; done) | (simp_all [jb, mSo, mEnt, msum, mCounts, mAhead, mSenior, mShab, ← Int32.not_lt]; done) | grind [jb, msum, mCounts]))
  refine j_locs (ls2 := [(0, .ref (L 0)), (1, .int 0), (2, .int (nI 0))]) ⟨rfl, rfl, rfl, trivial⟩ ?_
  exact lp_ _ 0 0 (Nat.lt_succ_self _) (Nat.zero_le _) rfl

theorem mm_X2_placeInLine (hO : mOK G M L) (s : MS) {n : Nat} (hn : s.2 0 2 = nI n) (hn16 : n ≤ 16) {b : Nat} (hb : b < 16) : JM l G 2 yX2_placeInLine wX2_placeInLine [.ref (L 0), .int (nI b)] (mput M L s) (jv (.int (mPlace s n b)) (mput M L s)) := by
  refine JM.of pn_X2 (Nat.le_of_ble_eq_true rfl) (hO.1.1) ?_
  show JW l G 2 YX2_placeInLine _ 0 [(0, .ref (L 0)), (1, .int (nI b))] [] (mput M L s)
  refine j_iconst (v := 0) dX2_placeInLine_0 (by decide) ?_
  refine j_istore_n dX2_placeInLine_1 (by decide) rfl ?_
  refine j_iconst (v := 0) dX2_placeInLine_2 (by decide) ?_
  refine j_istore_n dX2_placeInLine_3 (by decide) rfl ?_
  have lp_ : ∀ (fu_ : Nat) (k : Nat) (acc : Int32), n - k < fu_ → (k ≤ n) → (acc = msum (fun k => jb (mSo s k 0 && decide (mo s k 8 < mo s b 8))) k) → JW l G 2 YX2_placeInLine (jv (.int (mPlace s n b)) (mput M L s)) 4 [(0, .ref (L 0)), (1, .int (nI b)), (2, .int acc), (3, .int (nI k))] [] (mput M L s) := by
    intro fu_
    induction fu_ with
    | zero => intro k acc hf_; exact absurd hf_ (Nat.not_lt_zero _)
    | succ fu_ ih_ =>
      intro k acc hf_ hk hacc
      refine j_iload_n dX2_placeInLine_4 rfl ?_
      refine j_aload_n dX2_placeInLine_5 rfl rfl ?_
      refine mj_get hO dX2_placeInLine_6 fd_X2_7_2 rfl ?_
      refine j_iconst (v := 2) dX2_placeInLine_9 (by decide) ?_
      refine mj_iald (j := 0) (i := 2) hO dX2_placeInLine_10 (by decide) rfl (by decide) ?_
      refine j_icmp_ge (tgt := 54) dX2_placeInLine_11 (by decide) (fun c_ => ?_) (fun c_ => ?_)
      · obtain rfl := n_end hn hn16 hk c_
        refine j_iload_n dX2_placeInLine_54 rfl ?_
        exact j_ireturn dX2_placeInLine_55 rfl (mjv hacc rfl)
      · have hk_ := n_on hn hn16 c_ hk
        refine j_iload_n dX2_placeInLine_14 rfl ?_
        refine j_aload_n dX2_placeInLine_15 rfl rfl ?_
        refine j_iload_n dX2_placeInLine_16 rfl ?_
        refine j_iconst (v := 0) dX2_placeInLine_17 (by decide) ?_
        refine j_callV (mm_X2_isSo hO s (b := k) (by omega) 0) dX2_placeInLine_18 mt_X2_isSo q2244 q2246 qs46 (hO.at s (i := 0) (by decide)) (by decide) rfl cd_X2_isSo (Nat.le_of_ble_eq_true rfl) rfl rfl (Nat.le_of_ble_eq_true rfl) (jk_v ?_) jx_v
        refine j_ifeqB (tgt := 45) dX2_placeInLine_21 (by decide) (fun c21 => ?_) (fun c21 => ?_)
        · refine j_iconst (v := 0) dX2_placeInLine_45 (by decide) ?_
          refine j_iadd dX2_placeInLine_46 ?_
          refine j_istore_n dX2_placeInLine_47 (by decide) rfl ?_
          refine j_iinc (v := nI (k + 1)) dX2_placeInLine_48 rfl (nI_1 _) (by decide) rfl ?_
          refine j_goto (tgt := 4) dX2_placeInLine_51 (by decide) ?_
          refine j_locs (ls2 := [(0, .ref (L 0)), (1, .int (nI b)), (2, .int (acc + 0)), (3, .int (nI (k + 1)))]) ⟨rfl, rfl, rfl, rfl, trivial⟩ (ih_ (k + 1) (acc + 0) (by omega) (by omega) (by rw [hacc]; first | (simp_all [msum]; done) | (simp_all [jb, mSo, mEnt, msum, mCounts, mAhead, mSenior, mShab]; done) | (simp_all [jb, mSo, mEnt, msum, mCounts, mAhead, mSenior, mShab, ← Int32.not_lt]; done) | grind [jb, msum, mCounts]))
        · refine j_aload_n dX2_placeInLine_24 rfl rfl ?_
          refine j_iload_n dX2_placeInLine_25 rfl ?_
          refine j_bipush (v := 8) dX2_placeInLine_26 (by decide) ?_
          refine j_callV (mm_X2_of hO s (b := k) (k := 8) (by omega) (by omega)) dX2_placeInLine_28 mt_X2_of q2248 q2250 qs47 (hO.at s (i := 0) (by decide)) (by decide) rfl cd_X2_of (Nat.le_of_ble_eq_true rfl) rfl rfl (Nat.le_of_ble_eq_true rfl) (jk_v ?_) jx_v
          refine j_aload_n dX2_placeInLine_31 rfl rfl ?_
          refine j_iload_n dX2_placeInLine_32 rfl ?_
          refine j_bipush (v := 8) dX2_placeInLine_33 (by decide) ?_
          refine j_callV (mm_X2_of hO s (b := b) (k := 8) (by omega) (by omega)) dX2_placeInLine_35 mt_X2_of q2248 q2250 qs47 (hO.at s (i := 0) (by decide)) (by decide) rfl cd_X2_of (Nat.le_of_ble_eq_true rfl) rfl rfl (Nat.le_of_ble_eq_true rfl) (jk_v ?_) jx_v
          refine j_icmp_ge (tgt := 45) dX2_placeInLine_38 (by decide) (fun c38 => ?_) (fun c38 => ?_)
          · refine j_iconst (v := 0) dX2_placeInLine_45 (by decide) ?_
            refine j_iadd dX2_placeInLine_46 ?_
            refine j_istore_n dX2_placeInLine_47 (by decide) rfl ?_
            refine j_iinc (v := nI (k + 1)) dX2_placeInLine_48 rfl (nI_1 _) (by decide) rfl ?_
            refine j_goto (tgt := 4) dX2_placeInLine_51 (by decide) ?_
            refine j_locs (ls2 := [(0, .ref (L 0)), (1, .int (nI b)), (2, .int (acc + 0)), (3, .int (nI (k + 1)))]) ⟨rfl, rfl, rfl, rfl, trivial⟩ (ih_ (k + 1) (acc + 0) (by omega) (by omega) (by rw [hacc]; first | (simp_all [msum]; done) | (simp_all [jb, mSo, mEnt, msum, mCounts, mAhead, mSenior, mShab]; done) | (simp_all [jb, mSo, mEnt, msum, mCounts, mAhead, mSenior, mShab, ← Int32.not_lt]; done) | grind [jb, msum, mCounts]))
          · refine j_iconst (v := 1) dX2_placeInLine_41 (by decide) ?_
            refine j_goto (tgt := 46) dX2_placeInLine_42 (by decide) ?_
            refine j_iadd dX2_placeInLine_46 ?_
            refine j_istore_n dX2_placeInLine_47 (by decide) rfl ?_
            refine j_iinc (v := nI (k + 1)) dX2_placeInLine_48 rfl (nI_1 _) (by decide) rfl ?_
            refine j_goto (tgt := 4) dX2_placeInLine_51 (by decide) ?_
            refine j_locs (ls2 := [(0, .ref (L 0)), (1, .int (nI b)), (2, .int (acc + 1)), (3, .int (nI (k + 1)))]) ⟨rfl, rfl, rfl, rfl, trivial⟩ (ih_ (k + 1) (acc + 1) (by omega) (by omega) (by rw [hacc]; first | (simp_all [msum]; done) | (simp_all [jb, mSo, mEnt, msum, mCounts, mAhead, mSenior, mShab]; done) | (simp_all [jb, mSo, mEnt, msum, mCounts, mAhead, mSenior, mShab, ← Int32.not_lt]; done) | grind [jb, msum, mCounts]))
  refine j_locs (ls2 := [(0, .ref (L 0)), (1, .int (nI b)), (2, .int 0), (3, .int (nI 0))]) ⟨rfl, rfl, rfl, rfl, trivial⟩ ?_
  exact lp_ _ 0 0 (Nat.lt_succ_self _) (Nat.zero_le _) rfl

theorem mm_X2_banned (hO : mOK G M L) (s : MS) {n : Nat} (hn : s.2 0 2 = nI n) (hn16 : n ≤ 16) : JM l G 2 yX2_banned wX2_banned [.ref (L 0)] (mput M L s) (jv (.int (mBanned s n)) (mput M L s)) := by
  refine JM.of pn_X2 (Nat.le_of_ble_eq_true rfl) (hO.1.1) ?_
  show JW l G 2 YX2_banned _ 0 [(0, .ref (L 0))] [] (mput M L s)
  refine j_iconst (v := 0) dX2_banned_0 (by decide) ?_
  refine j_istore_n dX2_banned_1 (by decide) rfl ?_
  refine j_iconst (v := 0) dX2_banned_2 (by decide) ?_
  refine j_istore_n dX2_banned_3 (by decide) rfl ?_
  have lp_ : ∀ (fu_ : Nat) (k : Nat) (acc : Int32), n - k < fu_ → (k ≤ n) → (acc = msum (fun b => jb (decide (0 < mo s b 5))) k) → JW l G 2 YX2_banned (jv (.int (mBanned s n)) (mput M L s)) 4 [(0, .ref (L 0)), (1, .int acc), (2, .int (nI k))] [] (mput M L s) := by
    intro fu_
    induction fu_ with
    | zero => intro k acc hf_; exact absurd hf_ (Nat.not_lt_zero _)
    | succ fu_ ih_ =>
      intro k acc hf_ hk hacc
      refine j_iload_n dX2_banned_4 rfl ?_
      refine j_aload_n dX2_banned_5 rfl rfl ?_
      refine mj_get hO dX2_banned_6 fd_X2_7_2 rfl ?_
      refine j_iconst (v := 2) dX2_banned_9 (by decide) ?_
      refine mj_iald (j := 0) (i := 2) hO dX2_banned_10 (by decide) rfl (by decide) ?_
      refine j_icmp_ge (tgt := 37) dX2_banned_11 (by decide) (fun c_ => ?_) (fun c_ => ?_)
      · obtain rfl := n_end hn hn16 hk c_
        refine j_iload_n dX2_banned_37 rfl ?_
        exact j_ireturn dX2_banned_38 rfl (mjv hacc rfl)
      · have hk_ := n_on hn hn16 c_ hk
        refine j_iload_n dX2_banned_14 rfl ?_
        refine j_aload_n dX2_banned_15 rfl rfl ?_
        refine j_iload_n dX2_banned_16 rfl ?_
        refine j_iconst (v := 5) dX2_banned_17 (by decide) ?_
        refine j_callV (mm_X2_of hO s (b := k) (k := 5) (by omega) (by omega)) dX2_banned_18 mt_X2_of q2248 q2250 qs47 (hO.at s (i := 0) (by decide)) (by decide) rfl cd_X2_of (Nat.le_of_ble_eq_true rfl) rfl rfl (Nat.le_of_ble_eq_true rfl) (jk_v ?_) jx_v
        refine j_if_le (tgt := 28) dX2_banned_21 (by decide) (fun c21 => ?_) (fun c21 => ?_)
        · refine j_iconst (v := 0) dX2_banned_28 (by decide) ?_
          refine j_iadd dX2_banned_29 ?_
          refine j_istore_n dX2_banned_30 (by decide) rfl ?_
          refine j_iinc (v := nI (k + 1)) dX2_banned_31 rfl (nI_1 _) (by decide) rfl ?_
          refine j_goto (tgt := 4) dX2_banned_34 (by decide) ?_
          refine j_locs (ls2 := [(0, .ref (L 0)), (1, .int (acc + 0)), (2, .int (nI (k + 1)))]) ⟨rfl, rfl, rfl, trivial⟩ (ih_ (k + 1) (acc + 0) (by omega) (by omega) (by rw [hacc]; simp_all [jb, msum, ← Int32.not_lt]))
        · refine j_iconst (v := 1) dX2_banned_24 (by decide) ?_
          refine j_goto (tgt := 29) dX2_banned_25 (by decide) ?_
          refine j_iadd dX2_banned_29 ?_
          refine j_istore_n dX2_banned_30 (by decide) rfl ?_
          refine j_iinc (v := nI (k + 1)) dX2_banned_31 rfl (nI_1 _) (by decide) rfl ?_
          refine j_goto (tgt := 4) dX2_banned_34 (by decide) ?_
          refine j_locs (ls2 := [(0, .ref (L 0)), (1, .int (acc + 1)), (2, .int (nI (k + 1)))]) ⟨rfl, rfl, rfl, trivial⟩ (ih_ (k + 1) (acc + 1) (by omega) (by omega) (by rw [hacc]; simp_all [jb, msum, ← Int32.not_lt]))
  refine j_locs (ls2 := [(0, .ref (L 0)), (1, .int 0), (2, .int (nI 0))]) ⟨rfl, rfl, rfl, trivial⟩ ?_
  exact lp_ _ 0 0 (Nat.lt_succ_self _) (Nat.zero_le _) rfl

theorem mm_X2_gotAll (hO : mOK G M L) (s : MS) {n : Nat} (hn : s.2 0 2 = nI n) (hn16 : n ≤ 16) : JM l G 2 yX2_gotAll wX2_gotAll [.ref (L 0)] (mput M L s) (jv (.int (mGotAll s n)) (mput M L s)) := by
  refine JM.of pn_X2 (Nat.le_of_ble_eq_true rfl) (hO.1.1) ?_
  show JW l G 2 YX2_gotAll _ 0 [(0, .ref (L 0))] [] (mput M L s)
  refine j_iconst (v := 0) dX2_gotAll_0 (by decide) ?_
  refine j_istore_n dX2_gotAll_1 (by decide) rfl ?_
  refine j_iconst (v := 0) dX2_gotAll_2 (by decide) ?_
  refine j_istore_n dX2_gotAll_3 (by decide) rfl ?_
  have lp_ : ∀ (fu_ : Nat) (k : Nat) (acc : Int32), n - k < fu_ → (k ≤ n) → (acc = msum (fun b => mo s b 6) k) → JW l G 2 YX2_gotAll (jv (.int (mGotAll s n)) (mput M L s)) 4 [(0, .ref (L 0)), (1, .int acc), (2, .int (nI k))] [] (mput M L s) := by
    intro fu_
    induction fu_ with
    | zero => intro k acc hf_; exact absurd hf_ (Nat.not_lt_zero _)
    | succ fu_ ih_ =>
      intro k acc hf_ hk hacc
      refine j_iload_n dX2_gotAll_4 rfl ?_
      refine j_aload_n dX2_gotAll_5 rfl rfl ?_
      refine mj_get hO dX2_gotAll_6 fd_X2_7_2 rfl ?_
      refine j_iconst (v := 2) dX2_gotAll_9 (by decide) ?_
      refine mj_iald (j := 0) (i := 2) hO dX2_gotAll_10 (by decide) rfl (by decide) ?_
      refine j_icmp_ge (tgt := 30) dX2_gotAll_11 (by decide) (fun c_ => ?_) (fun c_ => ?_)
      · obtain rfl := n_end hn hn16 hk c_
        refine j_iload_n dX2_gotAll_30 rfl ?_
        exact j_ireturn dX2_gotAll_31 rfl (mjv hacc rfl)
      · have hk_ := n_on hn hn16 c_ hk
        refine j_iload_n dX2_gotAll_14 rfl ?_
        refine j_aload_n dX2_gotAll_15 rfl rfl ?_
        refine j_iload_n dX2_gotAll_16 rfl ?_
        refine j_bipush (v := 6) dX2_gotAll_17 (by decide) ?_
        refine j_callV (mm_X2_of hO s (b := k) (k := 6) (by omega) (by omega)) dX2_gotAll_19 mt_X2_of q2248 q2250 qs47 (hO.at s (i := 0) (by decide)) (by decide) rfl cd_X2_of (Nat.le_of_ble_eq_true rfl) rfl rfl (Nat.le_of_ble_eq_true rfl) (jk_v ?_) jx_v
        refine j_iadd dX2_gotAll_22 ?_
        refine j_istore_n dX2_gotAll_23 (by decide) rfl ?_
        refine j_iinc (v := nI (k + 1)) dX2_gotAll_24 rfl (nI_1 _) (by decide) rfl ?_
        refine j_goto (tgt := 4) dX2_gotAll_27 (by decide) ?_
        refine j_locs (ls2 := [(0, .ref (L 0)), (1, .int (acc + (mo s k 6))), (2, .int (nI (k + 1)))]) ⟨rfl, rfl, rfl, trivial⟩ (ih_ (k + 1) (acc + (mo s k 6)) (by omega) (by omega) (by rw [hacc]; first | (simp_all [msum]; done) | (simp_all [jb, mSo, mEnt, msum, mCounts, mAhead, mSenior, mShab]; done) | (simp_all [jb, mSo, mEnt, msum, mCounts, mAhead, mSenior, mShab, ← Int32.not_lt]; done) | grind [jb, msum, mCounts]))
  refine j_locs (ls2 := [(0, .ref (L 0)), (1, .int 0), (2, .int (nI 0))]) ⟨rfl, rfl, rfl, trivial⟩ ?_
  exact lp_ _ 0 0 (Nat.lt_succ_self _) (Nat.zero_le _) rfl

theorem mm_X2_brotherIn (hO : mOK G M L) (s : MS) {n : Nat} (hn : s.2 0 2 = nI n) (hn16 : n ≤ 16) (c : Int32) : JM l G 2 yX2_brotherIn wX2_brotherIn [.ref (L 0), .int c] (mput M L s) (jv (.int (mBrotherIn s n c)) (mput M L s)) := by
  refine JM.of pn_X2 (Nat.le_of_ble_eq_true rfl) (hO.1.1) ?_
  show JW l G 2 YX2_brotherIn _ 0 [(0, .ref (L 0)), (1, .int c)] [] (mput M L s)
  refine j_iconst (v := 0) dX2_brotherIn_0 (by decide) ?_
  refine j_istore_n dX2_brotherIn_1 (by decide) rfl ?_
  have lf_ : ∀ (fu_ : Nat) (k : Nat), n - k < fu_ → (k ≤ n) → (∀ j, j < k → (fun b => mSo s b 1 && decide (mo s b 3 = c)) j = false) → JW l G 2 YX2_brotherIn (jv (.int (mBrotherIn s n c)) (mput M L s)) 2 [(0, .ref (L 0)), (1, .int c), (2, .int (nI k))] [] (mput M L s) := by
    intro fu_
    induction fu_ with
    | zero => intro k hf_; exact absurd hf_ (Nat.not_lt_zero _)
    | succ fu_ ih_ =>
      intro k hf_ hk hno
      refine j_iload_n dX2_brotherIn_2 rfl ?_
      refine j_aload_n dX2_brotherIn_3 rfl rfl ?_
      refine mj_get hO dX2_brotherIn_4 fd_X2_7_2 rfl ?_
      refine j_iconst (v := 2) dX2_brotherIn_7 (by decide) ?_
      refine mj_iald (j := 0) (i := 2) hO dX2_brotherIn_8 (by decide) rfl (by decide) ?_
      refine j_icmp_ge (tgt := 39) dX2_brotherIn_9 (by decide) (fun c_ => ?_) (fun c_ => ?_)
      · obtain rfl := n_end hn hn16 hk c_
        refine j_bipush (v := (-15)) dX2_brotherIn_39 (by decide) ?_
        exact j_ireturn dX2_brotherIn_41 rfl (mjv (by unfold mBrotherIn mInCell; rw [mfind_none hno]; rfl) rfl)
      · have hk_ := n_on hn hn16 c_ hk
        refine j_aload_n dX2_brotherIn_12 rfl rfl ?_
        refine j_iload_n dX2_brotherIn_13 rfl ?_
        refine j_iconst (v := 1) dX2_brotherIn_14 (by decide) ?_
        refine j_callV (mm_X2_isSo hO s (b := k) (by omega) 1) dX2_brotherIn_15 mt_X2_isSo q2244 q2246 qs46 (hO.at s (i := 0) (by decide)) (by decide) rfl cd_X2_isSo (Nat.le_of_ble_eq_true rfl) rfl rfl (Nat.le_of_ble_eq_true rfl) (jk_v ?_) jx_v
        refine j_ifeqB (tgt := 33) dX2_brotherIn_18 (by decide) (fun c18 => ?_) (fun c18 => ?_)
        · refine j_iinc (v := nI (k + 1)) dX2_brotherIn_33 rfl (nI_1 _) (by decide) rfl ?_
          refine j_goto (tgt := 2) dX2_brotherIn_36 (by decide) ?_
          refine j_locs (ls2 := [(0, .ref (L 0)), (1, .int c), (2, .int (nI (k + 1)))]) ⟨rfl, rfl, rfl, trivial⟩ (ih_ (k + 1) (by omega) (by omega) (lt_s hno (by first | (simp_all [msum]; done) | (simp_all [jb, mSo, mEnt, msum, mCounts, mAhead, mSenior, mShab]; done) | (simp_all [jb, mSo, mEnt, msum, mCounts, mAhead, mSenior, mShab, ← Int32.not_lt]; done) | grind [jb, msum, mCounts])))
        · refine j_aload_n dX2_brotherIn_21 rfl rfl ?_
          refine j_iload_n dX2_brotherIn_22 rfl ?_
          refine j_iconst (v := 3) dX2_brotherIn_23 (by decide) ?_
          refine j_callV (mm_X2_of hO s (b := k) (k := 3) (by omega) (by omega)) dX2_brotherIn_24 mt_X2_of q2248 q2250 qs47 (hO.at s (i := 0) (by decide)) (by decide) rfl cd_X2_of (Nat.le_of_ble_eq_true rfl) rfl rfl (Nat.le_of_ble_eq_true rfl) (jk_v ?_) jx_v
          refine j_iload_n dX2_brotherIn_27 rfl ?_
          refine j_icmp_ne (tgt := 33) dX2_brotherIn_28 (by decide) (fun c28 => ?_) (fun c28 => ?_)
          · refine j_iinc (v := nI (k + 1)) dX2_brotherIn_33 rfl (nI_1 _) (by decide) rfl ?_
            refine j_goto (tgt := 2) dX2_brotherIn_36 (by decide) ?_
            refine j_locs (ls2 := [(0, .ref (L 0)), (1, .int c), (2, .int (nI (k + 1)))]) ⟨rfl, rfl, rfl, trivial⟩ (ih_ (k + 1) (by omega) (by omega) (lt_s hno (by first | (simp_all [msum]; done) | (simp_all [jb, mSo, mEnt, msum, mCounts, mAhead, mSenior, mShab]; done) | (simp_all [jb, mSo, mEnt, msum, mCounts, mAhead, mSenior, mShab, ← Int32.not_lt]; done) | grind [jb, msum, mCounts])))
          · refine j_iload_n dX2_brotherIn_31 rfl ?_
            exact j_ireturn dX2_brotherIn_32 rfl (mjv (by unfold mBrotherIn mInCell; rw [mfind_some hk_ hno (by first | (simp_all [msum]; done) | (simp_all [jb, mSo, mEnt, msum, mCounts, mAhead, mSenior, mShab]; done) | (simp_all [jb, mSo, mEnt, msum, mCounts, mAhead, mSenior, mShab, ← Int32.not_lt]; done) | grind [jb, msum, mCounts])]; rfl) rfl)
  refine j_locs (ls2 := [(0, .ref (L 0)), (1, .int c), (2, .int (nI 0))]) ⟨rfl, rfl, rfl, trivial⟩ ?_
  exact lf_ _ 0 (Nat.lt_succ_self _) (Nat.zero_le _) (fun _ h => absurd h (Nat.not_lt_zero _))

theorem mm_X2_inLine (hO : mOK G M L) (s : MS) {n : Nat} (hn : s.2 0 2 = nI n) (hn16 : n ≤ 16) (place : Int32) : JM l G 3 yX2_inLine wX2_inLine [.ref (L 0), .int place] (mput M L s) (jv (.int (mInLine s n place)) (mput M L s)) := by
  refine JM.of pn_X2 (Nat.le_of_ble_eq_true rfl) (hO.1.1) ?_
  show JW l G 3 YX2_inLine _ 0 [(0, .ref (L 0)), (1, .int place)] [] (mput M L s)
  refine j_iconst (v := 0) dX2_inLine_0 (by decide) ?_
  refine j_istore_n dX2_inLine_1 (by decide) rfl ?_
  have lf_ : ∀ (fu_ : Nat) (k : Nat), n - k < fu_ → (k ≤ n) → (∀ j, j < k → (fun b => mSo s b 0 && decide (mPlace s n b = place)) j = false) → JW l G 3 YX2_inLine (jv (.int (mInLine s n place)) (mput M L s)) 2 [(0, .ref (L 0)), (1, .int place), (2, .int (nI k))] [] (mput M L s) := by
    intro fu_
    induction fu_ with
    | zero => intro k hf_; exact absurd hf_ (Nat.not_lt_zero _)
    | succ fu_ ih_ =>
      intro k hf_ hk hno
      refine j_iload_n dX2_inLine_2 rfl ?_
      refine j_aload_n dX2_inLine_3 rfl rfl ?_
      refine mj_get hO dX2_inLine_4 fd_X2_7_2 rfl ?_
      refine j_iconst (v := 2) dX2_inLine_7 (by decide) ?_
      refine mj_iald (j := 0) (i := 2) hO dX2_inLine_8 (by decide) rfl (by decide) ?_
      refine j_icmp_ge (tgt := 38) dX2_inLine_9 (by decide) (fun c_ => ?_) (fun c_ => ?_)
      · obtain rfl := n_end hn hn16 hk c_
        refine j_bipush (v := (-11)) dX2_inLine_38 (by decide) ?_
        exact j_ireturn dX2_inLine_40 rfl (mjv (by unfold mInLine; rw [mfind_none hno]; rfl) rfl)
      · have hk_ := n_on hn hn16 c_ hk
        refine j_aload_n dX2_inLine_12 rfl rfl ?_
        refine j_iload_n dX2_inLine_13 rfl ?_
        refine j_iconst (v := 0) dX2_inLine_14 (by decide) ?_
        refine j_callV (mm_X2_isSo hO s (b := k) (by omega) 0) dX2_inLine_15 mt_X2_isSo q2244 q2246 qs46 (hO.at s (i := 0) (by decide)) (by decide) rfl cd_X2_isSo (Nat.le_of_ble_eq_true rfl) rfl rfl (Nat.le_of_ble_eq_true rfl) (jk_v ?_) jx_v
        refine j_ifeqB (tgt := 32) dX2_inLine_18 (by decide) (fun c18 => ?_) (fun c18 => ?_)
        · refine j_iinc (v := nI (k + 1)) dX2_inLine_32 rfl (nI_1 _) (by decide) rfl ?_
          refine j_goto (tgt := 2) dX2_inLine_35 (by decide) ?_
          refine j_locs (ls2 := [(0, .ref (L 0)), (1, .int place), (2, .int (nI (k + 1)))]) ⟨rfl, rfl, rfl, trivial⟩ (ih_ (k + 1) (by omega) (by omega) (lt_s hno (by first | (simp_all [msum]; done) | (simp_all [jb, mSo, mEnt, msum, mCounts, mAhead, mSenior, mShab]; done) | (simp_all [jb, mSo, mEnt, msum, mCounts, mAhead, mSenior, mShab, ← Int32.not_lt]; done) | grind [jb, msum, mCounts])))
        · refine j_aload_n dX2_inLine_21 rfl rfl ?_
          refine j_iload_n dX2_inLine_22 rfl ?_
          refine j_callV (mm_X2_placeInLine hO s hn hn16 (b := k) (by omega)) dX2_inLine_23 mt_X2_placeInLine q2434 q2436 qs81 (hO.at s (i := 0) (by decide)) (by decide) rfl cd_X2_placeInLine (Nat.le_of_ble_eq_true rfl) rfl rfl (Nat.le_of_ble_eq_true rfl) (jk_v ?_) jx_v
          refine j_iload_n dX2_inLine_26 rfl ?_
          refine j_icmp_ne (tgt := 32) dX2_inLine_27 (by decide) (fun c27 => ?_) (fun c27 => ?_)
          · refine j_iinc (v := nI (k + 1)) dX2_inLine_32 rfl (nI_1 _) (by decide) rfl ?_
            refine j_goto (tgt := 2) dX2_inLine_35 (by decide) ?_
            refine j_locs (ls2 := [(0, .ref (L 0)), (1, .int place), (2, .int (nI (k + 1)))]) ⟨rfl, rfl, rfl, trivial⟩ (ih_ (k + 1) (by omega) (by omega) (lt_s hno (by first | (simp_all [msum]; done) | (simp_all [jb, mSo, mEnt, msum, mCounts, mAhead, mSenior, mShab]; done) | (simp_all [jb, mSo, mEnt, msum, mCounts, mAhead, mSenior, mShab, ← Int32.not_lt]; done) | grind [jb, msum, mCounts])))
          · refine j_iload_n dX2_inLine_30 rfl ?_
            exact j_ireturn dX2_inLine_31 rfl (mjv (by unfold mInLine; rw [mfind_some hk_ hno (by first | (simp_all [msum]; done) | (simp_all [jb, mSo, mEnt, msum, mCounts, mAhead, mSenior, mShab]; done) | (simp_all [jb, mSo, mEnt, msum, mCounts, mAhead, mSenior, mShab, ← Int32.not_lt]; done) | grind [jb, msum, mCounts])]; rfl) rfl)
  refine j_locs (ls2 := [(0, .ref (L 0)), (1, .int place), (2, .int (nI 0))]) ⟨rfl, rfl, rfl, trivial⟩ ?_
  exact lf_ _ 0 (Nat.lt_succ_self _) (Nat.zero_le _) (fun _ h => absurd h (Nat.not_lt_zero _))

theorem mm_X2_isSeniorTo (hO : mOK G M L) (s : MS) {a b : Nat} (ha : a < 16) (hb : b < 16) : JM l G 1 yX2_isSeniorTo wX2_isSeniorTo [.ref (L 0), .int (nI a), .int (nI b)] (mput M L s) (jv (.int (jb (mSenior s a b))) (mput M L s)) := by
  refine JM.of pn_X2 (Nat.le_of_ble_eq_true rfl) (hO.1.1) ?_
  show JW l G 1 YX2_isSeniorTo _ 0 [(0, .ref (L 0)), (1, .int (nI a)), (2, .int (nI b))] [] (mput M L s)
  refine j_aload_n dX2_isSeniorTo_0 rfl rfl ?_
  refine j_iload_n dX2_isSeniorTo_1 rfl ?_
  refine j_bipush (v := 8) dX2_isSeniorTo_2 (by decide) ?_
  refine j_callV (mm_X2_of hO s (b := a) (k := 8) (by omega) (by omega)) dX2_isSeniorTo_4 mt_X2_of q2248 q2250 qs47 (hO.at s (i := 0) (by decide)) (by decide) rfl cd_X2_of (Nat.le_of_ble_eq_true rfl) rfl rfl (Nat.le_of_ble_eq_true rfl) (jk_v ?_) jx_v
  refine j_aload_n dX2_isSeniorTo_7 rfl rfl ?_
  refine j_iload_n dX2_isSeniorTo_8 rfl ?_
  refine j_bipush (v := 8) dX2_isSeniorTo_9 (by decide) ?_
  refine j_callV (mm_X2_of hO s (b := b) (k := 8) (by omega) (by omega)) dX2_isSeniorTo_11 mt_X2_of q2248 q2250 qs47 (hO.at s (i := 0) (by decide)) (by decide) rfl cd_X2_of (Nat.le_of_ble_eq_true rfl) rfl rfl (Nat.le_of_ble_eq_true rfl) (jk_v ?_) jx_v
  refine j_icmp_ge (tgt := 21) dX2_isSeniorTo_14 (by decide) (fun c14 => ?_) (fun c14 => ?_)
  · refine j_iconst (v := 0) dX2_isSeniorTo_21 (by decide) ?_
    exact j_zreturn dX2_isSeniorTo_22 rfl rfl (mjv (by first | (simp_all [msum]; done) | (simp_all [jb, mSo, mEnt, msum, mCounts, mAhead, mSenior, mShab]; done) | (simp_all [jb, mSo, mEnt, msum, mCounts, mAhead, mSenior, mShab, ← Int32.not_lt]; done) | grind [jb, msum, mCounts]) rfl)
  · refine j_iconst (v := 1) dX2_isSeniorTo_17 (by decide) ?_
    refine j_goto (tgt := 22) dX2_isSeniorTo_18 (by decide) ?_
    exact j_zreturn dX2_isSeniorTo_22 rfl rfl (mjv (by first | (simp_all [msum]; done) | (simp_all [jb, mSo, mEnt, msum, mCounts, mAhead, mSenior, mShab]; done) | (simp_all [jb, mSo, mEnt, msum, mCounts, mAhead, mSenior, mShab, ← Int32.not_lt]; done) | grind [jb, msum, mCounts]) rfl)

theorem mm_X2_isShabbier (hO : mOK G M L) (s : MS) {a b : Nat} (ha : a < 16) (hb : b < 16) : JM l G 2 yX2_isShabbier wX2_isShabbier [.ref (L 0), .int (nI a), .int (nI b)] (mput M L s) (jv (.int (jb (mShab s a b))) (mput M L s)) := by
  refine JM.of pn_X2 (Nat.le_of_ble_eq_true rfl) (hO.1.1) ?_
  show JW l G 2 YX2_isShabbier _ 0 [(0, .ref (L 0)), (1, .int (nI a)), (2, .int (nI b))] [] (mput M L s)
  refine j_aload_n dX2_isShabbier_0 rfl rfl ?_
  refine j_iload_n dX2_isShabbier_1 rfl ?_
  refine j_iconst (v := 4) dX2_isShabbier_2 (by decide) ?_
  refine j_callV (mm_X2_of hO s (b := a) (k := 4) (by omega) (by omega)) dX2_isShabbier_3 mt_X2_of q2248 q2250 qs47 (hO.at s (i := 0) (by decide)) (by decide) rfl cd_X2_of (Nat.le_of_ble_eq_true rfl) rfl rfl (Nat.le_of_ble_eq_true rfl) (jk_v ?_) jx_v
  refine j_aload_n dX2_isShabbier_6 rfl rfl ?_
  refine j_iload_n dX2_isShabbier_7 rfl ?_
  refine j_iconst (v := 4) dX2_isShabbier_8 (by decide) ?_
  refine j_callV (mm_X2_of hO s (b := b) (k := 4) (by omega) (by omega)) dX2_isShabbier_9 mt_X2_of q2248 q2250 qs47 (hO.at s (i := 0) (by decide)) (by decide) rfl cd_X2_of (Nat.le_of_ble_eq_true rfl) rfl rfl (Nat.le_of_ble_eq_true rfl) (jk_v ?_) jx_v
  refine j_icmp_eq (tgt := 38) dX2_isShabbier_12 (by decide) (fun c12 => ?_) (fun c12 => ?_)
  · refine j_aload_n dX2_isShabbier_38 rfl rfl ?_
    refine j_iload_n dX2_isShabbier_39 rfl ?_
    refine j_iload_n dX2_isShabbier_40 rfl ?_
    refine j_callV (mm_X2_isSeniorTo hO s (a := a) (b := b) (by omega) (by omega)) dX2_isShabbier_41 mt_X2_isSeniorTo q2410 q2412 qs78 (hO.at s (i := 0) (by decide)) (by decide) rfl cd_X2_isSeniorTo (Nat.le_of_ble_eq_true rfl) rfl rfl (Nat.le_of_ble_eq_true rfl) (jk_v ?_) jx_v
    exact j_zreturn dX2_isShabbier_44 rfl (nar_jb _) (mjv (by simp_all [jb, mShab, mSenior, ← Int32.not_lt]) rfl)
  · refine j_aload_n dX2_isShabbier_15 rfl rfl ?_
    refine j_iload_n dX2_isShabbier_16 rfl ?_
    refine j_iconst (v := 4) dX2_isShabbier_17 (by decide) ?_
    refine j_callV (mm_X2_of hO s (b := a) (k := 4) (by omega) (by omega)) dX2_isShabbier_18 mt_X2_of q2248 q2250 qs47 (hO.at s (i := 0) (by decide)) (by decide) rfl cd_X2_of (Nat.le_of_ble_eq_true rfl) rfl rfl (Nat.le_of_ble_eq_true rfl) (jk_v ?_) jx_v
    refine j_aload_n dX2_isShabbier_21 rfl rfl ?_
    refine j_iload_n dX2_isShabbier_22 rfl ?_
    refine j_iconst (v := 4) dX2_isShabbier_23 (by decide) ?_
    refine j_callV (mm_X2_of hO s (b := b) (k := 4) (by omega) (by omega)) dX2_isShabbier_24 mt_X2_of q2248 q2250 qs47 (hO.at s (i := 0) (by decide)) (by decide) rfl cd_X2_of (Nat.le_of_ble_eq_true rfl) rfl rfl (Nat.le_of_ble_eq_true rfl) (jk_v ?_) jx_v
    refine j_icmp_le (tgt := 34) dX2_isShabbier_27 (by decide) (fun c27 => ?_) (fun c27 => ?_)
    · refine j_iconst (v := 0) dX2_isShabbier_34 (by decide) ?_
      refine j_goto (tgt := 44) dX2_isShabbier_35 (by decide) ?_
      exact j_zreturn dX2_isShabbier_44 rfl rfl (mjv (by simp_all [jb, mShab, mSenior, ← Int32.not_lt]) rfl)
    · refine j_iconst (v := 1) dX2_isShabbier_30 (by decide) ?_
      refine j_goto (tgt := 44) dX2_isShabbier_31 (by decide) ?_
      exact j_zreturn dX2_isShabbier_44 rfl rfl (mjv (by simp_all [jb, mShab, mSenior, ← Int32.not_lt]) rfl)

theorem mm_X2_isChosenAhead (hO : mOK G M L) (s : MS) {n : Nat} (hn : s.2 0 2 = nI n) (hn16 : n ≤ 16) {a b : Nat} (ha : a < 16) (hb : b < 16) : JM l G 3 yX2_isChosenAhead wX2_isChosenAhead [.ref (L 0), .int (nI a), .int (nI b)] (mput M L s) (jv (.int (jb (mAhead s n a b))) (mput M L s)) := by
  refine JM.of pn_X2 (Nat.le_of_ble_eq_true rfl) (hO.1.1) ?_
  show JW l G 3 YX2_isChosenAhead _ 0 [(0, .ref (L 0)), (1, .int (nI a)), (2, .int (nI b))] [] (mput M L s)
  refine j_aload_n dX2_isChosenAhead_0 rfl rfl ?_
  refine j_iload_n dX2_isChosenAhead_1 rfl ?_
  refine j_callV (mm_X2_voicesFor hO s hn hn16 (b := a) (by omega)) dX2_isChosenAhead_2 mt_X2_voicesFor q2276 q2278 qs53 (hO.at s (i := 0) (by decide)) (by decide) rfl cd_X2_voicesFor (Nat.le_of_ble_eq_true rfl) rfl rfl (Nat.le_of_ble_eq_true rfl) (jk_v ?_) jx_v
  refine j_aload_n dX2_isChosenAhead_5 rfl rfl ?_
  refine j_iload_n dX2_isChosenAhead_6 rfl ?_
  refine j_callV (mm_X2_voicesFor hO s hn hn16 (b := b) (by omega)) dX2_isChosenAhead_7 mt_X2_voicesFor q2276 q2278 qs53 (hO.at s (i := 0) (by decide)) (by decide) rfl cd_X2_voicesFor (Nat.le_of_ble_eq_true rfl) rfl rfl (Nat.le_of_ble_eq_true rfl) (jk_v ?_) jx_v
  refine j_icmp_eq (tgt := 34) dX2_isChosenAhead_10 (by decide) (fun c10 => ?_) (fun c10 => ?_)
  · refine j_aload_n dX2_isChosenAhead_34 rfl rfl ?_
    refine j_iload_n dX2_isChosenAhead_35 rfl ?_
    refine j_bipush (v := 8) dX2_isChosenAhead_36 (by decide) ?_
    refine j_callV (mm_X2_of hO s (b := a) (k := 8) (by omega) (by omega)) dX2_isChosenAhead_38 mt_X2_of q2248 q2250 qs47 (hO.at s (i := 0) (by decide)) (by decide) rfl cd_X2_of (Nat.le_of_ble_eq_true rfl) rfl rfl (Nat.le_of_ble_eq_true rfl) (jk_v ?_) jx_v
    refine j_aload_n dX2_isChosenAhead_41 rfl rfl ?_
    refine j_iload_n dX2_isChosenAhead_42 rfl ?_
    refine j_bipush (v := 8) dX2_isChosenAhead_43 (by decide) ?_
    refine j_callV (mm_X2_of hO s (b := b) (k := 8) (by omega) (by omega)) dX2_isChosenAhead_45 mt_X2_of q2248 q2250 qs47 (hO.at s (i := 0) (by decide)) (by decide) rfl cd_X2_of (Nat.le_of_ble_eq_true rfl) rfl rfl (Nat.le_of_ble_eq_true rfl) (jk_v ?_) jx_v
    refine j_icmp_ge (tgt := 55) dX2_isChosenAhead_48 (by decide) (fun c48 => ?_) (fun c48 => ?_)
    · refine j_iconst (v := 0) dX2_isChosenAhead_55 (by decide) ?_
      exact j_zreturn dX2_isChosenAhead_56 rfl rfl (mjv (by simp_all [jb, mAhead, ← Int32.not_lt]) rfl)
    · refine j_iconst (v := 1) dX2_isChosenAhead_51 (by decide) ?_
      refine j_goto (tgt := 56) dX2_isChosenAhead_52 (by decide) ?_
      exact j_zreturn dX2_isChosenAhead_56 rfl rfl (mjv (by simp_all [jb, mAhead, ← Int32.not_lt]) rfl)
  · refine j_aload_n dX2_isChosenAhead_13 rfl rfl ?_
    refine j_iload_n dX2_isChosenAhead_14 rfl ?_
    refine j_callV (mm_X2_voicesFor hO s hn hn16 (b := a) (by omega)) dX2_isChosenAhead_15 mt_X2_voicesFor q2276 q2278 qs53 (hO.at s (i := 0) (by decide)) (by decide) rfl cd_X2_voicesFor (Nat.le_of_ble_eq_true rfl) rfl rfl (Nat.le_of_ble_eq_true rfl) (jk_v ?_) jx_v
    refine j_aload_n dX2_isChosenAhead_18 rfl rfl ?_
    refine j_iload_n dX2_isChosenAhead_19 rfl ?_
    refine j_callV (mm_X2_voicesFor hO s hn hn16 (b := b) (by omega)) dX2_isChosenAhead_20 mt_X2_voicesFor q2276 q2278 qs53 (hO.at s (i := 0) (by decide)) (by decide) rfl cd_X2_voicesFor (Nat.le_of_ble_eq_true rfl) rfl rfl (Nat.le_of_ble_eq_true rfl) (jk_v ?_) jx_v
    refine j_icmp_le (tgt := 30) dX2_isChosenAhead_23 (by decide) (fun c23 => ?_) (fun c23 => ?_)
    · refine j_iconst (v := 0) dX2_isChosenAhead_30 (by decide) ?_
      refine j_goto (tgt := 56) dX2_isChosenAhead_31 (by decide) ?_
      exact j_zreturn dX2_isChosenAhead_56 rfl rfl (mjv (by simp_all [jb, mAhead, ← Int32.not_lt]) rfl)
    · refine j_iconst (v := 1) dX2_isChosenAhead_26 (by decide) ?_
      refine j_goto (tgt := 56) dX2_isChosenAhead_27 (by decide) ?_
      exact j_zreturn dX2_isChosenAhead_56 rfl rfl (mjv (by simp_all [jb, mAhead, ← Int32.not_lt]) rfl)

theorem mm_X2_rankedAt (hO : mOK G M L) (s : MS) {n : Nat} (hn : s.2 0 2 = nI n) (hn16 : n ≤ 16) (place : Int32) : JM l G 4 yX2_rankedAt wX2_rankedAt [.ref (L 0), .int place] (mput M L s) (jv (.int (mRanked s n place)) (mput M L s)) := by
  refine JM.of pn_X2 (Nat.le_of_ble_eq_true rfl) (hO.1.1) ?_
  show JW l G 4 YX2_rankedAt _ 0 [(0, .ref (L 0)), (1, .int place)] [] (mput M L s)
  refine j_iconst (v := 0) dX2_rankedAt_0 (by decide) ?_
  refine j_istore_n dX2_rankedAt_1 (by decide) rfl ?_
  have lf_ : ∀ (fu_ : Nat) (k : Nat), n - k < fu_ → (k ≤ n) → (∀ j, j < k → (fun b => mSo s b 0 && decide (mCountAhead s n 0 (mAhead s n) b = place)) j = false) → JW l G 4 YX2_rankedAt (jv (.int (mRanked s n place)) (mput M L s)) 2 [(0, .ref (L 0)), (1, .int place), (2, .int (nI k))] [] (mput M L s) := by
    intro fu_
    induction fu_ with
    | zero => intro k hf_; exact absurd hf_ (Nat.not_lt_zero _)
    | succ fu_ ih_ =>
      intro k hf_ hk hno
      refine j_iload_n dX2_rankedAt_2 rfl ?_
      refine j_aload_n dX2_rankedAt_3 rfl rfl ?_
      refine mj_get hO dX2_rankedAt_4 fd_X2_7_2 rfl ?_
      refine j_iconst (v := 2) dX2_rankedAt_7 (by decide) ?_
      refine mj_iald (j := 0) (i := 2) hO dX2_rankedAt_8 (by decide) rfl (by decide) ?_
      refine j_icmp_ge (tgt := 87) dX2_rankedAt_9 (by decide) (fun c_ => ?_) (fun c_ => ?_)
      · obtain rfl := n_end hn hn16 hk c_
        refine j_bipush (v := (-11)) dX2_rankedAt_87 (by decide) ?_
        exact j_ireturn dX2_rankedAt_89 rfl (mjv (by unfold mRanked mAt; rw [mfind_none hno]; rfl) rfl)
      · have hk_ := n_on hn hn16 c_ hk
        refine j_aload_n dX2_rankedAt_12 rfl rfl ?_
        refine j_iload_n dX2_rankedAt_13 rfl ?_
        refine j_iconst (v := 0) dX2_rankedAt_14 (by decide) ?_
        refine j_callV (mm_X2_isSo hO s (b := k) (by omega) 0) dX2_rankedAt_15 mt_X2_isSo q2244 q2246 qs46 (hO.at s (i := 0) (by decide)) (by decide) rfl cd_X2_isSo (Nat.le_of_ble_eq_true rfl) rfl rfl (Nat.le_of_ble_eq_true rfl) (jk_v ?_) jx_v
        refine j_ifneB (tgt := 24) dX2_rankedAt_18 (by decide) (fun c18 => ?_) (fun c18 => ?_)
        · refine j_iconst (v := 0) dX2_rankedAt_24 (by decide) ?_
          refine j_istore_n dX2_rankedAt_25 (by decide) rfl ?_
          refine j_iconst (v := 0) dX2_rankedAt_26 (by decide) ?_
          refine j_istore dX2_rankedAt_27 (by decide) rfl ?_
          have lq_ : ∀ (fv_ : Nat) (q : Nat) (acc : Int32), n - q < fv_ → (q ≤ n) → (acc = msum (fun q => jb (mSo s q 0 && mAhead s n q k)) q) → JW l G 4 YX2_rankedAt (jv (.int (mRanked s n place)) (mput M L s)) 29 [(0, .ref (L 0)), (1, .int place), (2, .int (nI k)), (3, .int acc), (4, .int (nI q))] [] (mput M L s) := by
            intro fv_
            induction fv_ with
            | zero => intro q acc hg_; exact absurd hg_ (Nat.not_lt_zero _)
            | succ fv_ ij_ =>
              intro q acc hg_ hq hacc
              refine j_iload dX2_rankedAt_29 rfl ?_
              refine j_aload_n dX2_rankedAt_31 rfl rfl ?_
              refine mj_get hO dX2_rankedAt_32 fd_X2_7_2 rfl ?_
              refine j_iconst (v := 2) dX2_rankedAt_35 (by decide) ?_
              refine mj_iald (j := 0) (i := 2) hO dX2_rankedAt_36 (by decide) rfl (by decide) ?_
              refine j_icmp_ge (tgt := 74) dX2_rankedAt_37 (by decide) (fun c2_ => ?_) (fun c2_ => ?_)
              · obtain rfl := n_end hn hn16 hq c2_
                refine j_iload_n dX2_rankedAt_74 rfl ?_
                refine j_iload_n dX2_rankedAt_75 rfl ?_
                refine j_icmp_ne (tgt := 81) dX2_rankedAt_76 (by decide) (fun c76 => ?_) (fun c76 => ?_)
                · refine j_iinc (v := nI (k + 1)) dX2_rankedAt_81 rfl (nI_1 _) (by decide) rfl ?_
                  refine j_goto (tgt := 2) dX2_rankedAt_84 (by decide) ?_
                  refine j_locs (ls2 := [(0, .ref (L 0)), (1, .int place), (2, .int (nI (k + 1)))]) ⟨rfl, rfl, rfl, trivial⟩ (ih_ (k + 1) (by omega) (by omega) (lt_s hno (by simp_all [mCountAhead, mSo])))
                · refine j_iload_n dX2_rankedAt_79 rfl ?_
                  exact j_ireturn dX2_rankedAt_80 rfl (mjv (by unfold mRanked mAt; rw [mfind_some hk_ hno (by simp_all [mCountAhead])]; rfl) rfl)
              · have hq_ := n_on hn hn16 c2_ hq
                refine j_iload_n dX2_rankedAt_40 rfl ?_
                refine j_aload_n dX2_rankedAt_41 rfl rfl ?_
                refine j_iload dX2_rankedAt_42 rfl ?_
                refine j_iconst (v := 0) dX2_rankedAt_44 (by decide) ?_
                refine j_callV (mm_X2_isSo hO s (b := q) (by omega) 0) dX2_rankedAt_45 mt_X2_isSo q2244 q2246 qs46 (hO.at s (i := 0) (by decide)) (by decide) rfl cd_X2_isSo (Nat.le_of_ble_eq_true rfl) rfl rfl (Nat.le_of_ble_eq_true rfl) (jk_v ?_) jx_v
                refine j_ifeqB (tgt := 65) dX2_rankedAt_48 (by decide) (fun c48 => ?_) (fun c48 => ?_)
                · refine j_iconst (v := 0) dX2_rankedAt_65 (by decide) ?_
                  refine j_iadd dX2_rankedAt_66 ?_
                  refine j_istore_n dX2_rankedAt_67 (by decide) rfl ?_
                  refine j_iinc (v := nI (q + 1)) dX2_rankedAt_68 rfl (nI_1 _) (by decide) rfl ?_
                  refine j_goto (tgt := 29) dX2_rankedAt_71 (by decide) ?_
                  refine j_locs (ls2 := [(0, .ref (L 0)), (1, .int place), (2, .int (nI k)), (3, .int (acc + 0)), (4, .int (nI (q + 1)))]) ⟨rfl, rfl, rfl, rfl, rfl, trivial⟩ (ij_ (q + 1) (acc + 0) (by omega) (by omega) (by rw [hacc]; first | (simp_all [msum]; done) | (simp_all [jb, mSo, mEnt, msum, mCounts, mAhead, mSenior, mShab]; done) | (simp_all [jb, mSo, mEnt, msum, mCounts, mAhead, mSenior, mShab, ← Int32.not_lt]; done) | grind [jb, msum, mCounts]))
                · refine j_aload_n dX2_rankedAt_51 rfl rfl ?_
                  refine j_iload dX2_rankedAt_52 rfl ?_
                  refine j_iload_n dX2_rankedAt_54 rfl ?_
                  refine j_callV (mm_X2_isChosenAhead hO s hn hn16 (a := q) (b := k) (by omega) (by omega)) dX2_rankedAt_55 mt_X2_isChosenAhead q2307 q2309 qs59 (hO.at s (i := 0) (by decide)) (by decide) rfl cd_X2_isChosenAhead (Nat.le_of_ble_eq_true rfl) rfl rfl (Nat.le_of_ble_eq_true rfl) (jk_v ?_) jx_v
                  refine j_ifeqB (tgt := 65) dX2_rankedAt_58 (by decide) (fun c58 => ?_) (fun c58 => ?_)
                  · refine j_iconst (v := 0) dX2_rankedAt_65 (by decide) ?_
                    refine j_iadd dX2_rankedAt_66 ?_
                    refine j_istore_n dX2_rankedAt_67 (by decide) rfl ?_
                    refine j_iinc (v := nI (q + 1)) dX2_rankedAt_68 rfl (nI_1 _) (by decide) rfl ?_
                    refine j_goto (tgt := 29) dX2_rankedAt_71 (by decide) ?_
                    refine j_locs (ls2 := [(0, .ref (L 0)), (1, .int place), (2, .int (nI k)), (3, .int (acc + 0)), (4, .int (nI (q + 1)))]) ⟨rfl, rfl, rfl, rfl, rfl, trivial⟩ (ij_ (q + 1) (acc + 0) (by omega) (by omega) (by rw [hacc]; first | (simp_all [msum]; done) | (simp_all [jb, mSo, mEnt, msum, mCounts, mAhead, mSenior, mShab]; done) | (simp_all [jb, mSo, mEnt, msum, mCounts, mAhead, mSenior, mShab, ← Int32.not_lt]; done) | grind [jb, msum, mCounts]))
                  · refine j_iconst (v := 1) dX2_rankedAt_61 (by decide) ?_
                    refine j_goto (tgt := 66) dX2_rankedAt_62 (by decide) ?_
                    refine j_iadd dX2_rankedAt_66 ?_
                    refine j_istore_n dX2_rankedAt_67 (by decide) rfl ?_
                    refine j_iinc (v := nI (q + 1)) dX2_rankedAt_68 rfl (nI_1 _) (by decide) rfl ?_
                    refine j_goto (tgt := 29) dX2_rankedAt_71 (by decide) ?_
                    refine j_locs (ls2 := [(0, .ref (L 0)), (1, .int place), (2, .int (nI k)), (3, .int (acc + 1)), (4, .int (nI (q + 1)))]) ⟨rfl, rfl, rfl, rfl, rfl, trivial⟩ (ij_ (q + 1) (acc + 1) (by omega) (by omega) (by rw [hacc]; first | (simp_all [msum]; done) | (simp_all [jb, mSo, mEnt, msum, mCounts, mAhead, mSenior, mShab]; done) | (simp_all [jb, mSo, mEnt, msum, mCounts, mAhead, mSenior, mShab, ← Int32.not_lt]; done) | grind [jb, msum, mCounts]))
          refine j_locs (ls2 := [(0, .ref (L 0)), (1, .int place), (2, .int (nI k)), (3, .int 0), (4, .int (nI 0))]) ⟨rfl, rfl, rfl, rfl, rfl, trivial⟩ ?_
          exact lq_ _ 0 0 (Nat.lt_succ_self _) (Nat.zero_le _) rfl
        · refine j_goto (tgt := 81) dX2_rankedAt_21 (by decide) ?_
          refine j_iinc (v := nI (k + 1)) dX2_rankedAt_81 rfl (nI_1 _) (by decide) rfl ?_
          refine j_goto (tgt := 2) dX2_rankedAt_84 (by decide) ?_
          refine j_locs (ls2 := [(0, .ref (L 0)), (1, .int place), (2, .int (nI (k + 1)))]) ⟨rfl, rfl, rfl, trivial⟩ (ih_ (k + 1) (by omega) (by omega) (lt_s hno (by simp_all [mCountAhead, mSo])))
  refine j_locs (ls2 := [(0, .ref (L 0)), (1, .int place), (2, .int (nI 0))]) ⟨rfl, rfl, rfl, trivial⟩ ?_
  exact lf_ _ 0 (Nat.lt_succ_self _) (Nat.zero_le _) (fun _ h => absurd h (Nat.not_lt_zero _))

theorem mm_X2_shabbyAt (hO : mOK G M L) (s : MS) {n : Nat} (hn : s.2 0 2 = nI n) (hn16 : n ≤ 16) (place : Int32) : JM l G 3 yX2_shabbyAt wX2_shabbyAt [.ref (L 0), .int place] (mput M L s) (jv (.int (mShabbyAt s n place)) (mput M L s)) := by
  refine JM.of pn_X2 (Nat.le_of_ble_eq_true rfl) (hO.1.1) ?_
  show JW l G 3 YX2_shabbyAt _ 0 [(0, .ref (L 0)), (1, .int place)] [] (mput M L s)
  refine j_iconst (v := 0) dX2_shabbyAt_0 (by decide) ?_
  refine j_istore_n dX2_shabbyAt_1 (by decide) rfl ?_
  have lf_ : ∀ (fu_ : Nat) (k : Nat), n - k < fu_ → (k ≤ n) → (∀ j, j < k → (fun b => mSo s b 1 && decide (mCountAhead s n 1 (mShab s) b = place)) j = false) → JW l G 3 YX2_shabbyAt (jv (.int (mShabbyAt s n place)) (mput M L s)) 2 [(0, .ref (L 0)), (1, .int place), (2, .int (nI k))] [] (mput M L s) := by
    intro fu_
    induction fu_ with
    | zero => intro k hf_; exact absurd hf_ (Nat.not_lt_zero _)
    | succ fu_ ih_ =>
      intro k hf_ hk hno
      refine j_iload_n dX2_shabbyAt_2 rfl ?_
      refine j_aload_n dX2_shabbyAt_3 rfl rfl ?_
      refine mj_get hO dX2_shabbyAt_4 fd_X2_7_2 rfl ?_
      refine j_iconst (v := 2) dX2_shabbyAt_7 (by decide) ?_
      refine mj_iald (j := 0) (i := 2) hO dX2_shabbyAt_8 (by decide) rfl (by decide) ?_
      refine j_icmp_ge (tgt := 87) dX2_shabbyAt_9 (by decide) (fun c_ => ?_) (fun c_ => ?_)
      · obtain rfl := n_end hn hn16 hk c_
        refine j_bipush (v := (-11)) dX2_shabbyAt_87 (by decide) ?_
        exact j_ireturn dX2_shabbyAt_89 rfl (mjv (by unfold mShabbyAt mAt; rw [mfind_none hno]; rfl) rfl)
      · have hk_ := n_on hn hn16 c_ hk
        refine j_aload_n dX2_shabbyAt_12 rfl rfl ?_
        refine j_iload_n dX2_shabbyAt_13 rfl ?_
        refine j_iconst (v := 1) dX2_shabbyAt_14 (by decide) ?_
        refine j_callV (mm_X2_isSo hO s (b := k) (by omega) 1) dX2_shabbyAt_15 mt_X2_isSo q2244 q2246 qs46 (hO.at s (i := 0) (by decide)) (by decide) rfl cd_X2_isSo (Nat.le_of_ble_eq_true rfl) rfl rfl (Nat.le_of_ble_eq_true rfl) (jk_v ?_) jx_v
        refine j_ifneB (tgt := 24) dX2_shabbyAt_18 (by decide) (fun c18 => ?_) (fun c18 => ?_)
        · refine j_iconst (v := 0) dX2_shabbyAt_24 (by decide) ?_
          refine j_istore_n dX2_shabbyAt_25 (by decide) rfl ?_
          refine j_iconst (v := 0) dX2_shabbyAt_26 (by decide) ?_
          refine j_istore dX2_shabbyAt_27 (by decide) rfl ?_
          have lq_ : ∀ (fv_ : Nat) (q : Nat) (acc : Int32), n - q < fv_ → (q ≤ n) → (acc = msum (fun q => jb (mSo s q 1 && mShab s q k)) q) → JW l G 3 YX2_shabbyAt (jv (.int (mShabbyAt s n place)) (mput M L s)) 29 [(0, .ref (L 0)), (1, .int place), (2, .int (nI k)), (3, .int acc), (4, .int (nI q))] [] (mput M L s) := by
            intro fv_
            induction fv_ with
            | zero => intro q acc hg_; exact absurd hg_ (Nat.not_lt_zero _)
            | succ fv_ ij_ =>
              intro q acc hg_ hq hacc
              refine j_iload dX2_shabbyAt_29 rfl ?_
              refine j_aload_n dX2_shabbyAt_31 rfl rfl ?_
              refine mj_get hO dX2_shabbyAt_32 fd_X2_7_2 rfl ?_
              refine j_iconst (v := 2) dX2_shabbyAt_35 (by decide) ?_
              refine mj_iald (j := 0) (i := 2) hO dX2_shabbyAt_36 (by decide) rfl (by decide) ?_
              refine j_icmp_ge (tgt := 74) dX2_shabbyAt_37 (by decide) (fun c2_ => ?_) (fun c2_ => ?_)
              · obtain rfl := n_end hn hn16 hq c2_
                refine j_iload_n dX2_shabbyAt_74 rfl ?_
                refine j_iload_n dX2_shabbyAt_75 rfl ?_
                refine j_icmp_ne (tgt := 81) dX2_shabbyAt_76 (by decide) (fun c76 => ?_) (fun c76 => ?_)
                · refine j_iinc (v := nI (k + 1)) dX2_shabbyAt_81 rfl (nI_1 _) (by decide) rfl ?_
                  refine j_goto (tgt := 2) dX2_shabbyAt_84 (by decide) ?_
                  refine j_locs (ls2 := [(0, .ref (L 0)), (1, .int place), (2, .int (nI (k + 1)))]) ⟨rfl, rfl, rfl, trivial⟩ (ih_ (k + 1) (by omega) (by omega) (lt_s hno (by simp_all [mCountAhead, mSo])))
                · refine j_iload_n dX2_shabbyAt_79 rfl ?_
                  exact j_ireturn dX2_shabbyAt_80 rfl (mjv (by unfold mShabbyAt mAt; rw [mfind_some hk_ hno (by simp_all [mCountAhead])]; rfl) rfl)
              · have hq_ := n_on hn hn16 c2_ hq
                refine j_iload_n dX2_shabbyAt_40 rfl ?_
                refine j_aload_n dX2_shabbyAt_41 rfl rfl ?_
                refine j_iload dX2_shabbyAt_42 rfl ?_
                refine j_iconst (v := 1) dX2_shabbyAt_44 (by decide) ?_
                refine j_callV (mm_X2_isSo hO s (b := q) (by omega) 1) dX2_shabbyAt_45 mt_X2_isSo q2244 q2246 qs46 (hO.at s (i := 0) (by decide)) (by decide) rfl cd_X2_isSo (Nat.le_of_ble_eq_true rfl) rfl rfl (Nat.le_of_ble_eq_true rfl) (jk_v ?_) jx_v
                refine j_ifeqB (tgt := 65) dX2_shabbyAt_48 (by decide) (fun c48 => ?_) (fun c48 => ?_)
                · refine j_iconst (v := 0) dX2_shabbyAt_65 (by decide) ?_
                  refine j_iadd dX2_shabbyAt_66 ?_
                  refine j_istore_n dX2_shabbyAt_67 (by decide) rfl ?_
                  refine j_iinc (v := nI (q + 1)) dX2_shabbyAt_68 rfl (nI_1 _) (by decide) rfl ?_
                  refine j_goto (tgt := 29) dX2_shabbyAt_71 (by decide) ?_
                  refine j_locs (ls2 := [(0, .ref (L 0)), (1, .int place), (2, .int (nI k)), (3, .int (acc + 0)), (4, .int (nI (q + 1)))]) ⟨rfl, rfl, rfl, rfl, rfl, trivial⟩ (ij_ (q + 1) (acc + 0) (by omega) (by omega) (by rw [hacc]; first | (simp_all [msum]; done) | (simp_all [jb, mSo, mEnt, msum, mCounts, mAhead, mSenior, mShab]; done) | (simp_all [jb, mSo, mEnt, msum, mCounts, mAhead, mSenior, mShab, ← Int32.not_lt]; done) | grind [jb, msum, mCounts]))
                · refine j_aload_n dX2_shabbyAt_51 rfl rfl ?_
                  refine j_iload dX2_shabbyAt_52 rfl ?_
                  refine j_iload_n dX2_shabbyAt_54 rfl ?_
                  refine j_callV (mm_X2_isShabbier hO s (a := q) (b := k) (by omega) (by omega)) dX2_shabbyAt_55 mt_X2_isShabbier q2406 q2408 qs77 (hO.at s (i := 0) (by decide)) (by decide) rfl cd_X2_isShabbier (Nat.le_of_ble_eq_true rfl) rfl rfl (Nat.le_of_ble_eq_true rfl) (jk_v ?_) jx_v
                  refine j_ifeqB (tgt := 65) dX2_shabbyAt_58 (by decide) (fun c58 => ?_) (fun c58 => ?_)
                  · refine j_iconst (v := 0) dX2_shabbyAt_65 (by decide) ?_
                    refine j_iadd dX2_shabbyAt_66 ?_
                    refine j_istore_n dX2_shabbyAt_67 (by decide) rfl ?_
                    refine j_iinc (v := nI (q + 1)) dX2_shabbyAt_68 rfl (nI_1 _) (by decide) rfl ?_
                    refine j_goto (tgt := 29) dX2_shabbyAt_71 (by decide) ?_
                    refine j_locs (ls2 := [(0, .ref (L 0)), (1, .int place), (2, .int (nI k)), (3, .int (acc + 0)), (4, .int (nI (q + 1)))]) ⟨rfl, rfl, rfl, rfl, rfl, trivial⟩ (ij_ (q + 1) (acc + 0) (by omega) (by omega) (by rw [hacc]; first | (simp_all [msum]; done) | (simp_all [jb, mSo, mEnt, msum, mCounts, mAhead, mSenior, mShab]; done) | (simp_all [jb, mSo, mEnt, msum, mCounts, mAhead, mSenior, mShab, ← Int32.not_lt]; done) | grind [jb, msum, mCounts]))
                  · refine j_iconst (v := 1) dX2_shabbyAt_61 (by decide) ?_
                    refine j_goto (tgt := 66) dX2_shabbyAt_62 (by decide) ?_
                    refine j_iadd dX2_shabbyAt_66 ?_
                    refine j_istore_n dX2_shabbyAt_67 (by decide) rfl ?_
                    refine j_iinc (v := nI (q + 1)) dX2_shabbyAt_68 rfl (nI_1 _) (by decide) rfl ?_
                    refine j_goto (tgt := 29) dX2_shabbyAt_71 (by decide) ?_
                    refine j_locs (ls2 := [(0, .ref (L 0)), (1, .int place), (2, .int (nI k)), (3, .int (acc + 1)), (4, .int (nI (q + 1)))]) ⟨rfl, rfl, rfl, rfl, rfl, trivial⟩ (ij_ (q + 1) (acc + 1) (by omega) (by omega) (by rw [hacc]; first | (simp_all [msum]; done) | (simp_all [jb, mSo, mEnt, msum, mCounts, mAhead, mSenior, mShab]; done) | (simp_all [jb, mSo, mEnt, msum, mCounts, mAhead, mSenior, mShab, ← Int32.not_lt]; done) | grind [jb, msum, mCounts]))
          refine j_locs (ls2 := [(0, .ref (L 0)), (1, .int place), (2, .int (nI k)), (3, .int 0), (4, .int (nI 0))]) ⟨rfl, rfl, rfl, rfl, rfl, trivial⟩ ?_
          exact lq_ _ 0 0 (Nat.lt_succ_self _) (Nat.zero_le _) rfl
        · refine j_goto (tgt := 81) dX2_shabbyAt_21 (by decide) ?_
          refine j_iinc (v := nI (k + 1)) dX2_shabbyAt_81 rfl (nI_1 _) (by decide) rfl ?_
          refine j_goto (tgt := 2) dX2_shabbyAt_84 (by decide) ?_
          refine j_locs (ls2 := [(0, .ref (L 0)), (1, .int place), (2, .int (nI (k + 1)))]) ⟨rfl, rfl, rfl, trivial⟩ (ih_ (k + 1) (by omega) (by omega) (lt_s hno (by simp_all [mCountAhead, mSo])))
  refine j_locs (ls2 := [(0, .ref (L 0)), (1, .int place), (2, .int (nI 0))]) ⟨rfl, rfl, rfl, trivial⟩ ?_
  exact lf_ _ 0 (Nat.lt_succ_self _) (Nat.zero_le _) (fun _ h => absurd h (Nat.not_lt_zero _))

theorem mm_X2_senior (hO : mOK G M L) (s : MS) {n : Nat} (hn : s.2 0 2 = nI n) (hn16 : n ≤ 16) (place : Int32) : JM l G 2 yX2_senior wX2_senior [.ref (L 0), .int place] (mput M L s) (jv (.int (mSeniorAt s n place)) (mput M L s)) := by
  refine JM.of pn_X2 (Nat.le_of_ble_eq_true rfl) (hO.1.1) ?_
  show JW l G 2 YX2_senior _ 0 [(0, .ref (L 0)), (1, .int place)] [] (mput M L s)
  refine j_iconst (v := 0) dX2_senior_0 (by decide) ?_
  refine j_istore_n dX2_senior_1 (by decide) rfl ?_
  have lf_ : ∀ (fu_ : Nat) (k : Nat), n - k < fu_ → (k ≤ n) → (∀ j, j < k → (fun b => mSo s b 1 && decide (mCountAhead s n 1 (mSenior s) b = place)) j = false) → JW l G 2 YX2_senior (jv (.int (mSeniorAt s n place)) (mput M L s)) 2 [(0, .ref (L 0)), (1, .int place), (2, .int (nI k))] [] (mput M L s) := by
    intro fu_
    induction fu_ with
    | zero => intro k hf_; exact absurd hf_ (Nat.not_lt_zero _)
    | succ fu_ ih_ =>
      intro k hf_ hk hno
      refine j_iload_n dX2_senior_2 rfl ?_
      refine j_aload_n dX2_senior_3 rfl rfl ?_
      refine mj_get hO dX2_senior_4 fd_X2_7_2 rfl ?_
      refine j_iconst (v := 2) dX2_senior_7 (by decide) ?_
      refine mj_iald (j := 0) (i := 2) hO dX2_senior_8 (by decide) rfl (by decide) ?_
      refine j_icmp_ge (tgt := 87) dX2_senior_9 (by decide) (fun c_ => ?_) (fun c_ => ?_)
      · obtain rfl := n_end hn hn16 hk c_
        refine j_bipush (v := (-11)) dX2_senior_87 (by decide) ?_
        exact j_ireturn dX2_senior_89 rfl (mjv (by unfold mSeniorAt mAt; rw [mfind_none hno]; rfl) rfl)
      · have hk_ := n_on hn hn16 c_ hk
        refine j_aload_n dX2_senior_12 rfl rfl ?_
        refine j_iload_n dX2_senior_13 rfl ?_
        refine j_iconst (v := 1) dX2_senior_14 (by decide) ?_
        refine j_callV (mm_X2_isSo hO s (b := k) (by omega) 1) dX2_senior_15 mt_X2_isSo q2244 q2246 qs46 (hO.at s (i := 0) (by decide)) (by decide) rfl cd_X2_isSo (Nat.le_of_ble_eq_true rfl) rfl rfl (Nat.le_of_ble_eq_true rfl) (jk_v ?_) jx_v
        refine j_ifneB (tgt := 24) dX2_senior_18 (by decide) (fun c18 => ?_) (fun c18 => ?_)
        · refine j_iconst (v := 0) dX2_senior_24 (by decide) ?_
          refine j_istore_n dX2_senior_25 (by decide) rfl ?_
          refine j_iconst (v := 0) dX2_senior_26 (by decide) ?_
          refine j_istore dX2_senior_27 (by decide) rfl ?_
          have lq_ : ∀ (fv_ : Nat) (q : Nat) (acc : Int32), n - q < fv_ → (q ≤ n) → (acc = msum (fun q => jb (mSo s q 1 && mSenior s q k)) q) → JW l G 2 YX2_senior (jv (.int (mSeniorAt s n place)) (mput M L s)) 29 [(0, .ref (L 0)), (1, .int place), (2, .int (nI k)), (3, .int acc), (4, .int (nI q))] [] (mput M L s) := by
            intro fv_
            induction fv_ with
            | zero => intro q acc hg_; exact absurd hg_ (Nat.not_lt_zero _)
            | succ fv_ ij_ =>
              intro q acc hg_ hq hacc
              refine j_iload dX2_senior_29 rfl ?_
              refine j_aload_n dX2_senior_31 rfl rfl ?_
              refine mj_get hO dX2_senior_32 fd_X2_7_2 rfl ?_
              refine j_iconst (v := 2) dX2_senior_35 (by decide) ?_
              refine mj_iald (j := 0) (i := 2) hO dX2_senior_36 (by decide) rfl (by decide) ?_
              refine j_icmp_ge (tgt := 74) dX2_senior_37 (by decide) (fun c2_ => ?_) (fun c2_ => ?_)
              · obtain rfl := n_end hn hn16 hq c2_
                refine j_iload_n dX2_senior_74 rfl ?_
                refine j_iload_n dX2_senior_75 rfl ?_
                refine j_icmp_ne (tgt := 81) dX2_senior_76 (by decide) (fun c76 => ?_) (fun c76 => ?_)
                · refine j_iinc (v := nI (k + 1)) dX2_senior_81 rfl (nI_1 _) (by decide) rfl ?_
                  refine j_goto (tgt := 2) dX2_senior_84 (by decide) ?_
                  refine j_locs (ls2 := [(0, .ref (L 0)), (1, .int place), (2, .int (nI (k + 1)))]) ⟨rfl, rfl, rfl, trivial⟩ (ih_ (k + 1) (by omega) (by omega) (lt_s hno (by simp_all [mCountAhead, mSo])))
                · refine j_iload_n dX2_senior_79 rfl ?_
                  exact j_ireturn dX2_senior_80 rfl (mjv (by unfold mSeniorAt mAt; rw [mfind_some hk_ hno (by simp_all [mCountAhead])]; rfl) rfl)
              · have hq_ := n_on hn hn16 c2_ hq
                refine j_iload_n dX2_senior_40 rfl ?_
                refine j_aload_n dX2_senior_41 rfl rfl ?_
                refine j_iload dX2_senior_42 rfl ?_
                refine j_iconst (v := 1) dX2_senior_44 (by decide) ?_
                refine j_callV (mm_X2_isSo hO s (b := q) (by omega) 1) dX2_senior_45 mt_X2_isSo q2244 q2246 qs46 (hO.at s (i := 0) (by decide)) (by decide) rfl cd_X2_isSo (Nat.le_of_ble_eq_true rfl) rfl rfl (Nat.le_of_ble_eq_true rfl) (jk_v ?_) jx_v
                refine j_ifeqB (tgt := 65) dX2_senior_48 (by decide) (fun c48 => ?_) (fun c48 => ?_)
                · refine j_iconst (v := 0) dX2_senior_65 (by decide) ?_
                  refine j_iadd dX2_senior_66 ?_
                  refine j_istore_n dX2_senior_67 (by decide) rfl ?_
                  refine j_iinc (v := nI (q + 1)) dX2_senior_68 rfl (nI_1 _) (by decide) rfl ?_
                  refine j_goto (tgt := 29) dX2_senior_71 (by decide) ?_
                  refine j_locs (ls2 := [(0, .ref (L 0)), (1, .int place), (2, .int (nI k)), (3, .int (acc + 0)), (4, .int (nI (q + 1)))]) ⟨rfl, rfl, rfl, rfl, rfl, trivial⟩ (ij_ (q + 1) (acc + 0) (by omega) (by omega) (by rw [hacc]; first | (simp_all [msum]; done) | (simp_all [jb, mSo, mEnt, msum, mCounts, mAhead, mSenior, mShab]; done) | (simp_all [jb, mSo, mEnt, msum, mCounts, mAhead, mSenior, mShab, ← Int32.not_lt]; done) | grind [jb, msum, mCounts]))
                · refine j_aload_n dX2_senior_51 rfl rfl ?_
                  refine j_iload dX2_senior_52 rfl ?_
                  refine j_iload_n dX2_senior_54 rfl ?_
                  refine j_callV (mm_X2_isSeniorTo hO s (a := q) (b := k) (by omega) (by omega)) dX2_senior_55 mt_X2_isSeniorTo q2410 q2412 qs78 (hO.at s (i := 0) (by decide)) (by decide) rfl cd_X2_isSeniorTo (Nat.le_of_ble_eq_true rfl) rfl rfl (Nat.le_of_ble_eq_true rfl) (jk_v ?_) jx_v
                  refine j_ifeqB (tgt := 65) dX2_senior_58 (by decide) (fun c58 => ?_) (fun c58 => ?_)
                  · refine j_iconst (v := 0) dX2_senior_65 (by decide) ?_
                    refine j_iadd dX2_senior_66 ?_
                    refine j_istore_n dX2_senior_67 (by decide) rfl ?_
                    refine j_iinc (v := nI (q + 1)) dX2_senior_68 rfl (nI_1 _) (by decide) rfl ?_
                    refine j_goto (tgt := 29) dX2_senior_71 (by decide) ?_
                    refine j_locs (ls2 := [(0, .ref (L 0)), (1, .int place), (2, .int (nI k)), (3, .int (acc + 0)), (4, .int (nI (q + 1)))]) ⟨rfl, rfl, rfl, rfl, rfl, trivial⟩ (ij_ (q + 1) (acc + 0) (by omega) (by omega) (by rw [hacc]; first | (simp_all [msum]; done) | (simp_all [jb, mSo, mEnt, msum, mCounts, mAhead, mSenior, mShab]; done) | (simp_all [jb, mSo, mEnt, msum, mCounts, mAhead, mSenior, mShab, ← Int32.not_lt]; done) | grind [jb, msum, mCounts]))
                  · refine j_iconst (v := 1) dX2_senior_61 (by decide) ?_
                    refine j_goto (tgt := 66) dX2_senior_62 (by decide) ?_
                    refine j_iadd dX2_senior_66 ?_
                    refine j_istore_n dX2_senior_67 (by decide) rfl ?_
                    refine j_iinc (v := nI (q + 1)) dX2_senior_68 rfl (nI_1 _) (by decide) rfl ?_
                    refine j_goto (tgt := 29) dX2_senior_71 (by decide) ?_
                    refine j_locs (ls2 := [(0, .ref (L 0)), (1, .int place), (2, .int (nI k)), (3, .int (acc + 1)), (4, .int (nI (q + 1)))]) ⟨rfl, rfl, rfl, rfl, rfl, trivial⟩ (ij_ (q + 1) (acc + 1) (by omega) (by omega) (by rw [hacc]; first | (simp_all [msum]; done) | (simp_all [jb, mSo, mEnt, msum, mCounts, mAhead, mSenior, mShab]; done) | (simp_all [jb, mSo, mEnt, msum, mCounts, mAhead, mSenior, mShab, ← Int32.not_lt]; done) | grind [jb, msum, mCounts]))
          refine j_locs (ls2 := [(0, .ref (L 0)), (1, .int place), (2, .int (nI k)), (3, .int 0), (4, .int (nI 0))]) ⟨rfl, rfl, rfl, rfl, rfl, trivial⟩ ?_
          exact lq_ _ 0 0 (Nat.lt_succ_self _) (Nat.zero_le _) rfl
        · refine j_goto (tgt := 81) dX2_senior_21 (by decide) ?_
          refine j_iinc (v := nI (k + 1)) dX2_senior_81 rfl (nI_1 _) (by decide) rfl ?_
          refine j_goto (tgt := 2) dX2_senior_84 (by decide) ?_
          refine j_locs (ls2 := [(0, .ref (L 0)), (1, .int place), (2, .int (nI (k + 1)))]) ⟨rfl, rfl, rfl, trivial⟩ (ih_ (k + 1) (by omega) (by omega) (lt_s hno (by simp_all [mCountAhead, mSo])))
  refine j_locs (ls2 := [(0, .ref (L 0)), (1, .int place), (2, .int (nI 0))]) ⟨rfl, rfl, rfl, trivial⟩ ?_
  exact lf_ _ 0 (Nat.lt_succ_self _) (Nat.zero_le _) (fun _ h => absurd h (Nat.not_lt_zero _))

theorem mm_X2_ranked (hO : mOK G M L) (s : MS) {n : Nat} (hn : s.2 0 2 = nI n) (hn16 : n ≤ 16) (place : Int32) : JM l G 5 yX2_ranked wX2_ranked [.ref (L 0), .int place] (mput M L s) (jv (.int (mRanked s n place)) (mput M L s)) := by
  refine JM.of pn_X2 (Nat.le_of_ble_eq_true rfl) (hO.1.1) ?_
  show JW l G 5 YX2_ranked _ 0 [(0, .ref (L 0)), (1, .int place)] [] (mput M L s)
  refine j_aload_n dX2_ranked_0 rfl rfl ?_
  refine j_iload_n dX2_ranked_1 rfl ?_
  refine j_callV (mm_X2_rankedAt hO s hn hn16 place) dX2_ranked_2 mt_X2_rankedAt q2303 q2305 qs58 (hO.at s (i := 0) (by decide)) (by decide) rfl cd_X2_rankedAt (Nat.le_of_ble_eq_true rfl) rfl rfl (Nat.le_of_ble_eq_true rfl) (jk_v ?_) jx_v
  exact j_ireturn dX2_ranked_5 rfl (mjv rfl rfl)

theorem mm_X2_shabby (hO : mOK G M L) (s : MS) {n : Nat} (hn : s.2 0 2 = nI n) (hn16 : n ≤ 16) (place : Int32) : JM l G 4 yX2_shabby wX2_shabby [.ref (L 0), .int place] (mput M L s) (jv (.int (mShabbyAt s n place)) (mput M L s)) := by
  refine JM.of pn_X2 (Nat.le_of_ble_eq_true rfl) (hO.1.1) ?_
  show JW l G 4 YX2_shabby _ 0 [(0, .ref (L 0)), (1, .int place)] [] (mput M L s)
  refine j_aload_n dX2_shabby_0 rfl rfl ?_
  refine j_iload_n dX2_shabby_1 rfl ?_
  refine j_callV (mm_X2_shabbyAt hO s hn hn16 place) dX2_shabby_2 mt_X2_shabbyAt q2402 q2404 qs76 (hO.at s (i := 0) (by decide)) (by decide) rfl cd_X2_shabbyAt (Nat.le_of_ble_eq_true rfl) rfl rfl (Nat.le_of_ble_eq_true rfl) (jk_v ?_) jx_v
  exact j_ireturn dX2_shabby_5 rfl (mjv rfl rfl)

end M1
