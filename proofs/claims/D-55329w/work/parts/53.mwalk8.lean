section M8
variable {l : Launch} {G : j_G} {M : j_M} {L : Nat → Nat}
theorem mm_X2_notNow (hO : mOK G M L) (s : MS) {n : Nat} (hn : s.2 0 2 = nI n) (hn16 : n ≤ 16) {q : Nat} (hq : s.1 16 = nI q) (hq7 : q ≤ 7) : JM l G 4 yX2_notNow wX2_notNow [.ref (L 0)] (mput M L s) (jv (.int ((mNotNow s n q).1)) (mput M L ((mNotNow s n q).2))) := by
  refine JM.of pn_X2 (Nat.le_of_ble_eq_true rfl) (hO.1.1) ?_
  show JW l G 4 YX2_notNow _ 0 [(0, .ref (L 0))] [] (mput M L s)
  refine j_aload_n dX2_notNow_0 rfl rfl ?_
  refine mj_get hO dX2_notNow_1 fd_X2_29_2 rfl ?_
  refine j_iconst (v := 0) dX2_notNow_4 (by decide) ?_
  refine mj_iald (j := 6) (i := 0) hO dX2_notNow_5 (by decide) rfl (by decide) ?_
  refine j_istore_n dX2_notNow_6 (by decide) rfl ?_
  refine j_aload_n dX2_notNow_7 rfl rfl ?_
  refine mj_get hO dX2_notNow_8 fd_X2_29_2 rfl ?_
  refine j_iconst (v := 1) dX2_notNow_11 (by decide) ?_
  refine mj_iald (j := 6) (i := 1) hO dX2_notNow_12 (by decide) rfl (by decide) ?_
  refine j_istore_n dX2_notNow_13 (by decide) rfl ?_
  refine j_aload_n dX2_notNow_14 rfl rfl ?_
  refine mj_get hO dX2_notNow_15 fd_X2_216_2 rfl ?_
  rw [hq]
  obtain rfl | rfl | rfl | rfl | rfl | rfl | rfl | rfl : q = 0 ∨ q = 1 ∨ q = 2 ∨ q = 3 ∨ q = 4 ∨ q = 5 ∨ q = 6 ∨ q = 7 := by omega
  · refine j_tableIn (off := 42) (tgt := 60) dX2_notNow_18 (by decide +kernel) (by decide +kernel) (by decide +kernel) (by decide) ?_
    refine j_aload_n dX2_notNow_60 rfl rfl ?_
    refine j_iload_n dX2_notNow_61 rfl ?_
    refine j_iload_n dX2_notNow_62 rfl ?_
    refine j_callV (mm_X2_notVoice hO s hn hn16 (s.2 6 0) (s.2 6 1)) dX2_notNow_63 mt_X2_notVoice q2268 q2270 qs51 (hO.at s (i := 0) (by decide)) (by decide) rfl cd_X2_notVoice (Nat.le_of_ble_eq_true rfl) rfl rfl (Nat.le_of_ble_eq_true rfl) (jk_v ?_) jx_v
    exact j_ireturn dX2_notNow_66 rfl (mjv rfl rfl)
  · refine j_tableIn (off := 49) (tgt := 67) dX2_notNow_18 (by decide +kernel) (by decide +kernel) (by decide +kernel) (by decide) ?_
    refine j_aload_n dX2_notNow_67 rfl rfl ?_
    refine j_iload_n dX2_notNow_68 rfl ?_
    refine j_callV (mm_X2_notChoose hO s hn hn16 (s.2 6 0)) dX2_notNow_69 mt_X2_notChoose q2288 q2290 qs55 (hO.at s (i := 0) (by decide)) (by decide) rfl cd_X2_notChoose (Nat.le_of_ble_eq_true rfl) rfl rfl (Nat.le_of_ble_eq_true rfl) (jk_v ?_) jx_v
    exact j_ireturn dX2_notNow_72 rfl (mjv rfl rfl)
  · refine j_tableIn (off := 55) (tgt := 73) dX2_notNow_18 (by decide +kernel) (by decide +kernel) (by decide +kernel) (by decide) ?_
    refine j_aload_n dX2_notNow_73 rfl rfl ?_
    refine j_iload_n dX2_notNow_74 rfl ?_
    refine j_callV (mm_X2_notLeave hO s hn hn16 (s.2 6 0)) dX2_notNow_75 mt_X2_notLeave q2315 q2317 qs60 (hO.at s (i := 0) (by decide)) (by decide) rfl cd_X2_notLeave (Nat.le_of_ble_eq_true rfl) rfl rfl (Nat.le_of_ble_eq_true rfl) (jk_v ?_) jx_v
    exact j_ireturn dX2_notNow_78 rfl (mjv rfl rfl)
  · refine j_tableIn (off := 61) (tgt := 79) dX2_notNow_18 (by decide +kernel) (by decide +kernel) (by decide +kernel) (by decide) ?_
    refine j_aload_n dX2_notNow_79 rfl rfl ?_
    refine j_iload_n dX2_notNow_80 rfl ?_
    refine j_iload_n dX2_notNow_81 rfl ?_
    refine j_callV (mm_X2_notBreach hO s hn hn16 (s.2 6 0) (s.2 6 1)) dX2_notNow_82 mt_X2_notBreach q2339 q2341 qs64 (hO.at s (i := 0) (by decide)) (by decide) rfl cd_X2_notBreach (Nat.le_of_ble_eq_true rfl) rfl rfl (Nat.le_of_ble_eq_true rfl) (jk_v ?_) jx_v
    exact j_ireturn dX2_notNow_85 rfl (mjv rfl rfl)
  · refine j_tableIn (off := 68) (tgt := 86) dX2_notNow_18 (by decide +kernel) (by decide +kernel) (by decide +kernel) (by decide) ?_
    refine j_aload_n dX2_notNow_86 rfl rfl ?_
    refine j_iload_n dX2_notNow_87 rfl ?_
    refine j_callV (mm_X2_notPardon hO s hn hn16 (s.2 6 0)) dX2_notNow_88 mt_X2_notPardon q2351 q2353 qs66 (hO.at s (i := 0) (by decide)) (by decide) rfl cd_X2_notPardon (Nat.le_of_ble_eq_true rfl) rfl rfl (Nat.le_of_ble_eq_true rfl) (jk_v ?_) jx_v
    exact j_ireturn dX2_notNow_91 rfl (mjv rfl rfl)
  · refine j_tableIn (off := 74) (tgt := 92) dX2_notNow_18 (by decide +kernel) (by decide +kernel) (by decide +kernel) (by decide) ?_
    refine j_aload_n dX2_notNow_92 rfl rfl ?_
    refine j_iload_n dX2_notNow_93 rfl ?_
    refine j_iload_n dX2_notNow_94 rfl ?_
    refine j_callV (mm_X2_notFeast hO s (s.2 6 0) (s.2 6 1)) dX2_notNow_95 mt_X2_notFeast q2327 q2329 qs62 (hO.at s (i := 0) (by decide)) (by decide) rfl cd_X2_notFeast (Nat.le_of_ble_eq_true rfl) rfl rfl (Nat.le_of_ble_eq_true rfl) (jk_v ?_) jx_v
    exact j_ireturn dX2_notNow_98 rfl (mjv rfl rfl)
  · refine j_tableIn (off := 81) (tgt := 99) dX2_notNow_18 (by decide +kernel) (by decide +kernel) (by decide +kernel) (by decide) ?_
    refine j_iload_n dX2_notNow_99 rfl ?_
    refine j_iconst (v := 1) dX2_notNow_100 (by decide) ?_
    refine j_sipush (v := 500) dX2_notNow_101 (by decide) ?_
    refine j_callS (mm_X2_isBetween hO s (s.2 6 0) 1 500) dX2_notNow_104 mt_X2_isBetween q2205 q2206 cd_X2_isBetween (Nat.le_of_ble_eq_true rfl) rfl rfl (Nat.le_of_ble_eq_true rfl) (jk_v ?_) jx_v
    refine j_ifeqB (tgt := 114) dX2_notNow_107 (by decide) (fun c107 => ?_) (fun c107 => ?_)
    · refine j_bipush (v := (-12)) dX2_notNow_114 (by decide) ?_
      exact j_ireturn dX2_notNow_116 rfl (mjv (by show _ = (if mIn (s.2 6 0) 1 500 then (0 : Int32) else -12); first | rw [if_pos c107] | rw [if_neg (Bool.eq_false_iff.mp c107)]) rfl)
    · refine j_iconst (v := 0) dX2_notNow_110 (by decide) ?_
      refine j_goto (tgt := 116) dX2_notNow_111 (by decide) ?_
      exact j_ireturn dX2_notNow_116 rfl (mjv (by show _ = (if mIn (s.2 6 0) 1 500 then (0 : Int32) else -12); first | rw [if_pos c107] | rw [if_neg (Bool.eq_false_iff.mp c107)]) rfl)
  · refine j_tableOut (tgt := 117) dX2_notNow_18 (by decide +kernel) (by decide) ?_
    refine j_iload_n dX2_notNow_117 rfl ?_
    refine j_iconst (v := 1) dX2_notNow_118 (by decide) ?_
    refine j_bipush (v := 60) dX2_notNow_119 (by decide) ?_
    refine j_callS (mm_X2_isBetween hO s (s.2 6 0) 1 60) dX2_notNow_121 mt_X2_isBetween q2205 q2206 cd_X2_isBetween (Nat.le_of_ble_eq_true rfl) rfl rfl (Nat.le_of_ble_eq_true rfl) (jk_v ?_) jx_v
    refine j_ifeqB (tgt := 131) dX2_notNow_124 (by decide) (fun c124 => ?_) (fun c124 => ?_)
    · refine j_bipush (v := (-12)) dX2_notNow_131 (by decide) ?_
      exact j_ireturn dX2_notNow_133 rfl (mjv (by show _ = (if mIn (s.2 6 0) 1 60 then (0 : Int32) else -12); first | rw [if_pos c124] | rw [if_neg (Bool.eq_false_iff.mp c124)]) rfl)
    · refine j_iconst (v := 0) dX2_notNow_127 (by decide) ?_
      refine j_goto (tgt := 133) dX2_notNow_128 (by decide) ?_
      exact j_ireturn dX2_notNow_133 rfl (mjv (by show _ = (if mIn (s.2 6 0) 1 60 then (0 : Int32) else -12); first | rw [if_pos c124] | rw [if_neg (Bool.eq_false_iff.mp c124)]) rfl)

theorem mm_X2_doesNow (hO : mOK G M L) (s : MS) {n : Nat} (hn : s.2 0 2 = nI n) (hn16 : n ≤ 16) {q : Nat} (hq : s.1 16 = nI q) (hq7 : q ≤ 7) (hw : mWk s) (h0 : (mNotNow s n q).1 = 0) : JM l G 7 yX2_doesNow wX2_doesNow [.ref (L 0)] (mput M L s) (jv (.int ((mDoesNow s n q).1)) (mput M L ((mDoesNow s n q).2))) := by
  refine JM.of pn_X2 (Nat.le_of_ble_eq_true rfl) (hO.1.1) ?_
  show JW l G 7 YX2_doesNow _ 0 [(0, .ref (L 0))] [] (mput M L s)
  refine j_aload_n dX2_doesNow_0 rfl rfl ?_
  refine mj_get hO dX2_doesNow_1 fd_X2_29_2 rfl ?_
  refine j_iconst (v := 0) dX2_doesNow_4 (by decide) ?_
  refine mj_iald (j := 6) (i := 0) hO dX2_doesNow_5 (by decide) rfl (by decide) ?_
  refine j_istore_n dX2_doesNow_6 (by decide) rfl ?_
  refine j_aload_n dX2_doesNow_7 rfl rfl ?_
  refine mj_get hO dX2_doesNow_8 fd_X2_29_2 rfl ?_
  refine j_iconst (v := 1) dX2_doesNow_11 (by decide) ?_
  refine mj_iald (j := 6) (i := 1) hO dX2_doesNow_12 (by decide) rfl (by decide) ?_
  refine j_istore_n dX2_doesNow_13 (by decide) rfl ?_
  refine j_aload_n dX2_doesNow_14 rfl rfl ?_
  refine mj_get hO dX2_doesNow_15 fd_X2_216_2 rfl ?_
  rw [hq]
  obtain rfl | rfl | rfl | rfl | rfl | rfl | rfl | rfl : q = 0 ∨ q = 1 ∨ q = 2 ∨ q = 3 ∨ q = 4 ∨ q = 5 ∨ q = 6 ∨ q = 7 := by omega
  · refine j_tableIn (off := 42) (tgt := 60) dX2_doesNow_18 (by decide +kernel) (by decide +kernel) (by decide +kernel) (by decide) ?_
    obtain ⟨hx_, hy_, -, -, -, -⟩ := mNotVoice_0 h0
    refine j_aload_n dX2_doesNow_60 rfl rfl ?_
    refine j_iload_n dX2_doesNow_61 rfl ?_
    refine j_iload_n dX2_doesNow_62 rfl ?_
    refine j_callV (mm_X2_gives hO s hn hn16 hx_ hy_) dX2_doesNow_63 mt_X2_gives q2272 q2274 qs52 (hO.at s (i := 0) (by decide)) (by decide) rfl cd_X2_gives (Nat.le_of_ble_eq_true rfl) rfl rfl (Nat.le_of_ble_eq_true rfl) (jk_v ?_) jx_v
    exact j_ireturn dX2_doesNow_66 rfl (mjv rfl rfl)
  · refine j_tableIn (off := 49) (tgt := 67) dX2_doesNow_18 (by decide +kernel) (by decide +kernel) (by decide +kernel) (by decide) ?_
    obtain ⟨-, -, hr_, -⟩ := mNotChoose_0 h0
    refine j_aload_n dX2_doesNow_67 rfl rfl ?_
    refine j_iload_n dX2_doesNow_68 rfl ?_
    refine j_callV (mm_X2_chooses hO s hn hn16 (s.2 6 0) hr_) dX2_doesNow_69 mt_X2_chooses q2299 q2301 qs57 (hO.at s (i := 0) (by decide)) (by decide) rfl cd_X2_chooses (Nat.le_of_ble_eq_true rfl) rfl rfl (Nat.le_of_ble_eq_true rfl) (jk_v ?_) jx_v
    exact j_ireturn dX2_doesNow_72 rfl (mjv rfl rfl)
  · refine j_tableIn (off := 55) (tgt := 73) dX2_doesNow_18 (by decide +kernel) (by decide +kernel) (by decide +kernel) (by decide) ?_
    obtain ⟨-, hl_, -⟩ := mNotLeave_0 h0
    refine j_aload_n dX2_doesNow_73 rfl rfl ?_
    refine j_iload_n dX2_doesNow_74 rfl ?_
    refine j_callV (mm_X2_leaves hO s hn hn16 (s.2 6 0) hl_) dX2_doesNow_75 mt_X2_leaves q2319 q2321 qs61 (hO.at s (i := 0) (by decide)) (by decide) rfl cd_X2_leaves (Nat.le_of_ble_eq_true rfl) rfl rfl (Nat.le_of_ble_eq_true rfl) (jk_v ?_) jx_v
    exact j_ireturn dX2_doesNow_78 rfl (mjv rfl rfl)
  · refine j_tableIn (off := 61) (tgt := 79) dX2_doesNow_18 (by decide +kernel) (by decide +kernel) (by decide +kernel) (by decide) ?_
    obtain ⟨hx_, hy_, -, -⟩ := mNotBreach_0 h0
    refine j_aload_n dX2_doesNow_79 rfl rfl ?_
    refine j_iload_n dX2_doesNow_80 rfl ?_
    refine j_iload_n dX2_doesNow_81 rfl ?_
    refine j_callV (mm_X2_breaks hO s hn hn16 hx_ hy_) dX2_doesNow_82 mt_X2_breaks q2343 q2345 qs65 (hO.at s (i := 0) (by decide)) (by decide) rfl cd_X2_breaks (Nat.le_of_ble_eq_true rfl) rfl rfl (Nat.le_of_ble_eq_true rfl) (jk_v ?_) jx_v
    exact j_ireturn dX2_doesNow_85 rfl (mjv rfl rfl)
  · refine j_tableIn (off := 68) (tgt := 86) dX2_doesNow_18 (by decide +kernel) (by decide +kernel) (by decide +kernel) (by decide) ?_
    obtain ⟨hx_, -, -, -⟩ := mNotPardon_0 h0
    refine j_aload_n dX2_doesNow_86 rfl rfl ?_
    refine j_iload_n dX2_doesNow_87 rfl ?_
    refine j_callV (mm_X2_pardons hO s hn hn16 hx_) dX2_doesNow_88 mt_X2_pardons q2355 q2357 qs67 (hO.at s (i := 0) (by decide)) (by decide) rfl cd_X2_pardons (Nat.le_of_ble_eq_true rfl) rfl rfl (Nat.le_of_ble_eq_true rfl) (jk_v ?_) jx_v
    exact j_ireturn dX2_doesNow_91 rfl (mjv rfl rfl)
  · refine j_tableIn (off := 74) (tgt := 92) dX2_doesNow_18 (by decide +kernel) (by decide +kernel) (by decide +kernel) (by decide) ?_
    obtain ⟨hw_, -, -⟩ := mNotFeast_0 h0
    refine j_aload_n dX2_doesNow_92 rfl rfl ?_
    refine j_iload_n dX2_doesNow_93 rfl ?_
    refine j_iload_n dX2_doesNow_94 rfl ?_
    refine j_callV (mm_X2_tells hO s hw_ (s.2 6 1)) dX2_doesNow_95 mt_X2_tells q2331 q2333 qs63 (hO.at s (i := 0) (by decide)) (by decide) rfl cd_X2_tells (Nat.le_of_ble_eq_true rfl) rfl rfl (Nat.le_of_ble_eq_true rfl) (jk_v ?_) jx_v
    exact j_ireturn dX2_doesNow_98 rfl (mjv rfl rfl)
  · refine j_tableIn (off := 81) (tgt := 99) dX2_doesNow_18 (by decide +kernel) (by decide +kernel) (by decide +kernel) (by decide) ?_
    refine j_aload_n dX2_doesNow_99 rfl rfl ?_
    refine j_iload_n dX2_doesNow_100 rfl ?_
    refine j_callV (mm_X2_puts hO s (s.2 6 0)) dX2_doesNow_101 mt_X2_puts q2363 q2365 qs68 (hO.at s (i := 0) (by decide)) (by decide) rfl cd_X2_puts (Nat.le_of_ble_eq_true rfl) rfl rfl (Nat.le_of_ble_eq_true rfl) (jk_v ?_) jx_v
    exact j_ireturn dX2_doesNow_104 rfl (mjv rfl rfl)
  · refine j_tableOut (tgt := 105) dX2_doesNow_18 (by decide +kernel) (by decide) ?_
    have h1_ : mIn (s.2 6 0) 1 60 = true := by
      refine Classical.byContradiction fun w => ?_
      have h2_ : (if mIn (s.2 6 0) 1 60 then (0 : Int32) else -12) = 0 := h0
      rw [if_neg w] at h2_; cases h2_
    obtain ⟨k, -, hk_, ek_⟩ := mIn_of (a := 1) (b := 60) (by decide) h1_ (by decide)
    rw [show (s.2 6 0) = (nI k) from ek_]
    refine j_aload_n dX2_doesNow_105 rfl rfl ?_
    refine j_iload_n dX2_doesNow_106 rfl ?_
    refine j_callV (mm_X2_weeksGo hO s hn hn16 hw (m := k) (by omega)) dX2_doesNow_107 mt_X2_weeksGo q2378 q2380 qs70 (hO.at s (i := 0) (by decide)) (by decide) rfl cd_X2_weeksGo (Nat.le_of_ble_eq_true rfl) rfl rfl (Nat.le_of_ble_eq_true rfl) (jk_v ?_) jx_v
    exact j_ireturn dX2_doesNow_110 rfl (mjv (by show _ = (mWeeksGo s n (mN (s.2 6 0))).1; rw [ek_, mN_nI (by omega)]) (by show _ = (mWeeksGo s n (mN (s.2 6 0))).2; rw [ek_, mN_nI (by omega)]))

theorem mm_X2_doesAll (hO : mOK G M L) (s : MS) {n : Nat} (hn : s.2 0 2 = nI n) (hn16 : n ≤ 16) (hw : mWk s) {len : Nat} (hl : s.1 13 = nI len) (h60 : len ≤ 60) : JM l G 8 yX2_doesAll wX2_doesAll [.ref (L 0)] (mput M L s) (jv (.int (jb (mDoes n len 61 0 (ms_z (ms_z s 17 0) 14 0)).1)) (mput M L ((mDoes n len 61 0 (ms_z (ms_z s 17 0) 14 0)).2))) := by
  refine JM.of pn_X2 (Nat.le_of_ble_eq_true rfl) (hO.1.1) ?_
  show JW l G 8 YX2_doesAll _ 0 [(0, .ref (L 0))] [] (mput M L s)
  refine j_aload_n dX2_doesAll_0 rfl rfl ?_
  refine j_iconst (v := 0) dX2_doesAll_1 (by decide) ?_
  refine mj_put hO dX2_doesAll_2 fd_X2_229_2 rfl (fun r hr => ⟨(ft_2_17 r hr).1, (ft_2_17 r hr).2.1⟩) rfl rfl ?_
  refine j_aload_n dX2_doesAll_5 rfl rfl ?_
  refine j_iconst (v := 0) dX2_doesAll_6 (by decide) ?_
  refine mj_put hO dX2_doesAll_7 fd_X2_207_2 rfl (fun r hr => ⟨(ft_2_14 r hr).1, (ft_2_14 r hr).2.1⟩) rfl rfl ?_
  refine j_iconst (v := 1) dX2_doesAll_10 (by decide) ?_
  refine j_istore_n dX2_doesAll_11 (by decide) rfl ?_
  refine j_iload_n dX2_doesAll_12 rfl ?_
  refine j_if_eq (tgt := 57) dX2_doesAll_13 (by decide) (fun c13 => ?_) (fun c13 => ?_)
  · exact absurd c13 (by decide)
  · have la_ : ∀ (f a : Nat) (t : MS), len - a < f → a ≤ len → t.1 14 = nI a → t.1 13 = nI len → t.2 0 2 = nI n → mWk t → mDoes n len f a t = (mDoes n len 61 0 (ms_z (ms_z s 17 0) 14 0)) → JW l G 8 YX2_doesAll (jv (.int (jb (mDoes n len 61 0 (ms_z (ms_z s 17 0) 14 0)).1)) (mput M L ((mDoes n len 61 0 (ms_z (ms_z s 17 0) 14 0)).2))) 16 [(0, .ref (L 0))] [] (mput M L t) := by
      intro f
      induction f with
      | zero => intro a t h_; exact absurd h_ (Nat.not_lt_zero _)
      | succ f if_ =>
        intro a t hf hal ha hl ht hw hp
        refine j_mem (M' := mput M L (msP t a (t.1 16) (t.2 6))) (congrArg (mput M L) (msP_self t ha)) ?_
        refine j_aload_n dX2_doesAll_16 rfl rfl ?_
        refine j_callV (mm_X2_readsOrder hO t hl h60 (a := a) (by first | assumption | exact pAt_lt (by assumption) | exact pDig_lt (by assumption) | exact (pNum_le _ _ _ _ (by assumption)).2 | exact (pTwo_le _ _ _ _ (by assumption)).2) (t.1 16) (t.2 6)) dX2_doesAll_17 mt_X2_readsOrder q2490 q2492 qs83 (hO.at (msP t a (t.1 16) (t.2 6)) (i := 0) (by decide)) (by decide) rfl cd_X2_readsOrder (Nat.le_of_ble_eq_true rfl) rfl rfl (Nat.le_of_ble_eq_true rfl) (jk_v ?_) jx_v
        show JW l G _ _ _ _ _ _ (mput M L (mT1 t len a))
        refine j_ifeqB (tgt := 30) dX2_doesAll_20 (by decide) (fun c20 => ?_) (fun c20 => ?_)
        · have hD_ : (mDoes n len 61 0 (ms_z (ms_z s 17 0) 14 0)) = (false, (mT1 t len a)) := by
            rw [← hp]; conv => lhs; unfold mDoes
            rw [if_neg (Bool.eq_false_iff.mp c20)]
          refine j_iconst (v := 0) dX2_doesAll_30 (by decide) ?_
          exact j_zreturn dX2_doesAll_31 rfl rfl (mjv (by rw [hD_]; rfl) (by rw [hD_]))
        · have c20_ : (mR t len a).1 = true := c20
          obtain ⟨hq7_, hq_⟩ := mQ_of c20_
          have hle_ : (mR t len a).2.1 ≤ len := (pOrder_le _ _ hal).2
          have hlt_ : a < (mR t len a).2.1 := pOrder_lt hal c20
          refine j_aload_n dX2_doesAll_23 rfl rfl ?_
          refine j_callV (mm_X2_notNow hO (mT1 t len a) (show (mT1 t len a).2 0 2 = nI n by simp only [mset_2, mStamps_2, mBecomes_2, mVoicesGo_2, mClear_2, mGo1_2, mThinks_2, mRemembers_2, mNot_2, mRef_2, mGive_2, mFeastComes_2, mBans_2, mRents_2, mAges_2, mYear0_2, mYear_2, mWeekOn_2, mWeekGoes_2, mWeeksGo_2, mComesIn_2, mGownStep_2, mwset1_2, mCnt_2, msP_2, mLn_2, mT1_2, mT2_2, mLn_2]; exact ht) hn16 hq_ hq7_) dX2_doesAll_24 mt_X2_notNow q2514 q2516 qs89 (hO.at (mT1 t len a) (i := 0) (by decide)) (by decide) rfl cd_X2_notNow (Nat.le_of_ble_eq_true rfl) rfl rfl (Nat.le_of_ble_eq_true rfl) (jk_v ?_) jx_v
          refine j_if_eq (tgt := 32) dX2_doesAll_27 (by decide) (fun c27 => ?_) (fun c27 => ?_)
          · rw [mNotNow_0 c27]
            have hwk_ : mWk (mT1 t len a) := hw
            have h0_ := c27
            refine j_aload_n dX2_doesAll_32 rfl rfl ?_
            refine j_callV (mm_X2_doesNow hO (mT1 t len a) (show (mT1 t len a).2 0 2 = nI n by simp only [mset_2, mStamps_2, mBecomes_2, mVoicesGo_2, mClear_2, mGo1_2, mThinks_2, mRemembers_2, mNot_2, mRef_2, mGive_2, mFeastComes_2, mBans_2, mRents_2, mAges_2, mYear0_2, mYear_2, mWeekOn_2, mWeekGoes_2, mWeeksGo_2, mComesIn_2, mGownStep_2, mwset1_2, mCnt_2, msP_2, mLn_2, mT1_2, mT2_2, mLn_2]; exact ht) hn16 hq_ hq7_ hwk_ h0_) dX2_doesAll_33 mt_X2_doesNow q2518 q2520 qs90 (hO.at (mT1 t len a) (i := 0) (by decide)) (by decide) rfl cd_X2_doesNow (Nat.le_of_ble_eq_true rfl) rfl rfl (Nat.le_of_ble_eq_true rfl) (jk_v ?_) jx_v
            refine j_pop dX2_doesAll_36 rfl ?_
            refine j_aload_n dX2_doesAll_37 rfl rfl ?_
            refine j_dup dX2_doesAll_38 rfl ?_
            refine mj_get hO dX2_doesAll_39 fd_X2_229_2 rfl ?_
            refine j_iconst (v := 1) dX2_doesAll_42 (by decide) ?_
            refine j_iadd dX2_doesAll_43 ?_
            refine mj_put hO dX2_doesAll_44 fd_X2_229_2 rfl (fun r hr => ⟨(ft_2_17 r hr).1, (ft_2_17 r hr).2.1⟩) rfl rfl ?_
            show JW l G _ _ _ _ _ _ (mput M L (mT3 t n len a))
            have e14_ : (mT3 t n len a).1 14 = nI (mR t len a).2.1 := mT2_14 t n len a
            have e13_ : (mT3 t n len a).1 13 = nI len := (mT2_s t n len a 13 (by decide)).trans hl
            have e5_ : (mT3 t n len a).2 5 = t.2 5 := mT2_5 t n len a
            have en_ : (mT3 t n len a).2 0 2 = nI n := (mT2_2 t n len a).trans ht
            have ew_ : mWk (mT3 t n len a) := mT2_wk (t := t) hw
            refine j_mem (M' := mput M L (msP (mT3 t n len a) (mR t len a).2.1 ((mT3 t n len a).1 16) ((mT3 t n len a).2 6))) (congrArg (mput M L) (msP_self (mT3 t n len a) e14_)) ?_
            refine j_aload_n dX2_doesAll_47 rfl rfl ?_
            refine j_bipush (v := 59) dX2_doesAll_48 (by decide) ?_
            have hl0_ := hl
            have hl := e13_
            refine j_callV (mm_X2_reads hO (mT3 t n len a) hl h60 (a := (mR t len a).2.1) (by first | assumption | exact pAt_lt (by assumption) | exact pDig_lt (by assumption) | exact (pNum_le _ _ _ _ (by assumption)).2 | exact (pTwo_le _ _ _ _ (by assumption)).2) ((mT3 t n len a).1 16) ((mT3 t n len a).2 6) 59 (by decide)) dX2_doesAll_50 mt_X2_reads q2494 q2496 qs84 (hO.at (msP (mT3 t n len a) (mR t len a).2.1 ((mT3 t n len a).1 16) ((mT3 t n len a).2 6)) (i := 0) (by decide)) (by decide) rfl cd_X2_reads (Nat.le_of_ble_eq_true rfl) rfl rfl (Nat.le_of_ble_eq_true rfl) (jk_v ?_) jx_v
            refine j_istore_n dX2_doesAll_53 (by decide) rfl ?_
            refine j_goto (tgt := 12) dX2_doesAll_54 (by decide) ?_
            refine j_iload_n dX2_doesAll_12 rfl ?_
            rw [e5_]
            refine j_ifeqB (tgt := 57) dX2_doesAll_13 (by decide) (fun c13 => ?_) (fun c13 => ?_)
            · rw [if_neg (Bool.eq_false_iff.mp c13)]
              show JW l G _ _ _ _ _ _ (mput M L (msP (mT3 t n len a) ((mR t len a).2.1) ((mT3 t n len a).1 16) ((mT3 t n len a).2 6)))
              rw [msP_self (mT3 t n len a) e14_]
              have hD_ : (mDoes n len 61 0 (ms_z (ms_z s 17 0) 14 0)) = (true, (mT3 t n len a)) := by
                rw [← hp]; conv => lhs; unfold mDoes
                rw [if_pos c20_, if_pos c27, if_neg (Bool.eq_false_iff.mp c13)]
              refine j_iconst (v := 1) dX2_doesAll_57 (by decide) ?_
              exact j_zreturn dX2_doesAll_58 rfl rfl (mjv (by rw [hD_]; rfl) (by rw [hD_]))
            · rw [if_pos c13]
              show JW l G _ _ _ _ _ _ (mput M L (msP (mT3 t n len a) ((mR t len a).2.1 + 1) ((mT3 t n len a).1 16) ((mT3 t n len a).2 6)))
              refine j_mem (M' := mput M L (ms_z (mT3 t n len a) 14 (nI ((mR t len a).2.1 + 1)))) (congrArg (mput M L) (show ms_z (mT3 t n len a) 14 (nI ((mR t len a).2.1 + 1)) = msP (mT3 t n len a) ((mR t len a).2.1 + 1) ((mT3 t n len a).1 16) ((mT3 t n len a).2 6) by rw [← msP_at (mT3 t n len a) (mR t len a).2.1, msP_self (mT3 t n len a) e14_])) ?_
              refine j_locs (ls2 := [(0, .ref (L 0))]) ⟨rfl, trivial⟩ (if_ ((mR t len a).2.1 + 1) (ms_z (mT3 t n len a) 14 (nI ((mR t len a).2.1 + 1))) (by omega) (pAt_lt c13) rfl e13_ en_ ew_ ?_)
              rw [← hp]; conv => rhs; unfold mDoes
              rw [if_pos c20_, if_pos c27, if_pos c13]
          · have hD_ : (mDoes n len 61 0 (ms_z (ms_z s 17 0) 14 0)) = (false, (mNotNow (mT1 t len a) n (mQ t len a)).2) := by
              rw [← hp]; conv => lhs; unfold mDoes
              rw [if_pos c20_, if_neg c27]
            refine j_iconst (v := 0) dX2_doesAll_30 (by decide) ?_
            exact j_zreturn dX2_doesAll_31 rfl rfl (mjv (by rw [hD_]; rfl) (by rw [hD_]))
    refine j_locs (ls2 := [(0, .ref (L 0))]) ⟨rfl, trivial⟩ ?_
    exact la_ 61 0 _ (by omega) (Nat.zero_le _) rfl hl hn hw rfl

end M8
