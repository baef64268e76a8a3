section M5
variable {l : Launch} {G : j_G} {M : j_M} {L : Nat → Nat}
theorem mm_X2_brokeAll (hO : mOK G M L) (s : MS) {b : Nat} (hb : b < 16) : JM l G 1 yX2_brokeAll wX2_brokeAll [.ref (L 0), .int (nI b)] (mput M L s) (jv (.int (mBroke s b)) (mput M L s)) := by
  refine JM.of pn_X2 (Nat.le_of_ble_eq_true rfl) (hO.1.1) ?_
  show JW l G 1 YX2_brokeAll _ 0 [(0, .ref (L 0)), (1, .int (nI b))] [] (mput M L s)
  refine j_iconst (v := 0) dX2_brokeAll_0 (by decide) ?_
  refine j_istore_n dX2_brokeAll_1 (by decide) rfl ?_
  refine j_iconst (v := 0) dX2_brokeAll_2 (by decide) ?_
  refine j_istore_n dX2_brokeAll_3 (by decide) rfl ?_
  have l_ : ∀ (fu_ : Nat) (k : Nat) (acc : Int32), 5 - k < fu_ → (k ≤ 5) → (acc = msum (fun r => mo s b (9 + r)) k) → JW l G 1 YX2_brokeAll (jv (.int (mBroke s b)) (mput M L s)) 4 [(0, .ref (L 0)), (1, .int (nI b)), (2, .int acc), (3, .int (nI k))] [] (mput M L s) := by
    intro fu_
    induction fu_ with
    | zero => intro k acc hf_; exact absurd hf_ (Nat.not_lt_zero _)
    | succ fu_ ih_ =>
      intro k acc hf_ hk hacc
      refine j_iload_n dX2_brokeAll_4 rfl ?_
      refine j_iconst (v := 5) dX2_brokeAll_5 (by decide) ?_
      refine j_icmp_ge (tgt := 27) dX2_brokeAll_6 (by decide) (fun q_ => ?_) (fun q_ => ?_)
      · obtain rfl : k = 5 := c_end (n := 5) (by decide) hk q_
        refine j_iload_n dX2_brokeAll_27 rfl ?_
        exact j_ireturn dX2_brokeAll_28 rfl (mjv hacc rfl)
      · have hk_ : k < 5 := c_on (n := 5) (by decide) q_ hk
        refine j_iload_n dX2_brokeAll_9 rfl ?_
        refine j_aload_n dX2_brokeAll_10 rfl rfl ?_
        refine j_iload_n dX2_brokeAll_11 rfl ?_
        refine j_bipush (v := 9) dX2_brokeAll_12 (by decide) ?_
        refine j_iload_n dX2_brokeAll_14 rfl ?_
        refine j_iadd dX2_brokeAll_15 ?_
        rw [show (9 + (nI k)) = (nI (9 + k)) from nI_add 9 k]
        refine j_callV (mm_X2_of hO s (b := b) (k := (9 + k)) (by omega) (by omega)) dX2_brokeAll_16 mt_X2_of q2248 q2250 qs47 (hO.at s (i := 0) (by decide)) (by decide) rfl cd_X2_of (Nat.le_of_ble_eq_true rfl) rfl rfl (Nat.le_of_ble_eq_true rfl) (jk_v ?_) jx_v
        refine j_iadd dX2_brokeAll_19 ?_
        refine j_istore_n dX2_brokeAll_20 (by decide) rfl ?_
        refine j_iinc (v := nI (k + 1)) dX2_brokeAll_21 rfl (nI_1 _) (by decide) rfl ?_
        refine j_goto (tgt := 4) dX2_brokeAll_24 (by decide) ?_
        refine j_locs (ls2 := [(0, .ref (L 0)), (1, .int (nI b)), (2, .int (acc + (mo s b (9 + k)))), (3, .int (nI (k + 1)))]) ⟨rfl, rfl, rfl, rfl, trivial⟩ (ih_ (k + 1) (acc + (mo s b (9 + k))) (by omega) (by omega) (by rw [hacc]; rfl))
  refine j_locs (ls2 := [(0, .ref (L 0)), (1, .int (nI b)), (2, .int 0), (3, .int (nI 0))]) ⟨rfl, rfl, rfl, rfl, trivial⟩ ?_
  exact l_ _ 0 0 (Nat.lt_succ_self _) (Nat.zero_le _) rfl

theorem mm_X2_brotherOf (hO : mOK G M L) (s : MS) {n : Nat} (hn : s.2 0 2 = nI n) (hn16 : n ≤ 16) (x w0 : Int32) : JM l G 3 yX2_brotherOf wX2_brotherOf [.ref (L 0), .int x, .int w0] (mput M L s) (jv (.int (mBrotherOf s n x w0)) (mput M L s)) := by
  refine JM.of pn_X2 (Nat.le_of_ble_eq_true rfl) (hO.1.1) ?_
  show JW l G 3 YX2_brotherOf _ 0 [(0, .ref (L 0)), (1, .int x), (2, .int w0)] [] (mput M L s)
  refine j_aload_n dX2_brotherOf_0 rfl rfl ?_
  refine j_iload_n dX2_brotherOf_1 rfl ?_
  refine j_callV (mm_X2_isBrother hO s x) dX2_brotherOf_2 mt_X2_isBrother q2240 q2242 qs45 (hO.at s (i := 0) (by decide)) (by decide) rfl cd_X2_isBrother (Nat.le_of_ble_eq_true rfl) rfl rfl (Nat.le_of_ble_eq_true rfl) (jk_v ?_) jx_v
  refine j_ifneB (tgt := 11) dX2_brotherOf_5 (by decide) (fun c5 => ?_) (fun c5 => ?_)
  · obtain ⟨b, hb, rfl⟩ := mBr_of hn hn16 c5
    have eb_ : mN (nI b) = b := mN_nI (by omega)
    refine j_iload_n dX2_brotherOf_11 rfl ?_
    rcases m_sw w0 9 (by decide) with ⟨w, hw_, rfl⟩ | ⟨ho_, hin_⟩
    · have hin_ : mIn (nI w) 0 (nI 9) = true := mIn_nI (by decide) hw_
      have ew_ : mN (nI w) = w := mN_nI (by omega)
      obtain rfl | rfl | rfl | rfl | rfl | rfl | rfl | rfl | rfl | rfl : w = 0 ∨ w = 1 ∨ w = 2 ∨ w = 3 ∨ w = 4 ∨ w = 5 ∨ w = 6 ∨ w = 7 ∨ w = 8 ∨ w = 9 := by omega
      · refine j_tableIn (off := 56) (tgt := 68) dX2_brotherOf_12 (by decide +kernel) (by decide +kernel) (by decide +kernel) (by decide) ?_
        refine j_aload_n dX2_brotherOf_68 rfl rfl ?_
        refine j_iload_n dX2_brotherOf_69 rfl ?_
        refine j_iload_n dX2_brotherOf_70 rfl ?_
        refine j_callV (mm_X2_of hO s (b := b) (k := 0) (by omega) (by omega)) dX2_brotherOf_71 mt_X2_of q2248 q2250 qs47 (hO.at s (i := 0) (by decide)) (by decide) rfl cd_X2_of (Nat.le_of_ble_eq_true rfl) rfl rfl (Nat.le_of_ble_eq_true rfl) (jk_v ?_) jx_v
        exact j_ireturn dX2_brotherOf_74 rfl (mjv (by unfold mBrotherOf; rw [if_pos c5, if_pos hin_, eb_, ew_]; rfl) rfl)
      · refine j_tableIn (off := 56) (tgt := 68) dX2_brotherOf_12 (by decide +kernel) (by decide +kernel) (by decide +kernel) (by decide) ?_
        refine j_aload_n dX2_brotherOf_68 rfl rfl ?_
        refine j_iload_n dX2_brotherOf_69 rfl ?_
        refine j_iload_n dX2_brotherOf_70 rfl ?_
        refine j_callV (mm_X2_of hO s (b := b) (k := 1) (by omega) (by omega)) dX2_brotherOf_71 mt_X2_of q2248 q2250 qs47 (hO.at s (i := 0) (by decide)) (by decide) rfl cd_X2_of (Nat.le_of_ble_eq_true rfl) rfl rfl (Nat.le_of_ble_eq_true rfl) (jk_v ?_) jx_v
        exact j_ireturn dX2_brotherOf_74 rfl (mjv (by unfold mBrotherOf; rw [if_pos c5, if_pos hin_, eb_, ew_]; rfl) rfl)
      · refine j_tableIn (off := 56) (tgt := 68) dX2_brotherOf_12 (by decide +kernel) (by decide +kernel) (by decide +kernel) (by decide) ?_
        refine j_aload_n dX2_brotherOf_68 rfl rfl ?_
        refine j_iload_n dX2_brotherOf_69 rfl ?_
        refine j_iload_n dX2_brotherOf_70 rfl ?_
        refine j_callV (mm_X2_of hO s (b := b) (k := 2) (by omega) (by omega)) dX2_brotherOf_71 mt_X2_of q2248 q2250 qs47 (hO.at s (i := 0) (by decide)) (by decide) rfl cd_X2_of (Nat.le_of_ble_eq_true rfl) rfl rfl (Nat.le_of_ble_eq_true rfl) (jk_v ?_) jx_v
        exact j_ireturn dX2_brotherOf_74 rfl (mjv (by unfold mBrotherOf; rw [if_pos c5, if_pos hin_, eb_, ew_]; rfl) rfl)
      · refine j_tableIn (off := 63) (tgt := 75) dX2_brotherOf_12 (by decide +kernel) (by decide +kernel) (by decide +kernel) (by decide) ?_
        refine j_aload_n dX2_brotherOf_75 rfl rfl ?_
        refine j_iload_n dX2_brotherOf_76 rfl ?_
        refine j_iconst (v := 1) dX2_brotherOf_77 (by decide) ?_
        refine j_callV (mm_X2_isSo hO s (b := b) (by omega) 1) dX2_brotherOf_78 mt_X2_isSo q2244 q2246 qs46 (hO.at s (i := 0) (by decide)) (by decide) rfl cd_X2_isSo (Nat.le_of_ble_eq_true rfl) rfl rfl (Nat.le_of_ble_eq_true rfl) (jk_v ?_) jx_v
        refine j_ifeqB (tgt := 93) dX2_brotherOf_81 (by decide) (fun c81 => ?_) (fun c81 => ?_)
        · refine j_bipush (v := (-15)) dX2_brotherOf_93 (by decide) ?_
          exact j_ireturn dX2_brotherOf_95 rfl (mjv (by unfold mBrotherOf; rw [if_pos c5, if_pos hin_, eb_, ew_]; first | exact (if_pos c81).symm | exact (if_neg (Bool.eq_false_iff.mp c81)).symm) rfl)
        · refine j_aload_n dX2_brotherOf_84 rfl rfl ?_
          refine j_iload_n dX2_brotherOf_85 rfl ?_
          refine j_iload_n dX2_brotherOf_86 rfl ?_
          refine j_callV (mm_X2_of hO s (b := b) (k := 3) (by omega) (by omega)) dX2_brotherOf_87 mt_X2_of q2248 q2250 qs47 (hO.at s (i := 0) (by decide)) (by decide) rfl cd_X2_of (Nat.le_of_ble_eq_true rfl) rfl rfl (Nat.le_of_ble_eq_true rfl) (jk_v ?_) jx_v
          refine j_goto (tgt := 95) dX2_brotherOf_90 (by decide) ?_
          exact j_ireturn dX2_brotherOf_95 rfl (mjv (by unfold mBrotherOf; rw [if_pos c5, if_pos hin_, eb_, ew_]; first | exact (if_pos c81).symm | exact (if_neg (Bool.eq_false_iff.mp c81)).symm) rfl)
      · refine j_tableIn (off := 63) (tgt := 75) dX2_brotherOf_12 (by decide +kernel) (by decide +kernel) (by decide +kernel) (by decide) ?_
        refine j_aload_n dX2_brotherOf_75 rfl rfl ?_
        refine j_iload_n dX2_brotherOf_76 rfl ?_
        refine j_iconst (v := 1) dX2_brotherOf_77 (by decide) ?_
        refine j_callV (mm_X2_isSo hO s (b := b) (by omega) 1) dX2_brotherOf_78 mt_X2_isSo q2244 q2246 qs46 (hO.at s (i := 0) (by decide)) (by decide) rfl cd_X2_isSo (Nat.le_of_ble_eq_true rfl) rfl rfl (Nat.le_of_ble_eq_true rfl) (jk_v ?_) jx_v
        refine j_ifeqB (tgt := 93) dX2_brotherOf_81 (by decide) (fun c81 => ?_) (fun c81 => ?_)
        · refine j_bipush (v := (-15)) dX2_brotherOf_93 (by decide) ?_
          exact j_ireturn dX2_brotherOf_95 rfl (mjv (by unfold mBrotherOf; rw [if_pos c5, if_pos hin_, eb_, ew_]; first | exact (if_pos c81).symm | exact (if_neg (Bool.eq_false_iff.mp c81)).symm) rfl)
        · refine j_aload_n dX2_brotherOf_84 rfl rfl ?_
          refine j_iload_n dX2_brotherOf_85 rfl ?_
          refine j_iload_n dX2_brotherOf_86 rfl ?_
          refine j_callV (mm_X2_of hO s (b := b) (k := 4) (by omega) (by omega)) dX2_brotherOf_87 mt_X2_of q2248 q2250 qs47 (hO.at s (i := 0) (by decide)) (by decide) rfl cd_X2_of (Nat.le_of_ble_eq_true rfl) rfl rfl (Nat.le_of_ble_eq_true rfl) (jk_v ?_) jx_v
          refine j_goto (tgt := 95) dX2_brotherOf_90 (by decide) ?_
          exact j_ireturn dX2_brotherOf_95 rfl (mjv (by unfold mBrotherOf; rw [if_pos c5, if_pos hin_, eb_, ew_]; first | exact (if_pos c81).symm | exact (if_neg (Bool.eq_false_iff.mp c81)).symm) rfl)
      · refine j_tableIn (off := 84) (tgt := 96) dX2_brotherOf_12 (by decide +kernel) (by decide +kernel) (by decide +kernel) (by decide) ?_
        refine j_aload_n dX2_brotherOf_96 rfl rfl ?_
        refine j_iload_n dX2_brotherOf_97 rfl ?_
        refine j_iload_n dX2_brotherOf_98 rfl ?_
        refine j_callV (mm_X2_of hO s (b := b) (k := 5) (by omega) (by omega)) dX2_brotherOf_99 mt_X2_of q2248 q2250 qs47 (hO.at s (i := 0) (by decide)) (by decide) rfl cd_X2_of (Nat.le_of_ble_eq_true rfl) rfl rfl (Nat.le_of_ble_eq_true rfl) (jk_v ?_) jx_v
        exact j_ireturn dX2_brotherOf_102 rfl (mjv (by unfold mBrotherOf; rw [if_pos c5, if_pos hin_, eb_, ew_]; rfl) rfl)
      · refine j_tableIn (off := 84) (tgt := 96) dX2_brotherOf_12 (by decide +kernel) (by decide +kernel) (by decide +kernel) (by decide) ?_
        refine j_aload_n dX2_brotherOf_96 rfl rfl ?_
        refine j_iload_n dX2_brotherOf_97 rfl ?_
        refine j_iload_n dX2_brotherOf_98 rfl ?_
        refine j_callV (mm_X2_of hO s (b := b) (k := 6) (by omega) (by omega)) dX2_brotherOf_99 mt_X2_of q2248 q2250 qs47 (hO.at s (i := 0) (by decide)) (by decide) rfl cd_X2_of (Nat.le_of_ble_eq_true rfl) rfl rfl (Nat.le_of_ble_eq_true rfl) (jk_v ?_) jx_v
        exact j_ireturn dX2_brotherOf_102 rfl (mjv (by unfold mBrotherOf; rw [if_pos c5, if_pos hin_, eb_, ew_]; rfl) rfl)
      · refine j_tableIn (off := 91) (tgt := 103) dX2_brotherOf_12 (by decide +kernel) (by decide +kernel) (by decide +kernel) (by decide) ?_
        refine j_aload_n dX2_brotherOf_103 rfl rfl ?_
        refine j_iload_n dX2_brotherOf_104 rfl ?_
        refine j_callV (mm_X2_brokeAll hO s (b := b) (by omega)) dX2_brotherOf_105 mt_X2_brokeAll q2430 q2432 qs80 (hO.at s (i := 0) (by decide)) (by decide) rfl cd_X2_brokeAll (Nat.le_of_ble_eq_true rfl) rfl rfl (Nat.le_of_ble_eq_true rfl) (jk_v ?_) jx_v
        exact j_ireturn dX2_brotherOf_108 rfl (mjv (by unfold mBrotherOf; rw [if_pos c5, if_pos hin_, eb_, ew_]; rfl) rfl)
      · refine j_tableIn (off := 97) (tgt := 109) dX2_brotherOf_12 (by decide +kernel) (by decide +kernel) (by decide +kernel) (by decide) ?_
        refine j_aload_n dX2_brotherOf_109 rfl rfl ?_
        refine j_iload_n dX2_brotherOf_110 rfl ?_
        refine j_bipush (v := 7) dX2_brotherOf_111 (by decide) ?_
        refine j_callV (mm_X2_of hO s (b := b) (k := 7) (by omega) (by omega)) dX2_brotherOf_113 mt_X2_of q2248 q2250 qs47 (hO.at s (i := 0) (by decide)) (by decide) rfl cd_X2_of (Nat.le_of_ble_eq_true rfl) rfl rfl (Nat.le_of_ble_eq_true rfl) (jk_v ?_) jx_v
        refine j_if_ne (tgt := 124) dX2_brotherOf_116 (by decide) (fun c116 => ?_) (fun c116 => ?_)
        · refine j_aload_n dX2_brotherOf_124 rfl rfl ?_
          refine j_iload_n dX2_brotherOf_125 rfl ?_
          refine j_bipush (v := 7) dX2_brotherOf_126 (by decide) ?_
          refine j_callV (mm_X2_of hO s (b := b) (k := 7) (by omega) (by omega)) dX2_brotherOf_128 mt_X2_of q2248 q2250 qs47 (hO.at s (i := 0) (by decide)) (by decide) rfl cd_X2_of (Nat.le_of_ble_eq_true rfl) rfl rfl (Nat.le_of_ble_eq_true rfl) (jk_v ?_) jx_v
          refine j_iconst (v := 1) dX2_brotherOf_131 (by decide) ?_
          refine j_isub dX2_brotherOf_132 ?_
          exact j_ireturn dX2_brotherOf_133 rfl (mjv (by unfold mBrotherOf; rw [if_pos c5, if_pos hin_, eb_, ew_]; first | exact (if_pos c116).symm | exact (if_neg c116).symm) rfl)
        · refine j_bipush (v := (-15)) dX2_brotherOf_119 (by decide) ?_
          refine j_goto (tgt := 133) dX2_brotherOf_121 (by decide) ?_
          exact j_ireturn dX2_brotherOf_133 rfl (mjv (by unfold mBrotherOf; rw [if_pos c5, if_pos hin_, eb_, ew_]; first | exact (if_pos c116).symm | exact (if_neg c116).symm) rfl)
      · refine j_tableIn (off := 122) (tgt := 134) dX2_brotherOf_12 (by decide +kernel) (by decide +kernel) (by decide +kernel) (by decide) ?_
        refine j_aload_n dX2_brotherOf_134 rfl rfl ?_
        refine j_iload_n dX2_brotherOf_135 rfl ?_
        refine j_iconst (v := 0) dX2_brotherOf_136 (by decide) ?_
        refine j_callV (mm_X2_isSo hO s (b := b) (by omega) 0) dX2_brotherOf_137 mt_X2_isSo q2244 q2246 qs46 (hO.at s (i := 0) (by decide)) (by decide) rfl cd_X2_isSo (Nat.le_of_ble_eq_true rfl) rfl rfl (Nat.le_of_ble_eq_true rfl) (jk_v ?_) jx_v
        refine j_ifeqB (tgt := 151) dX2_brotherOf_140 (by decide) (fun c140 => ?_) (fun c140 => ?_)
        · refine j_bipush (v := (-15)) dX2_brotherOf_151 (by decide) ?_
          exact j_ireturn dX2_brotherOf_153 rfl (mjv (by unfold mBrotherOf; rw [if_pos c5, if_pos hin_, eb_, ew_]; first | exact (if_pos c140).symm | exact (if_neg (Bool.eq_false_iff.mp c140)).symm) rfl)
        · refine j_aload_n dX2_brotherOf_143 rfl rfl ?_
          refine j_iload_n dX2_brotherOf_144 rfl ?_
          refine j_callV (mm_X2_placeInLine hO s hn hn16 (b := b) (by omega)) dX2_brotherOf_145 mt_X2_placeInLine q2434 q2436 qs81 (hO.at s (i := 0) (by decide)) (by decide) rfl cd_X2_placeInLine (Nat.le_of_ble_eq_true rfl) rfl rfl (Nat.le_of_ble_eq_true rfl) (jk_v ?_) jx_v
          refine j_goto (tgt := 153) dX2_brotherOf_148 (by decide) ?_
          exact j_ireturn dX2_brotherOf_153 rfl (mjv (by unfold mBrotherOf; rw [if_pos c5, if_pos hin_, eb_, ew_]; first | exact (if_pos c140).symm | exact (if_neg (Bool.eq_false_iff.mp c140)).symm) rfl)
    · refine j_tableOut (tgt := 154) dX2_brotherOf_12 ho_ (by decide) ?_
      refine j_bipush (v := (-12)) dX2_brotherOf_154 (by decide) ?_
      exact j_ireturn dX2_brotherOf_156 rfl (mjv (by unfold mBrotherOf; rw [if_pos c5, hin_]; rfl) rfl)
  · refine j_bipush (v := (-11)) dX2_brotherOf_8 (by decide) ?_
    exact j_ireturn dX2_brotherOf_10 rfl (mjv (by unfold mBrotherOf; rw [c5]; rfl) rfl)

theorem mm_X2_broke (hO : mOK G M L) (s : MS) {n : Nat} (hn : s.2 0 2 = nI n) (hn16 : n ≤ 16) (x y : Int32) : JM l G 2 yX2_broke wX2_broke [.ref (L 0), .int x, .int y] (mput M L s) (jv (.int (mBroke1 s x y)) (mput M L s)) := by
  refine JM.of pn_X2 (Nat.le_of_ble_eq_true rfl) (hO.1.1) ?_
  show JW l G 2 YX2_broke _ 0 [(0, .ref (L 0)), (1, .int x), (2, .int y)] [] (mput M L s)
  refine j_aload_n dX2_broke_0 rfl rfl ?_
  refine j_iload_n dX2_broke_1 rfl ?_
  refine j_callV (mm_X2_isBrother hO s x) dX2_broke_2 mt_X2_isBrother q2240 q2242 qs45 (hO.at s (i := 0) (by decide)) (by decide) rfl cd_X2_isBrother (Nat.le_of_ble_eq_true rfl) rfl rfl (Nat.le_of_ble_eq_true rfl) (jk_v ?_) jx_v
  refine j_ifeqB (tgt := 29) dX2_broke_5 (by decide) (fun c5 => ?_) (fun c5 => ?_)
  · refine j_bipush (v := (-11)) dX2_broke_29 (by decide) ?_
    exact j_ireturn dX2_broke_31 rfl (mjv (by first | rfl | (simp_all [jb, mPub, mBroke1]; done) | (simp_all [jb, mPub, mBroke1]; rfl) | (simp_all [jb, mPub, mBroke1, ← Int32.not_lt]; done)) rfl)
  · refine j_iload_n dX2_broke_8 rfl ?_
    refine j_iconst (v := 0) dX2_broke_9 (by decide) ?_
    refine j_iconst (v := 4) dX2_broke_10 (by decide) ?_
    refine j_callS (mm_X2_isBetween hO s y 0 4) dX2_broke_11 mt_X2_isBetween q2205 q2206 cd_X2_isBetween (Nat.le_of_ble_eq_true rfl) rfl rfl (Nat.le_of_ble_eq_true rfl) (jk_v ?_) jx_v
    refine j_ifeqB (tgt := 29) dX2_broke_14 (by decide) (fun c14 => ?_) (fun c14 => ?_)
    · refine j_bipush (v := (-11)) dX2_broke_29 (by decide) ?_
      exact j_ireturn dX2_broke_31 rfl (mjv (by first | rfl | (simp_all [jb, mPub, mBroke1]; done) | (simp_all [jb, mPub, mBroke1]; rfl) | (simp_all [jb, mPub, mBroke1, ← Int32.not_lt]; done)) rfl)
    · obtain ⟨b, hb, rfl⟩ := mBr_of hn hn16 c5
      have eb_ : mN (nI b) = b := mN_nI (by omega)
      obtain ⟨k, hkl_, hk_, rfl⟩ := mIn_of (a := 0) (b := 4) (by decide) c14 (by decide)
      have ek_ : mN (nI k) = k := mN_nI (by omega)
      refine j_aload_n dX2_broke_17 rfl rfl ?_
      refine j_iload_n dX2_broke_18 rfl ?_
      refine j_bipush (v := 9) dX2_broke_19 (by decide) ?_
      refine j_iload_n dX2_broke_21 rfl ?_
      refine j_iadd dX2_broke_22 ?_
      rw [show (9 + (nI k)) = (nI (9 + k)) from nI_add 9 k]
      refine j_callV (mm_X2_of hO s (b := b) (k := (9 + k)) (by omega) (by omega)) dX2_broke_23 mt_X2_of q2248 q2250 qs47 (hO.at s (i := 0) (by decide)) (by decide) rfl cd_X2_of (Nat.le_of_ble_eq_true rfl) rfl rfl (Nat.le_of_ble_eq_true rfl) (jk_v ?_) jx_v
      refine j_goto (tgt := 31) dX2_broke_26 (by decide) ?_
      exact j_ireturn dX2_broke_31 rfl (mjv (by first | rfl | (simp_all [jb, mPub, mBroke1]; done) | (simp_all [jb, mPub, mBroke1]; rfl) | (simp_all [jb, mPub, mBroke1, ← Int32.not_lt]; done)) rfl)

theorem mm_X2_inCell (hO : mOK G M L) (s : MS) {n : Nat} (hn : s.2 0 2 = nI n) (hn16 : n ≤ 16) (c : Int32) : JM l G 3 yX2_inCell wX2_inCell [.ref (L 0), .int c] (mput M L s) (jv (.int (mInCell1 s n c)) (mput M L s)) := by
  refine JM.of pn_X2 (Nat.le_of_ble_eq_true rfl) (hO.1.1) ?_
  show JW l G 3 YX2_inCell _ 0 [(0, .ref (L 0)), (1, .int c)] [] (mput M L s)
  refine j_iload_n dX2_inCell_0 rfl ?_
  refine j_callS (mm_X2_isCell hO s c) dX2_inCell_1 mt_X2_isCell q2292 q2293 cd_X2_isCell (Nat.le_of_ble_eq_true rfl) rfl rfl (Nat.le_of_ble_eq_true rfl) (jk_v ?_) jx_v
  refine j_ifeqB (tgt := 15) dX2_inCell_4 (by decide) (fun c4 => ?_) (fun c4 => ?_)
  · refine j_bipush (v := (-11)) dX2_inCell_15 (by decide) ?_
    exact j_ireturn dX2_inCell_17 rfl (mjv (by first | rfl | (simp_all [jb, mPub, mInCell1]; done) | (simp_all [jb, mPub, mInCell1]; rfl) | (simp_all [jb, mPub, mInCell1, ← Int32.not_lt]; done)) rfl)
  · refine j_aload_n dX2_inCell_7 rfl rfl ?_
    refine j_iload_n dX2_inCell_8 rfl ?_
    refine j_callV (mm_X2_brotherIn hO s hn hn16 c) dX2_inCell_9 mt_X2_brotherIn q2295 q2297 qs56 (hO.at s (i := 0) (by decide)) (by decide) rfl cd_X2_brotherIn (Nat.le_of_ble_eq_true rfl) rfl rfl (Nat.le_of_ble_eq_true rfl) (jk_v ?_) jx_v
    refine j_goto (tgt := 17) dX2_inCell_12 (by decide) ?_
    exact j_ireturn dX2_inCell_17 rfl (mjv (by first | rfl | (simp_all [jb, mPub, mInCell1]; done) | (simp_all [jb, mPub, mInCell1]; rfl) | (simp_all [jb, mPub, mInCell1, ← Int32.not_lt]; done)) rfl)

theorem mm_X2_voices (hO : mOK G M L) (s : MS) {n : Nat} (hn : s.2 0 2 = nI n) (hn16 : n ≤ 16) (x : Int32) : JM l G 3 yX2_voices wX2_voices [.ref (L 0), .int x] (mput M L s) (jv (.int (mVoices1 s n x)) (mput M L s)) := by
  refine JM.of pn_X2 (Nat.le_of_ble_eq_true rfl) (hO.1.1) ?_
  show JW l G 3 YX2_voices _ 0 [(0, .ref (L 0)), (1, .int x)] [] (mput M L s)
  refine j_aload_n dX2_voices_0 rfl rfl ?_
  refine j_iload_n dX2_voices_1 rfl ?_
  refine j_callV (mm_X2_isBrother hO s x) dX2_voices_2 mt_X2_isBrother q2240 q2242 qs45 (hO.at s (i := 0) (by decide)) (by decide) rfl cd_X2_isBrother (Nat.le_of_ble_eq_true rfl) rfl rfl (Nat.le_of_ble_eq_true rfl) (jk_v ?_) jx_v
  refine j_ifeqB (tgt := 16) dX2_voices_5 (by decide) (fun c5 => ?_) (fun c5 => ?_)
  · refine j_bipush (v := (-11)) dX2_voices_16 (by decide) ?_
    exact j_ireturn dX2_voices_18 rfl (mjv (by first | rfl | (simp_all [jb, mPub, mVoices1]; done) | (simp_all [jb, mPub, mVoices1]; rfl) | (simp_all [jb, mPub, mVoices1, ← Int32.not_lt]; done)) rfl)
  · obtain ⟨b, hb, rfl⟩ := mBr_of hn hn16 c5
    have eb_ : mN (nI b) = b := mN_nI (by omega)
    refine j_aload_n dX2_voices_8 rfl rfl ?_
    refine j_iload_n dX2_voices_9 rfl ?_
    refine j_callV (mm_X2_voicesFor hO s hn hn16 (b := b) (by omega)) dX2_voices_10 mt_X2_voicesFor q2276 q2278 qs53 (hO.at s (i := 0) (by decide)) (by decide) rfl cd_X2_voicesFor (Nat.le_of_ble_eq_true rfl) rfl rfl (Nat.le_of_ble_eq_true rfl) (jk_v ?_) jx_v
    refine j_goto (tgt := 18) dX2_voices_13 (by decide) ?_
    exact j_ireturn dX2_voices_18 rfl (mjv (by first | rfl | (simp_all [jb, mPub, mVoices1]; done) | (simp_all [jb, mPub, mVoices1]; rfl) | (simp_all [jb, mPub, mVoices1, ← Int32.not_lt]; done)) rfl)

theorem mm_X2_entitled (hO : mOK G M L) (s : MS) {n : Nat} (hn : s.2 0 2 = nI n) (hn16 : n ≤ 16) : JM l G 3 yX2_entitled wX2_entitled [.ref (L 0)] (mput M L s) (jv (.int (mEntitled s n)) (mput M L s)) := by
  refine JM.of pn_X2 (Nat.le_of_ble_eq_true rfl) (hO.1.1) ?_
  show JW l G 3 YX2_entitled _ 0 [(0, .ref (L 0))] [] (mput M L s)
  refine j_iconst (v := 0) dX2_entitled_0 (by decide) ?_
  refine j_istore_n dX2_entitled_1 (by decide) rfl ?_
  refine j_iconst (v := 0) dX2_entitled_2 (by decide) ?_
  refine j_istore_n dX2_entitled_3 (by decide) rfl ?_
  have lp_ : ∀ (fu_ : Nat) (k : Nat) (acc : Int32), n - k < fu_ → (k ≤ n) → (acc = mOr (fun b => if mEnt s b then mBit (nI b) else 0) k) → JW l G 3 YX2_entitled (jv (.int (mEntitled s n)) (mput M L s)) 4 [(0, .ref (L 0)), (1, .int acc), (2, .int (nI k))] [] (mput M L s) := by
    intro fu_
    induction fu_ with
    | zero => intro k acc hf_; exact absurd hf_ (Nat.not_lt_zero _)
    | succ fu_ ih_ =>
      intro k acc hf_ hk hacc
      refine j_iload_n dX2_entitled_4 rfl ?_
      refine j_aload_n dX2_entitled_5 rfl rfl ?_
      refine mj_get hO dX2_entitled_6 fd_X2_7_2 rfl ?_
      refine j_iconst (v := 2) dX2_entitled_9 (by decide) ?_
      refine mj_iald (j := 0) (i := 2) hO dX2_entitled_10 (by decide) rfl (by decide) ?_
      refine j_icmp_ge (tgt := 38) dX2_entitled_11 (by decide) (fun c_ => ?_) (fun c_ => ?_)
      · obtain rfl := n_end hn hn16 hk c_
        refine j_iload_n dX2_entitled_38 rfl ?_
        exact j_ireturn dX2_entitled_39 rfl (mjv hacc rfl)
      · have hk_ := n_on hn hn16 c_ hk
        refine j_iload_n dX2_entitled_14 rfl ?_
        refine j_aload_n dX2_entitled_15 rfl rfl ?_
        refine j_iload_n dX2_entitled_16 rfl ?_
        refine j_callV (mm_X2_isEntitled hO s (b := k) (by omega)) dX2_entitled_17 mt_X2_isEntitled q2394 q2396 qs74 (hO.at s (i := 0) (by decide)) (by decide) rfl cd_X2_isEntitled (Nat.le_of_ble_eq_true rfl) rfl rfl (Nat.le_of_ble_eq_true rfl) (jk_v ?_) jx_v
        refine j_ifeqB (tgt := 29) dX2_entitled_20 (by decide) (fun c20 => ?_) (fun c20 => ?_)
        · refine j_iconst (v := 0) dX2_entitled_29 (by decide) ?_
          refine j_ior dX2_entitled_30 ?_
          refine j_istore_n dX2_entitled_31 (by decide) rfl ?_
          refine j_iinc (v := nI (k + 1)) dX2_entitled_32 rfl (nI_1 _) (by decide) rfl ?_
          refine j_goto (tgt := 4) dX2_entitled_35 (by decide) ?_
          refine j_locs (ls2 := [(0, .ref (L 0)), (1, .int (acc ||| 0)), (2, .int (nI (k + 1)))]) ⟨rfl, rfl, rfl, trivial⟩ (ih_ (k + 1) (acc ||| 0) (by omega) (by omega) (by rw [hacc]; show _ = mOr _ k ||| _; dsimp only; first | rw [if_pos c20] | rw [if_neg (Bool.eq_false_iff.mp c20)]))
        · refine j_iconst (v := 1) dX2_entitled_23 (by decide) ?_
          refine j_iload_n dX2_entitled_24 rfl ?_
          refine j_ishl dX2_entitled_25 ?_
          refine j_goto (tgt := 30) dX2_entitled_26 (by decide) ?_
          refine j_ior dX2_entitled_30 ?_
          refine j_istore_n dX2_entitled_31 (by decide) rfl ?_
          refine j_iinc (v := nI (k + 1)) dX2_entitled_32 rfl (nI_1 _) (by decide) rfl ?_
          refine j_goto (tgt := 4) dX2_entitled_35 (by decide) ?_
          refine j_locs (ls2 := [(0, .ref (L 0)), (1, .int (acc ||| (1 <<< ((nI k) &&& 31)))), (2, .int (nI (k + 1)))]) ⟨rfl, rfl, rfl, trivial⟩ (ih_ (k + 1) (acc ||| (1 <<< ((nI k) &&& 31))) (by omega) (by omega) (by rw [hacc]; show _ = mOr _ k ||| _; dsimp only; first | rw [if_pos c20] | rw [if_neg (Bool.eq_false_iff.mp c20)]))
  refine j_locs (ls2 := [(0, .ref (L 0)), (1, .int 0), (2, .int (nI 0))]) ⟨rfl, rfl, rfl, trivial⟩ ?_
  exact lp_ _ 0 0 (Nat.lt_succ_self _) (Nat.zero_le _) rfl

theorem mm_X2_entitledAgain (hO : mOK G M L) (s : MS) {n : Nat} (hn : s.2 0 2 = nI n) (hn16 : n ≤ 16) : JM l G 3 yX2_entitledAgain wX2_entitledAgain [.ref (L 0)] (mput M L s) (jv (.int (mEntitledA s n)) (mput M L s)) := by
  refine JM.of pn_X2 (Nat.le_of_ble_eq_true rfl) (hO.1.1) ?_
  show JW l G 3 YX2_entitledAgain _ 0 [(0, .ref (L 0))] [] (mput M L s)
  refine j_iconst (v := 0) dX2_entitledAgain_0 (by decide) ?_
  refine j_istore_n dX2_entitledAgain_1 (by decide) rfl ?_
  refine j_iconst (v := 0) dX2_entitledAgain_2 (by decide) ?_
  refine j_istore_n dX2_entitledAgain_3 (by decide) rfl ?_
  have l_ : ∀ (fu_ : Nat) (k : Nat) (acc : Int32), 8 - k < fu_ → (k ≤ 8) → (acc = mOr (fun c => mEntCell s n c) k) → JW l G 3 YX2_entitledAgain (jv (.int (mEntitledA s n)) (mput M L s)) 4 [(0, .ref (L 0)), (1, .int acc), (2, .int (nI k))] [] (mput M L s) := by
    intro fu_
    induction fu_ with
    | zero => intro k acc hf_; exact absurd hf_ (Nat.not_lt_zero _)
    | succ fu_ ih_ =>
      intro k acc hf_ hk hacc
      refine j_iload_n dX2_entitledAgain_4 rfl ?_
      refine j_bipush (v := 8) dX2_entitledAgain_5 (by decide) ?_
      refine j_icmp_ge (tgt := 45) dX2_entitledAgain_7 (by decide) (fun q_ => ?_) (fun q_ => ?_)
      · obtain rfl : k = 8 := c_end (n := 8) (by decide) hk q_
        refine j_iload_n dX2_entitledAgain_45 rfl ?_
        exact j_ireturn dX2_entitledAgain_46 rfl (mjv hacc rfl)
      · have hk_ : k < 8 := c_on (n := 8) (by decide) q_ hk
        refine j_aload_n dX2_entitledAgain_10 rfl rfl ?_
        refine j_iload_n dX2_entitledAgain_11 rfl ?_
        refine j_callV (mm_X2_brotherIn hO s hn hn16 (nI k)) dX2_entitledAgain_12 mt_X2_brotherIn q2295 q2297 qs56 (hO.at s (i := 0) (by decide)) (by decide) rfl cd_X2_brotherIn (Nat.le_of_ble_eq_true rfl) rfl rfl (Nat.le_of_ble_eq_true rfl) (jk_v ?_) jx_v
        refine j_istore_n dX2_entitledAgain_15 (by decide) rfl ?_
        refine j_iload_n dX2_entitledAgain_16 rfl ?_
        refine j_iload_n dX2_entitledAgain_17 rfl ?_
        refine j_if_lt (tgt := 36) dX2_entitledAgain_18 (by decide) (fun c18 => ?_) (fun c18 => ?_)
        · refine j_iconst (v := 0) dX2_entitledAgain_36 (by decide) ?_
          refine j_ior dX2_entitledAgain_37 ?_
          refine j_istore_n dX2_entitledAgain_38 (by decide) rfl ?_
          refine j_iinc (v := nI (k + 1)) dX2_entitledAgain_39 rfl (nI_1 _) (by decide) rfl ?_
          refine j_goto (tgt := 4) dX2_entitledAgain_42 (by decide) ?_
          refine j_locs (ls2 := [(0, .ref (L 0)), (1, .int (acc ||| 0)), (2, .int (nI (k + 1)))]) ⟨rfl, rfl, rfl, trivial⟩ (ih_ (k + 1) (acc ||| 0) (by omega) (by omega) (by rw [hacc]; show _ = mOr _ k ||| mEntCell s n k; congr 1; unfold mEntCell; first | rw [if_pos c18] | rw [if_neg c18, eb_, eN_, if_pos c27] | rw [if_neg c18, eb_, eN_, if_neg c27]))
        · obtain ⟨b, hb, eb_, -⟩ := mBrotherIn_of c18
          have eN_ : mN (nI b) = b := mN_nI (by omega)
          rw [show (mBrotherIn s n (nI k)) = (nI b) from eb_]
          refine j_aload_n dX2_entitledAgain_21 rfl rfl ?_
          refine j_iload_n dX2_entitledAgain_22 rfl ?_
          refine j_iconst (v := 5) dX2_entitledAgain_23 (by decide) ?_
          refine j_callV (mm_X2_of hO s (b := b) (k := 5) (by omega) (by omega)) dX2_entitledAgain_24 mt_X2_of q2248 q2250 qs47 (hO.at s (i := 0) (by decide)) (by decide) rfl cd_X2_of (Nat.le_of_ble_eq_true rfl) rfl rfl (Nat.le_of_ble_eq_true rfl) (jk_v ?_) jx_v
          refine j_if_ne (tgt := 36) dX2_entitledAgain_27 (by decide) (fun c27 => ?_) (fun c27 => ?_)
          · refine j_iconst (v := 0) dX2_entitledAgain_36 (by decide) ?_
            refine j_ior dX2_entitledAgain_37 ?_
            refine j_istore_n dX2_entitledAgain_38 (by decide) rfl ?_
            refine j_iinc (v := nI (k + 1)) dX2_entitledAgain_39 rfl (nI_1 _) (by decide) rfl ?_
            refine j_goto (tgt := 4) dX2_entitledAgain_42 (by decide) ?_
            refine j_locs (ls2 := [(0, .ref (L 0)), (1, .int (acc ||| 0)), (2, .int (nI (k + 1)))]) ⟨rfl, rfl, rfl, trivial⟩ (ih_ (k + 1) (acc ||| 0) (by omega) (by omega) (by rw [hacc]; show _ = mOr _ k ||| mEntCell s n k; congr 1; unfold mEntCell; first | rw [if_pos c18] | rw [if_neg c18, eb_, eN_, if_pos c27] | rw [if_neg c18, eb_, eN_, if_neg c27]))
          · refine j_iconst (v := 1) dX2_entitledAgain_30 (by decide) ?_
            refine j_iload_n dX2_entitledAgain_31 rfl ?_
            refine j_ishl dX2_entitledAgain_32 ?_
            refine j_goto (tgt := 37) dX2_entitledAgain_33 (by decide) ?_
            refine j_ior dX2_entitledAgain_37 ?_
            refine j_istore_n dX2_entitledAgain_38 (by decide) rfl ?_
            refine j_iinc (v := nI (k + 1)) dX2_entitledAgain_39 rfl (nI_1 _) (by decide) rfl ?_
            refine j_goto (tgt := 4) dX2_entitledAgain_42 (by decide) ?_
            refine j_locs (ls2 := [(0, .ref (L 0)), (1, .int (acc ||| (1 <<< ((nI b) &&& 31)))), (2, .int (nI (k + 1)))]) ⟨rfl, rfl, rfl, trivial⟩ (ih_ (k + 1) (acc ||| (1 <<< ((nI b) &&& 31))) (by omega) (by omega) (by rw [hacc]; show _ = mOr _ k ||| mEntCell s n k; congr 1; unfold mEntCell; first | rw [if_pos c18] | rw [if_neg c18, eb_, eN_, if_pos c27] | rw [if_neg c18, eb_, eN_, if_neg c27]))
  refine j_locs (ls2 := [(0, .ref (L 0)), (1, .int 0), (2, .int (nI 0))]) ⟨rfl, rfl, rfl, trivial⟩ ?_
  exact l_ _ 0 0 (Nat.lt_succ_self _) (Nat.zero_le _) rfl

theorem mm_X2_voicesAgain (hO : mOK G M L) (s : MS) {n : Nat} (hn : s.2 0 2 = nI n) (hn16 : n ≤ 16) (hv : mVc s n) (x : Int32) : JM l G 2 yX2_voicesAgain wX2_voicesAgain [.ref (L 0), .int x] (mput M L s) (jv (.int ((mVoicesA s n x).1)) (mput M L ((mVoicesA s n x).2))) := by
  refine JM.of pn_X2 (Nat.le_of_ble_eq_true rfl) (hO.1.1) ?_
  show JW l G 2 YX2_voicesAgain _ 0 [(0, .ref (L 0)), (1, .int x)] [] (mput M L s)
  refine j_aload_n dX2_voicesAgain_0 rfl rfl ?_
  refine j_iload_n dX2_voicesAgain_1 rfl ?_
  refine j_callV (mm_X2_isBrother hO s x) dX2_voicesAgain_2 mt_X2_isBrother q2240 q2242 qs45 (hO.at s (i := 0) (by decide)) (by decide) rfl cd_X2_isBrother (Nat.le_of_ble_eq_true rfl) rfl rfl (Nat.le_of_ble_eq_true rfl) (jk_v ?_) jx_v
  refine j_ifneB (tgt := 11) dX2_voicesAgain_5 (by decide) (fun c5 => ?_) (fun c5 => ?_)
  · obtain ⟨b, hb, rfl⟩ := mBr_of hn hn16 c5
    have eb_ : mN (nI b) = b := mN_nI (by omega)
    refine j_iconst (v := 0) dX2_voicesAgain_11 (by decide) ?_
    refine j_istore_n dX2_voicesAgain_12 (by decide) rfl ?_
    -- loop at 13
    refine j_mem (M' := mput M L (mCp s 4 (fun _ => 0) 0)) (congrArg (mput M L) (mCp_0 s 4 (fun _ => 0))) ?_
    have l11_ : ∀ (fu_ : Nat) (k : Nat), 16 - k < fu_ → (k ≤ 16) → JW l G 2 YX2_voicesAgain (jv (.int ((mVoicesA s n (nI b)).1)) (mput M L ((mVoicesA s n (nI b)).2))) 13 [(0, .ref (L 0)), (1, .int (nI b)), (2, .int (nI k))] [] (mput M L (mCp s 4 (fun _ => 0) k)) := by
      intro fu_
      induction fu_ with
      | zero => intro k hf_; exact absurd hf_ (Nat.not_lt_zero _)
      | succ fu_ ih_ =>
        intro k hf_ hk
        refine j_iload_n dX2_voicesAgain_13 rfl ?_
        refine j_bipush (v := 16) dX2_voicesAgain_14 (by decide) ?_
        refine j_icmp_ge (tgt := 32) dX2_voicesAgain_16 (by decide) (fun q11_ => ?_) (fun q11_ => ?_)
        · obtain rfl : k = 16 := c_end (n := 16) (by decide) hk q11_
          refine j_iconst (v := 0) dX2_voicesAgain_32 (by decide) ?_
          refine j_istore_n dX2_voicesAgain_33 (by decide) rfl ?_
          -- loop at 34
          refine j_mem (M' := mput M L (mCnt s 0)) (congrArg (mput M L) rfl) ?_
          have l12_ : ∀ (fu_ : Nat) (k : Nat), n - k < fu_ → (k ≤ n) → JW l G 2 YX2_voicesAgain (jv (.int ((mVoicesA s n (nI b)).1)) (mput M L ((mVoicesA s n (nI b)).2))) 34 [(0, .ref (L 0)), (1, .int (nI b)), (2, .int (nI k))] [] (mput M L (mCnt s k)) := by
            intro fu_
            induction fu_ with
            | zero => intro k hf_; exact absurd hf_ (Nat.not_lt_zero _)
            | succ fu_ ih_ =>
              intro k hf_ hk
              refine j_iload_n dX2_voicesAgain_34 rfl ?_
              refine j_aload_n dX2_voicesAgain_35 rfl rfl ?_
              refine mj_get hO dX2_voicesAgain_36 fd_X2_7_2 rfl ?_
              refine j_iconst (v := 2) dX2_voicesAgain_39 (by decide) ?_
              refine mj_iald (j := 0) (i := 2) hO dX2_voicesAgain_40 (by decide) rfl (by decide) ?_
              refine j_icmp_ge (tgt := 78) dX2_voicesAgain_41 (by decide) (fun q12_ => ?_) (fun q12_ => ?_)
              · obtain rfl : n = k := (n_end (show (mCnt s k).2 0 2 = nI n by simp only [mset_2, mStamps_2, mBecomes_2, mVoicesGo_2, mClear_2, mGo1_2, mThinks_2, mRemembers_2, mNot_2, mRef_2, mGive_2, mFeastComes_2, mBans_2, mRents_2, mAges_2, mYear0_2, mYear_2, mWeekOn_2, mWeekGoes_2, mWeeksGo_2, mComesIn_2, mGownStep_2, mwset1_2, mCnt_2]; exact hn) hn16 hk q12_).symm
                refine j_aload_n dX2_voicesAgain_78 rfl rfl ?_
                refine mj_get hO dX2_voicesAgain_79 fd_X2_22_2 rfl ?_
                refine j_iload_n dX2_voicesAgain_82 rfl ?_
                refine mj_iald (j := 4) (i := b) hO dX2_voicesAgain_83 (by decide) rfl (by show _ < 16; omega) ?_
                exact j_ireturn dX2_voicesAgain_84 rfl (mjv (by unfold mVoicesA; rw [if_pos c5, eb_]) (by unfold mVoicesA; rw [if_pos c5]))
              · have hk_ := n_on (show (mCnt s k).2 0 2 = nI n by simp only [mset_2, mStamps_2, mBecomes_2, mVoicesGo_2, mClear_2, mGo1_2, mThinks_2, mRemembers_2, mNot_2, mRef_2, mGive_2, mFeastComes_2, mBans_2, mRents_2, mAges_2, mYear0_2, mYear_2, mWeekOn_2, mWeekGoes_2, mWeeksGo_2, mComesIn_2, mGownStep_2, mwset1_2, mCnt_2]; exact hn) hn16 q12_ hk
                refine j_aload_n dX2_voicesAgain_44 rfl rfl ?_
                refine j_iload_n dX2_voicesAgain_45 rfl ?_
                refine j_bipush (v := 7) dX2_voicesAgain_46 (by decide) ?_
                refine j_callV (mm_X2_of hO (mCnt s k) (b := k) (k := 7) (by omega) (by omega)) dX2_voicesAgain_48 mt_X2_of q2248 q2250 qs47 (hO.at (mCnt s k) (i := 0) (by decide)) (by decide) rfl cd_X2_of (Nat.le_of_ble_eq_true rfl) rfl rfl (Nat.le_of_ble_eq_true rfl) (jk_v ?_) jx_v
                refine j_iconst (v := 1) dX2_voicesAgain_51 (by decide) ?_
                refine j_isub dX2_voicesAgain_52 ?_
                refine j_istore_n dX2_voicesAgain_53 (by decide) rfl ?_
                refine j_iload_n dX2_voicesAgain_54 rfl ?_
                refine j_if_lt (tgt := 72) dX2_voicesAgain_55 (by decide) (fun c55 => ?_) (fun c55 => ?_)
                · refine j_iinc (v := nI (k + 1)) dX2_voicesAgain_72 rfl (nI_1 _) (by decide) rfl ?_
                  refine j_goto (tgt := 34) dX2_voicesAgain_75 (by decide) ?_
                  refine j_mem (M' := mput M L (mCnt s (k + 1))) (congrArg (mput M L) (show mCntStep (mCnt s k) k = _ by unfold mCntStep; first | rw [if_pos c55] | (rw [if_neg c55, eto_, eN_]))) ?_
                  refine j_locs (ls2 := [(0, .ref (L 0)), (1, .int (nI b)), (2, .int (nI (k + 1)))]) ⟨rfl, rfl, rfl, trivial⟩ (ih_ (k + 1) (by omega) (by omega))
                · have hto_ : ∃ v, v < 16 ∧ mo (mCnt s k) k 7 - 1 = nI v := by
                    obtain ⟨v, hv_, ev_⟩ := hv k hk_
                    have e1_ : mo (mCnt s k) k 7 = nI v := (congrFun (mCnt_w s k) _).trans ev_
                    rcases v with _ | v
                    · rw [e1_] at c55; exact absurd (by decide +kernel : nI 0 - 1 < 0) c55
                    · exact ⟨v, by omega, by rw [e1_, nI_pred]⟩
                  obtain ⟨to, hto_, eto_⟩ := hto_
                  have eN_ : mN (nI to) = to := mN_nI (by omega)
                  have c55_ := c55
                  rw [show ((mo (mCnt s k) k 7) - 1) = (nI to) from eto_]
                  refine j_aload_n dX2_voicesAgain_58 rfl rfl ?_
                  refine mj_get hO dX2_voicesAgain_59 fd_X2_22_2 rfl ?_
                  refine j_iload_n dX2_voicesAgain_62 rfl ?_
                  refine j_dup2_11 dX2_voicesAgain_63 rfl rfl ?_
                  refine mj_iald (j := 4) (i := to) hO dX2_voicesAgain_64 (by decide) rfl (by show _ < 16; omega) ?_
                  refine j_aload_n dX2_voicesAgain_65 rfl rfl ?_
                  refine j_iload_n dX2_voicesAgain_66 rfl ?_
                  refine j_callV (mm_X2_countsFor hO (mCnt s k) (b := to) (by omega)) dX2_voicesAgain_67 mt_X2_countsFor q2280 q2282 qs54 (hO.at (mCnt s k) (i := 0) (by decide)) (by decide) rfl cd_X2_countsFor (Nat.le_of_ble_eq_true rfl) rfl rfl (Nat.le_of_ble_eq_true rfl) (jk_v ?_) jx_v
                  refine j_iadd dX2_voicesAgain_70 ?_
                  refine mj_iast (j := 4) (i := to) hO dX2_voicesAgain_71 (by decide) rfl (by show _ < 16; omega) ?_
                  refine j_iinc (v := nI (k + 1)) dX2_voicesAgain_72 rfl (nI_1 _) (by decide) rfl ?_
                  refine j_goto (tgt := 34) dX2_voicesAgain_75 (by decide) ?_
                  refine j_mem (M' := mput M L (mCnt s (k + 1))) (congrArg (mput M L) (show mCntStep (mCnt s k) k = _ by unfold mCntStep; first | rw [if_pos c55] | (rw [if_neg c55, eto_, eN_]))) ?_
                  refine j_locs (ls2 := [(0, .ref (L 0)), (1, .int (nI b)), (2, .int (nI (k + 1)))]) ⟨rfl, rfl, rfl, trivial⟩ (ih_ (k + 1) (by omega) (by omega))
          refine j_locs (ls2 := [(0, .ref (L 0)), (1, .int (nI b)), (2, .int (nI 0))]) ⟨rfl, rfl, rfl, trivial⟩ ?_
          exact l12_ _ 0 (Nat.lt_succ_self _) (Nat.zero_le _)
        · have hk_ : k < 16 := c_on (n := 16) (by decide) q11_ hk
          refine j_aload_n dX2_voicesAgain_19 rfl rfl ?_
          refine mj_get hO dX2_voicesAgain_20 fd_X2_22_2 rfl ?_
          refine j_iload_n dX2_voicesAgain_23 rfl ?_
          refine j_iconst (v := 0) dX2_voicesAgain_24 (by decide) ?_
          refine mj_iast (j := 4) (i := k) hO dX2_voicesAgain_25 (by decide) rfl (by show _ < 16; omega) ?_
          refine j_iinc (v := nI (k + 1)) dX2_voicesAgain_26 rfl (nI_1 _) (by decide) rfl ?_
          refine j_goto (tgt := 13) dX2_voicesAgain_29 (by decide) ?_
          refine j_mem (M' := mput M L (mCp s 4 (fun _ => 0) (k + 1))) (congrArg (mput M L) (mCp_step s 4 (fun _ => 0) k rfl)) ?_
          refine j_locs (ls2 := [(0, .ref (L 0)), (1, .int (nI b)), (2, .int (nI (k + 1)))]) ⟨rfl, rfl, rfl, trivial⟩ (ih_ (k + 1) (by omega) (by omega))
    refine j_locs (ls2 := [(0, .ref (L 0)), (1, .int (nI b)), (2, .int (nI 0))]) ⟨rfl, rfl, rfl, trivial⟩ ?_
    exact l11_ _ 0 (Nat.lt_succ_self _) (Nat.zero_le _)
  · refine j_bipush (v := (-11)) dX2_voicesAgain_8 (by decide) ?_
    exact j_ireturn dX2_voicesAgain_10 rfl (mjv (by unfold mVoicesA; rw [c5]; rfl) (by unfold mVoicesA; rw [c5]; rfl))

theorem mm_X2_nextFeast (hO : mOK G M L) (s : MS) (hw : mWk s) : JM l G 0 yX2_nextFeast wX2_nextFeast [.ref (L 0)] (mput M L s) (jv (.int (mNext s)) (mput M L s)) := by
  refine JM.of pn_X2 (Nat.le_of_ble_eq_true rfl) (hO.1.1) ?_
  show JW l G 0 YX2_nextFeast _ 0 [(0, .ref (L 0))] [] (mput M L s)
  obtain ⟨wk, hwk_, ew_⟩ := hw
  have eN_ : mN (mw s 1) = wk := by
    show mN (s.2 0 1) = _
    rw [ew_]; exact mN_nI (by omega)
  have hix_ : ∀ k, k < 52 → (12 : Int32) + (s.2 0 1 + nI k - (s.2 0 1 + nI k) / 52 * 52) = nI (12 + (wk + k) % 52) := by
    intro k hk
    rw [ew_, nI_add, show (52 : Int32) = nI 52 from rfl, pk_rem (by omega) (by decide) (by decide)]; exact nI_add 12 _
  refine j_iconst (v := 0) dX2_nextFeast_0 (by decide) ?_
  refine j_istore_n dX2_nextFeast_1 (by decide) rfl ?_
  have l_ : ∀ (fu_ : Nat) (k : Nat), 52 - k < fu_ → (k ≤ 52) → (∀ j, j < k → (fun k => decide (0 < mw s (12 + (wk + k) % 52))) j = false) → JW l G 0 YX2_nextFeast (jv (.int (mNext s)) (mput M L s)) 2 [(0, .ref (L 0)), (1, .int (nI k))] [] (mput M L s) := by
    intro fu_
    induction fu_ with
    | zero => intro k hf_; exact absurd hf_ (Nat.not_lt_zero _)
    | succ fu_ ih_ =>
      intro k hf_ hk hno
      refine j_iload_n dX2_nextFeast_2 rfl ?_
      refine j_bipush (v := 52) dX2_nextFeast_3 (by decide) ?_
      refine j_icmp_ge (tgt := 38) dX2_nextFeast_5 (by decide) (fun q_ => ?_) (fun q_ => ?_)
      · obtain rfl : k = 52 := c_end (n := 52) (by decide) hk q_
        refine j_bipush (v := (-15)) dX2_nextFeast_38 (by decide) ?_
        exact j_ireturn dX2_nextFeast_40 rfl (mjv (by unfold mNext; rw [eN_, mfind_none hno]; rfl) rfl)
      · have hk_ : k < 52 := c_on (n := 52) (by decide) q_ hk
        refine j_aload_n dX2_nextFeast_8 rfl rfl ?_
        refine mj_get hO dX2_nextFeast_9 fd_X2_7_2 rfl ?_
        refine j_bipush (v := 12) dX2_nextFeast_12 (by decide) ?_
        refine j_aload_n dX2_nextFeast_14 rfl rfl ?_
        refine mj_get hO dX2_nextFeast_15 fd_X2_7_2 rfl ?_
        refine j_iconst (v := 1) dX2_nextFeast_18 (by decide) ?_
        refine mj_iald (j := 0) (i := 1) hO dX2_nextFeast_19 (by decide) rfl (by decide) ?_
        refine j_iload_n dX2_nextFeast_20 rfl ?_
        refine j_iadd dX2_nextFeast_21 ?_
        refine j_bipush (v := 52) dX2_nextFeast_22 (by decide) ?_
        refine j_irem dX2_nextFeast_24 (by decide) ?_
        refine j_iadd dX2_nextFeast_25 ?_
        refine mj_iald (j := 0) (i := (12 + (wk + k) % 52)) hO dX2_nextFeast_26 (by decide) (hix_ k hk_) (by show _ < 320; omega) ?_
        refine j_if_le (tgt := 32) dX2_nextFeast_27 (by decide) (fun c27 => ?_) (fun c27 => ?_)
        · refine j_iinc (v := nI (k + 1)) dX2_nextFeast_32 rfl (nI_1 _) (by decide) rfl ?_
          refine j_goto (tgt := 2) dX2_nextFeast_35 (by decide) ?_
          refine j_locs (ls2 := [(0, .ref (L 0)), (1, .int (nI (k + 1)))]) ⟨rfl, rfl, trivial⟩ (ih_ (k + 1) (by omega) (by omega) (lt_s hno (decide_eq_false (fun q => absurd q (Int32.not_lt.mpr c27)))))
        · refine j_iload_n dX2_nextFeast_30 rfl ?_
          exact j_ireturn dX2_nextFeast_31 rfl (mjv (by unfold mNext; rw [eN_, mfind_some hk_ hno (decide_eq_true (Int32.not_le.mp c27))]; rfl) rfl)
  refine j_locs (ls2 := [(0, .ref (L 0)), (1, .int (nI 0))]) ⟨rfl, rfl, trivial⟩ ?_
  exact l_ _ 0 (Nat.lt_succ_self _) (Nat.zero_le _) (fun _ h => absurd h (Nat.not_lt_zero _))

theorem mm_X2_append (hO : mOK G M L) (s : MS) {len : Nat} (hlen : s.1 13 = nI len) (hl60 : len ≤ 60) (x : Int32) : JM l G 1 yX2_append wX2_append [.ref (L 0), .int x] (mput M L s) (jv (.int ((mAppend s len x).1)) (mput M L ((mAppend s len x).2))) := by
  refine JM.of pn_X2 (Nat.le_of_ble_eq_true rfl) (hO.1.1) ?_
  show JW l G 1 YX2_append _ 0 [(0, .ref (L 0)), (1, .int x)] [] (mput M L s)
  refine j_iload_n dX2_append_0 rfl ?_
  refine j_bipush (v := 32) dX2_append_1 (by decide) ?_
  refine j_bipush (v := 126) dX2_append_3 (by decide) ?_
  refine j_callS (mm_X2_isBetween hO s x 32 126) dX2_append_5 mt_X2_isBetween q2205 q2206 cd_X2_isBetween (Nat.le_of_ble_eq_true rfl) rfl rfl (Nat.le_of_ble_eq_true rfl) (jk_v ?_) jx_v
  refine j_ifneB (tgt := 14) dX2_append_8 (by decide) (fun c8 => ?_) (fun c8 => ?_)
  · refine j_aload_n dX2_append_14 rfl rfl ?_
    refine mj_get hO dX2_append_15 fd_X2_204_2 rfl ?_
    refine j_bipush (v := 60) dX2_append_18 (by decide) ?_
    refine j_icmp_ne (tgt := 26) dX2_append_20 (by decide) (fun c20 => ?_) (fun c20 => ?_)
    · have hl_ : len < 60 := by
        rcases Nat.lt_or_ge len 60 with q | q
        · exact q
        · have : len = 60 := by omega
          subst this; exact absurd hlen c20
      have hne_ : ¬ len = 60 := by omega
      refine j_aload_n dX2_append_26 rfl rfl ?_
      refine mj_get hO dX2_append_27 fd_X2_25_2 rfl ?_
      refine j_aload_n dX2_append_30 rfl rfl ?_
      refine mj_get hO dX2_append_31 fd_X2_204_2 rfl ?_
      rw [show (s.1 13) = (nI len) from hlen]
      refine j_iload_n dX2_append_34 rfl ?_
      refine j_i2c dX2_append_35 ?_
      refine mj_cast (j := 5) (i := len) hO dX2_append_36 (by decide) rfl (by show _ < 60; omega) ?_
      refine j_aload_n dX2_append_37 rfl rfl ?_
      refine j_dup dX2_append_38 rfl ?_
      refine mj_get hO dX2_append_39 fd_X2_204_2 rfl ?_
      refine j_iconst (v := 1) dX2_append_42 (by decide) ?_
      refine j_iadd dX2_append_43 ?_
      refine mj_put hO dX2_append_44 fd_X2_204_2 rfl (fun r hr => ⟨(ft_2_13 r hr).1, (ft_2_13 r hr).2.1⟩) rfl rfl ?_
      refine j_mem (M' := mput M L (ms_z (ms_a s 5 (va_up (s.2 5) len (mChr x))) 13 (nI (len + 1)))) (congrArg (mput M L) (show ms_z (ms_a s 5 (va_up (s.2 5) len (mChr x))) 13 (nI (len + 1)) = ms_z (ms_a s 5 (va_up (s.2 5) len (mChr x))) 13 (s.1 13 + 1) by rw [hlen, nI_1])) ?_
      refine j_aload_n dX2_append_47 rfl rfl ?_
      refine mj_get hO dX2_append_48 fd_X2_204_2 rfl ?_
      exact j_ireturn dX2_append_51 rfl (mjv (by unfold mAppend; rw [if_pos c8, if_neg hne_]; rfl) (by unfold mAppend; rw [if_pos c8, if_neg hne_]))
    · have h60_ : len = 60 := (nI_eq (by omega) (by decide)).mp (hlen.symm.trans c20)
      refine j_bipush (v := (-13)) dX2_append_23 (by decide) ?_
      exact j_ireturn dX2_append_25 rfl (mjv (by unfold mAppend; rw [if_pos c8, if_pos h60_]) (by unfold mAppend; rw [if_pos c8, if_pos h60_]))
  · refine j_bipush (v := (-12)) dX2_append_11 (by decide) ?_
    exact j_ireturn dX2_append_13 rfl (mjv (by unfold mAppend; rw [c8]; rfl) (by unfold mAppend; rw [c8]; rfl))

theorem mm_X2_account (hO : mOK G M L) (s : MS) {n : Nat} (hn : s.2 0 2 = nI n) (hn16 : n ≤ 16) (x : Int32) : JM l G 3 yX2_account wX2_account [.ref (L 0), .int x] (mput M L s) (jv (.int (mAccount s n x)) (mput M L s)) := by
  refine JM.of pn_X2 (Nat.le_of_ble_eq_true rfl) (hO.1.1) ?_
  show JW l G 3 YX2_account _ 0 [(0, .ref (L 0)), (1, .int x)] [] (mput M L s)
  refine j_iload_n dX2_account_0 rfl ?_
  rcases m_sw x 16 (by decide) with ⟨w, hw_, rfl⟩ | ⟨ho_, hin_⟩
  · have hin_ : mIn (nI w) 0 (nI 16) = true := mIn_nI (by decide) hw_
    have ew_ : mN (nI w) = w := mN_nI (by omega)
    obtain rfl | rfl | rfl | rfl | rfl | rfl | rfl | rfl | rfl | rfl | rfl | rfl | rfl | rfl | rfl | rfl | rfl : w = 0 ∨ w = 1 ∨ w = 2 ∨ w = 3 ∨ w = 4 ∨ w = 5 ∨ w = 6 ∨ w = 7 ∨ w = 8 ∨ w = 9 ∨ w = 10 ∨ w = 11 ∨ w = 12 ∨ w = 13 ∨ w = 14 ∨ w = 15 ∨ w = 16 := by omega
    · refine j_tableIn (off := 83) (tgt := 84) dX2_account_1 (by decide +kernel) (by decide +kernel) (by decide +kernel) (by decide) ?_
      refine j_aload_n dX2_account_84 rfl rfl ?_
      refine mj_get hO dX2_account_85 fd_X2_7_2 rfl ?_
      refine j_iload_n dX2_account_88 rfl ?_
      refine mj_iald (j := 0) (i := 0) hO dX2_account_89 (by decide) rfl (by decide) ?_
      exact j_ireturn dX2_account_90 rfl (mjv (by unfold mAccount; rw [if_pos hin_, ew_]; rfl) rfl)
    · refine j_tableIn (off := 83) (tgt := 84) dX2_account_1 (by decide +kernel) (by decide +kernel) (by decide +kernel) (by decide) ?_
      refine j_aload_n dX2_account_84 rfl rfl ?_
      refine mj_get hO dX2_account_85 fd_X2_7_2 rfl ?_
      refine j_iload_n dX2_account_88 rfl ?_
      refine mj_iald (j := 0) (i := 1) hO dX2_account_89 (by decide) rfl (by decide) ?_
      exact j_ireturn dX2_account_90 rfl (mjv (by unfold mAccount; rw [if_pos hin_, ew_]; rfl) rfl)
    · refine j_tableIn (off := 83) (tgt := 84) dX2_account_1 (by decide +kernel) (by decide +kernel) (by decide +kernel) (by decide) ?_
      refine j_aload_n dX2_account_84 rfl rfl ?_
      refine mj_get hO dX2_account_85 fd_X2_7_2 rfl ?_
      refine j_iload_n dX2_account_88 rfl ?_
      refine mj_iald (j := 0) (i := 2) hO dX2_account_89 (by decide) rfl (by decide) ?_
      exact j_ireturn dX2_account_90 rfl (mjv (by unfold mAccount; rw [if_pos hin_, ew_]; rfl) rfl)
    · refine j_tableIn (off := 90) (tgt := 91) dX2_account_1 (by decide +kernel) (by decide +kernel) (by decide +kernel) (by decide) ?_
      refine j_aload_n dX2_account_91 rfl rfl ?_
      refine j_iload_n dX2_account_92 rfl ?_
      refine j_iconst (v := 3) dX2_account_93 (by decide) ?_
      refine j_isub dX2_account_94 ?_
      rw [show ((nI 3) - 3) = 0 from (by decide +kernel)]
      refine j_callV (mm_X2_brethrenThat hO s hn hn16 0) dX2_account_95 mt_X2_brethrenThat q2260 q2262 qs50 (hO.at s (i := 0) (by decide)) (by decide) rfl cd_X2_brethrenThat (Nat.le_of_ble_eq_true rfl) rfl rfl (Nat.le_of_ble_eq_true rfl) (jk_v ?_) jx_v
      exact j_ireturn dX2_account_98 rfl (mjv (by unfold mAccount; rw [if_pos hin_, ew_]; rfl) rfl)
    · refine j_tableIn (off := 90) (tgt := 91) dX2_account_1 (by decide +kernel) (by decide +kernel) (by decide +kernel) (by decide) ?_
      refine j_aload_n dX2_account_91 rfl rfl ?_
      refine j_iload_n dX2_account_92 rfl ?_
      refine j_iconst (v := 3) dX2_account_93 (by decide) ?_
      refine j_isub dX2_account_94 ?_
      rw [show ((nI 4) - 3) = 1 from (by decide +kernel)]
      refine j_callV (mm_X2_brethrenThat hO s hn hn16 1) dX2_account_95 mt_X2_brethrenThat q2260 q2262 qs50 (hO.at s (i := 0) (by decide)) (by decide) rfl cd_X2_brethrenThat (Nat.le_of_ble_eq_true rfl) rfl rfl (Nat.le_of_ble_eq_true rfl) (jk_v ?_) jx_v
      exact j_ireturn dX2_account_98 rfl (mjv (by unfold mAccount; rw [if_pos hin_, ew_]; rfl) rfl)
    · refine j_tableIn (off := 90) (tgt := 91) dX2_account_1 (by decide +kernel) (by decide +kernel) (by decide +kernel) (by decide) ?_
      refine j_aload_n dX2_account_91 rfl rfl ?_
      refine j_iload_n dX2_account_92 rfl ?_
      refine j_iconst (v := 3) dX2_account_93 (by decide) ?_
      refine j_isub dX2_account_94 ?_
      rw [show ((nI 5) - 3) = 2 from (by decide +kernel)]
      refine j_callV (mm_X2_brethrenThat hO s hn hn16 2) dX2_account_95 mt_X2_brethrenThat q2260 q2262 qs50 (hO.at s (i := 0) (by decide)) (by decide) rfl cd_X2_brethrenThat (Nat.le_of_ble_eq_true rfl) rfl rfl (Nat.le_of_ble_eq_true rfl) (jk_v ?_) jx_v
      exact j_ireturn dX2_account_98 rfl (mjv (by unfold mAccount; rw [if_pos hin_, ew_]; rfl) rfl)
    · refine j_tableIn (off := 90) (tgt := 91) dX2_account_1 (by decide +kernel) (by decide +kernel) (by decide +kernel) (by decide) ?_
      refine j_aload_n dX2_account_91 rfl rfl ?_
      refine j_iload_n dX2_account_92 rfl ?_
      refine j_iconst (v := 3) dX2_account_93 (by decide) ?_
      refine j_isub dX2_account_94 ?_
      rw [show ((nI 6) - 3) = 3 from (by decide +kernel)]
      refine j_callV (mm_X2_brethrenThat hO s hn hn16 3) dX2_account_95 mt_X2_brethrenThat q2260 q2262 qs50 (hO.at s (i := 0) (by decide)) (by decide) rfl cd_X2_brethrenThat (Nat.le_of_ble_eq_true rfl) rfl rfl (Nat.le_of_ble_eq_true rfl) (jk_v ?_) jx_v
      exact j_ireturn dX2_account_98 rfl (mjv (by unfold mAccount; rw [if_pos hin_, ew_]; rfl) rfl)
    · refine j_tableIn (off := 98) (tgt := 99) dX2_account_1 (by decide +kernel) (by decide +kernel) (by decide +kernel) (by decide) ?_
      refine j_aload_n dX2_account_99 rfl rfl ?_
      refine j_callV (mm_X2_banned hO s hn hn16) dX2_account_100 mt_X2_banned q2554 q2556 qs95 (hO.at s (i := 0) (by decide)) (by decide) rfl cd_X2_banned (Nat.le_of_ble_eq_true rfl) rfl rfl (Nat.le_of_ble_eq_true rfl) (jk_v ?_) jx_v
      exact j_ireturn dX2_account_103 rfl (mjv (by unfold mAccount; rw [if_pos hin_, ew_]; rfl) rfl)
    · refine j_tableIn (off := 103) (tgt := 104) dX2_account_1 (by decide +kernel) (by decide +kernel) (by decide +kernel) (by decide) ?_
      refine j_aload_n dX2_account_104 rfl rfl ?_
      refine mj_get hO dX2_account_105 fd_X2_7_2 rfl ?_
      refine j_bipush (v := 9) dX2_account_108 (by decide) ?_
      refine mj_iald (j := 0) (i := 9) hO dX2_account_110 (by decide) rfl (by decide) ?_
      exact j_ireturn dX2_account_111 rfl (mjv (by unfold mAccount; rw [if_pos hin_, ew_]; rfl) rfl)
    · refine j_tableIn (off := 111) (tgt := 112) dX2_account_1 (by decide +kernel) (by decide +kernel) (by decide +kernel) (by decide) ?_
      refine j_aload_n dX2_account_112 rfl rfl ?_
      refine mj_get hO dX2_account_113 fd_X2_7_2 rfl ?_
      refine j_iload_n dX2_account_116 rfl ?_
      refine j_bipush (v := 6) dX2_account_117 (by decide) ?_
      refine j_isub dX2_account_119 ?_
      refine mj_iald (j := 0) (i := 3) hO dX2_account_120 (by decide) (by decide +kernel) (by decide) ?_
      exact j_ireturn dX2_account_121 rfl (mjv (by unfold mAccount; rw [if_pos hin_, ew_]; rfl) rfl)
    · refine j_tableIn (off := 111) (tgt := 112) dX2_account_1 (by decide +kernel) (by decide +kernel) (by decide +kernel) (by decide) ?_
      refine j_aload_n dX2_account_112 rfl rfl ?_
      refine mj_get hO dX2_account_113 fd_X2_7_2 rfl ?_
      refine j_iload_n dX2_account_116 rfl ?_
      refine j_bipush (v := 6) dX2_account_117 (by decide) ?_
      refine j_isub dX2_account_119 ?_
      refine mj_iald (j := 0) (i := 4) hO dX2_account_120 (by decide) (by decide +kernel) (by decide) ?_
      exact j_ireturn dX2_account_121 rfl (mjv (by unfold mAccount; rw [if_pos hin_, ew_]; rfl) rfl)
    · refine j_tableIn (off := 111) (tgt := 112) dX2_account_1 (by decide +kernel) (by decide +kernel) (by decide +kernel) (by decide) ?_
      refine j_aload_n dX2_account_112 rfl rfl ?_
      refine mj_get hO dX2_account_113 fd_X2_7_2 rfl ?_
      refine j_iload_n dX2_account_116 rfl ?_
      refine j_bipush (v := 6) dX2_account_117 (by decide) ?_
      refine j_isub dX2_account_119 ?_
      refine mj_iald (j := 0) (i := 5) hO dX2_account_120 (by decide) (by decide +kernel) (by decide) ?_
      exact j_ireturn dX2_account_121 rfl (mjv (by unfold mAccount; rw [if_pos hin_, ew_]; rfl) rfl)
    · refine j_tableIn (off := 111) (tgt := 112) dX2_account_1 (by decide +kernel) (by decide +kernel) (by decide +kernel) (by decide) ?_
      refine j_aload_n dX2_account_112 rfl rfl ?_
      refine mj_get hO dX2_account_113 fd_X2_7_2 rfl ?_
      refine j_iload_n dX2_account_116 rfl ?_
      refine j_bipush (v := 6) dX2_account_117 (by decide) ?_
      refine j_isub dX2_account_119 ?_
      refine mj_iald (j := 0) (i := 6) hO dX2_account_120 (by decide) (by decide +kernel) (by decide) ?_
      exact j_ireturn dX2_account_121 rfl (mjv (by unfold mAccount; rw [if_pos hin_, ew_]; rfl) rfl)
    · refine j_tableIn (off := 111) (tgt := 112) dX2_account_1 (by decide +kernel) (by decide +kernel) (by decide +kernel) (by decide) ?_
      refine j_aload_n dX2_account_112 rfl rfl ?_
      refine mj_get hO dX2_account_113 fd_X2_7_2 rfl ?_
      refine j_iload_n dX2_account_116 rfl ?_
      refine j_bipush (v := 6) dX2_account_117 (by decide) ?_
      refine j_isub dX2_account_119 ?_
      refine mj_iald (j := 0) (i := 7) hO dX2_account_120 (by decide) (by decide +kernel) (by decide) ?_
      exact j_ireturn dX2_account_121 rfl (mjv (by unfold mAccount; rw [if_pos hin_, ew_]; rfl) rfl)
    · refine j_tableIn (off := 111) (tgt := 112) dX2_account_1 (by decide +kernel) (by decide +kernel) (by decide +kernel) (by decide) ?_
      refine j_aload_n dX2_account_112 rfl rfl ?_
      refine mj_get hO dX2_account_113 fd_X2_7_2 rfl ?_
      refine j_iload_n dX2_account_116 rfl ?_
      refine j_bipush (v := 6) dX2_account_117 (by decide) ?_
      refine j_isub dX2_account_119 ?_
      refine mj_iald (j := 0) (i := 8) hO dX2_account_120 (by decide) (by decide +kernel) (by decide) ?_
      exact j_ireturn dX2_account_121 rfl (mjv (by unfold mAccount; rw [if_pos hin_, ew_]; rfl) rfl)
    · refine j_tableIn (off := 121) (tgt := 122) dX2_account_1 (by decide +kernel) (by decide +kernel) (by decide +kernel) (by decide) ?_
      refine j_aload_n dX2_account_122 rfl rfl ?_
      refine mj_get hO dX2_account_123 fd_X2_204_2 rfl ?_
      exact j_ireturn dX2_account_126 rfl (mjv (by unfold mAccount; rw [if_pos hin_, ew_]; rfl) rfl)
    · refine j_tableIn (off := 126) (tgt := 127) dX2_account_1 (by decide +kernel) (by decide +kernel) (by decide +kernel) (by decide) ?_
      refine j_aload_n dX2_account_127 rfl rfl ?_
      refine mj_get hO dX2_account_128 fd_X2_48_2 rfl ?_
      exact j_ireturn dX2_account_131 rfl (mjv (by unfold mAccount; rw [if_pos hin_, ew_]; rfl) rfl)
  · refine j_tableOut (tgt := 132) dX2_account_1 ho_ (by decide) ?_
    refine j_bipush (v := (-12)) dX2_account_132 (by decide) ?_
    exact j_ireturn dX2_account_134 rfl (mjv (by unfold mAccount; rw [hin_]; rfl) rfl)

theorem mm_X2_isBalanced (hO : mOK G M L) (s : MS) {n : Nat} (hn : s.2 0 2 = nI n) (hn16 : n ≤ 16) : JM l G 3 yX2_isBalanced wX2_isBalanced [.ref (L 0)] (mput M L s) (jv (.int (jb (mBal s n))) (mput M L s)) := by
  refine JM.of pn_X2 (Nat.le_of_ble_eq_true rfl) (hO.1.1) ?_
  show JW l G 3 YX2_isBalanced _ 0 [(0, .ref (L 0))] [] (mput M L s)
  refine j_aload_n dX2_isBalanced_0 rfl rfl ?_
  refine mj_get hO dX2_isBalanced_1 fd_X2_7_2 rfl ?_
  refine j_iconst (v := 3) dX2_isBalanced_4 (by decide) ?_
  refine mj_iald (j := 0) (i := 3) hO dX2_isBalanced_5 (by decide) rfl (by decide) ?_
  refine j_bipush (v := 100) dX2_isBalanced_6 (by decide) ?_
  refine j_aload_n dX2_isBalanced_8 rfl rfl ?_
  refine mj_get hO dX2_isBalanced_9 fd_X2_7_2 rfl ?_
  refine j_iconst (v := 4) dX2_isBalanced_12 (by decide) ?_
  refine mj_iald (j := 0) (i := 4) hO dX2_isBalanced_13 (by decide) rfl (by decide) ?_
  refine j_iadd dX2_isBalanced_14 ?_
  refine j_aload_n dX2_isBalanced_15 rfl rfl ?_
  refine mj_get hO dX2_isBalanced_16 fd_X2_7_2 rfl ?_
  refine j_iconst (v := 5) dX2_isBalanced_19 (by decide) ?_
  refine mj_iald (j := 0) (i := 5) hO dX2_isBalanced_20 (by decide) rfl (by decide) ?_
  refine j_isub dX2_isBalanced_21 ?_
  refine j_aload_n dX2_isBalanced_22 rfl rfl ?_
  refine mj_get hO dX2_isBalanced_23 fd_X2_7_2 rfl ?_
  refine j_bipush (v := 6) dX2_isBalanced_26 (by decide) ?_
  refine mj_iald (j := 0) (i := 6) hO dX2_isBalanced_28 (by decide) rfl (by decide) ?_
  refine j_isub dX2_isBalanced_29 ?_
  refine j_icmp_ne (tgt := 50) dX2_isBalanced_30 (by decide) (fun c30 => ?_) (fun c30 => ?_)
  · refine j_iconst (v := 0) dX2_isBalanced_50 (by decide) ?_
    refine j_istore_n dX2_isBalanced_51 (by decide) rfl ?_
    refine j_iconst (v := 0) dX2_isBalanced_52 (by decide) ?_
    refine j_istore_n dX2_isBalanced_53 (by decide) rfl ?_
    refine j_iconst (v := 0) dX2_isBalanced_54 (by decide) ?_
    refine j_istore_n dX2_isBalanced_55 (by decide) rfl ?_
    have l_ : ∀ (fu_ : Nat) (k : Nat) (acc : Int32), 8 - k < fu_ → (k ≤ 8) → (acc = msum (fun c => if mBrotherIn s n (nI c) < 0 then 0 else 1) k) → JW l G 3 YX2_isBalanced (jv (.int (jb (mBal s n))) (mput M L s)) 56 [(0, .ref (L 0)), (1, .int 0), (2, .int acc), (3, .int (nI k))] [] (mput M L s) := by
      intro fu_
      induction fu_ with
      | zero => intro k acc hf_; exact absurd hf_ (Nat.not_lt_zero _)
      | succ fu_ ih_ =>
        intro k acc hf_ hk hacc
        refine j_iload_n dX2_isBalanced_56 rfl ?_
        refine j_bipush (v := 8) dX2_isBalanced_57 (by decide) ?_
        refine j_icmp_ge (tgt := 84) dX2_isBalanced_59 (by decide) (fun q_ => ?_) (fun q_ => ?_)
        · obtain rfl : k = 8 := c_end (n := 8) (by decide) hk q_
          refine j_iload_n dX2_isBalanced_84 rfl ?_
          refine j_if_eq (tgt := 101) dX2_isBalanced_85 (by decide) (fun c85 => ?_) (fun c85 => ?_)
          · refine j_iconst (v := 0) dX2_isBalanced_101 (by decide) ?_
            exact j_ireturn dX2_isBalanced_102 rfl (mjv (by unfold mBal; rw [show mHoused s n = acc from hacc.symm]; simp_all [jb]) rfl)
          · refine j_iload_n dX2_isBalanced_88 rfl ?_
            refine j_aload_n dX2_isBalanced_89 rfl rfl ?_
            refine j_iconst (v := 1) dX2_isBalanced_90 (by decide) ?_
            refine j_callV (mm_X2_brethrenThat hO s hn hn16 1) dX2_isBalanced_91 mt_X2_brethrenThat q2260 q2262 qs50 (hO.at s (i := 0) (by decide)) (by decide) rfl cd_X2_brethrenThat (Nat.le_of_ble_eq_true rfl) rfl rfl (Nat.le_of_ble_eq_true rfl) (jk_v ?_) jx_v
            refine j_icmp_ne (tgt := 101) dX2_isBalanced_94 (by decide) (fun c94 => ?_) (fun c94 => ?_)
            · refine j_iconst (v := 0) dX2_isBalanced_101 (by decide) ?_
              exact j_ireturn dX2_isBalanced_102 rfl (mjv (by unfold mBal; rw [show mHoused s n = acc from hacc.symm]; simp_all [jb]) rfl)
            · refine j_iconst (v := 1) dX2_isBalanced_97 (by decide) ?_
              refine j_goto (tgt := 102) dX2_isBalanced_98 (by decide) ?_
              exact j_ireturn dX2_isBalanced_102 rfl (mjv (by unfold mBal; rw [show mHoused s n = acc from hacc.symm]; simp_all [jb]) rfl)
        · have hk_ : k < 8 := c_on (n := 8) (by decide) q_ hk
          refine j_iload_n dX2_isBalanced_62 rfl ?_
          refine j_aload_n dX2_isBalanced_63 rfl rfl ?_
          refine j_iload_n dX2_isBalanced_64 rfl ?_
          refine j_callV (mm_X2_brotherIn hO s hn hn16 (nI k)) dX2_isBalanced_65 mt_X2_brotherIn q2295 q2297 qs56 (hO.at s (i := 0) (by decide)) (by decide) rfl cd_X2_brotherIn (Nat.le_of_ble_eq_true rfl) rfl rfl (Nat.le_of_ble_eq_true rfl) (jk_v ?_) jx_v
          refine j_if_lt (tgt := 75) dX2_isBalanced_68 (by decide) (fun c68 => ?_) (fun c68 => ?_)
          · refine j_iconst (v := 0) dX2_isBalanced_75 (by decide) ?_
            refine j_iadd dX2_isBalanced_76 ?_
            refine j_istore_n dX2_isBalanced_77 (by decide) rfl ?_
            refine j_iinc (v := nI (k + 1)) dX2_isBalanced_78 rfl (nI_1 _) (by decide) rfl ?_
            refine j_goto (tgt := 56) dX2_isBalanced_81 (by decide) ?_
            refine j_locs (ls2 := [(0, .ref (L 0)), (1, .int 0), (2, .int (acc + 0)), (3, .int (nI (k + 1)))]) ⟨rfl, rfl, rfl, rfl, trivial⟩ (ih_ (k + 1) (acc + 0) (by omega) (by omega) (by rw [hacc]; show _ = msum _ k + _; dsimp only; first | rw [if_pos c68] | rw [if_neg c68] | rw [if_neg (Int32.not_lt.mpr c68)]))
          · refine j_iconst (v := 1) dX2_isBalanced_71 (by decide) ?_
            refine j_goto (tgt := 76) dX2_isBalanced_72 (by decide) ?_
            refine j_iadd dX2_isBalanced_76 ?_
            refine j_istore_n dX2_isBalanced_77 (by decide) rfl ?_
            refine j_iinc (v := nI (k + 1)) dX2_isBalanced_78 rfl (nI_1 _) (by decide) rfl ?_
            refine j_goto (tgt := 56) dX2_isBalanced_81 (by decide) ?_
            refine j_locs (ls2 := [(0, .ref (L 0)), (1, .int 0), (2, .int (acc + 1)), (3, .int (nI (k + 1)))]) ⟨rfl, rfl, rfl, rfl, trivial⟩ (ih_ (k + 1) (acc + 1) (by omega) (by omega) (by rw [hacc]; show _ = msum _ k + _; dsimp only; first | rw [if_pos c68] | rw [if_neg c68] | rw [if_neg (Int32.not_lt.mpr c68)]))
    refine j_locs (ls2 := [(0, .ref (L 0)), (1, .int 0), (2, .int 0), (3, .int (nI 0))]) ⟨rfl, rfl, rfl, rfl, trivial⟩ ?_
    exact l_ _ 0 0 (Nat.lt_succ_self _) (Nat.zero_le _) rfl
  · refine j_aload_n dX2_isBalanced_33 rfl rfl ?_
    refine mj_get hO dX2_isBalanced_34 fd_X2_7_2 rfl ?_
    refine j_iconst (v := 5) dX2_isBalanced_37 (by decide) ?_
    refine mj_iald (j := 0) (i := 5) hO dX2_isBalanced_38 (by decide) rfl (by decide) ?_
    refine j_aload_n dX2_isBalanced_39 rfl rfl ?_
    refine j_callV (mm_X2_gotAll hO s hn hn16) dX2_isBalanced_40 mt_X2_gotAll q2562 q2564 qs96 (hO.at s (i := 0) (by decide)) (by decide) rfl cd_X2_gotAll (Nat.le_of_ble_eq_true rfl) rfl rfl (Nat.le_of_ble_eq_true rfl) (jk_v ?_) jx_v
    refine j_icmp_ne (tgt := 50) dX2_isBalanced_43 (by decide) (fun c43 => ?_) (fun c43 => ?_)
    · refine j_iconst (v := 0) dX2_isBalanced_50 (by decide) ?_
      refine j_istore_n dX2_isBalanced_51 (by decide) rfl ?_
      refine j_iconst (v := 0) dX2_isBalanced_52 (by decide) ?_
      refine j_istore_n dX2_isBalanced_53 (by decide) rfl ?_
      refine j_iconst (v := 0) dX2_isBalanced_54 (by decide) ?_
      refine j_istore_n dX2_isBalanced_55 (by decide) rfl ?_
      have l_ : ∀ (fu_ : Nat) (k : Nat) (acc : Int32), 8 - k < fu_ → (k ≤ 8) → (acc = msum (fun c => if mBrotherIn s n (nI c) < 0 then 0 else 1) k) → JW l G 3 YX2_isBalanced (jv (.int (jb (mBal s n))) (mput M L s)) 56 [(0, .ref (L 0)), (1, .int 0), (2, .int acc), (3, .int (nI k))] [] (mput M L s) := by
        intro fu_
        induction fu_ with
        | zero => intro k acc hf_; exact absurd hf_ (Nat.not_lt_zero _)
        | succ fu_ ih_ =>
          intro k acc hf_ hk hacc
          refine j_iload_n dX2_isBalanced_56 rfl ?_
          refine j_bipush (v := 8) dX2_isBalanced_57 (by decide) ?_
          refine j_icmp_ge (tgt := 84) dX2_isBalanced_59 (by decide) (fun q_ => ?_) (fun q_ => ?_)
          · obtain rfl : k = 8 := c_end (n := 8) (by decide) hk q_
            refine j_iload_n dX2_isBalanced_84 rfl ?_
            refine j_if_eq (tgt := 101) dX2_isBalanced_85 (by decide) (fun c85 => ?_) (fun c85 => ?_)
            · refine j_iconst (v := 0) dX2_isBalanced_101 (by decide) ?_
              exact j_ireturn dX2_isBalanced_102 rfl (mjv (by unfold mBal; rw [show mHoused s n = acc from hacc.symm]; simp_all [jb]) rfl)
            · refine j_iload_n dX2_isBalanced_88 rfl ?_
              refine j_aload_n dX2_isBalanced_89 rfl rfl ?_
              refine j_iconst (v := 1) dX2_isBalanced_90 (by decide) ?_
              refine j_callV (mm_X2_brethrenThat hO s hn hn16 1) dX2_isBalanced_91 mt_X2_brethrenThat q2260 q2262 qs50 (hO.at s (i := 0) (by decide)) (by decide) rfl cd_X2_brethrenThat (Nat.le_of_ble_eq_true rfl) rfl rfl (Nat.le_of_ble_eq_true rfl) (jk_v ?_) jx_v
              refine j_icmp_ne (tgt := 101) dX2_isBalanced_94 (by decide) (fun c94 => ?_) (fun c94 => ?_)
              · refine j_iconst (v := 0) dX2_isBalanced_101 (by decide) ?_
                exact j_ireturn dX2_isBalanced_102 rfl (mjv (by unfold mBal; rw [show mHoused s n = acc from hacc.symm]; simp_all [jb]) rfl)
              · refine j_iconst (v := 1) dX2_isBalanced_97 (by decide) ?_
                refine j_goto (tgt := 102) dX2_isBalanced_98 (by decide) ?_
                exact j_ireturn dX2_isBalanced_102 rfl (mjv (by unfold mBal; rw [show mHoused s n = acc from hacc.symm]; simp_all [jb]) rfl)
          · have hk_ : k < 8 := c_on (n := 8) (by decide) q_ hk
            refine j_iload_n dX2_isBalanced_62 rfl ?_
            refine j_aload_n dX2_isBalanced_63 rfl rfl ?_
            refine j_iload_n dX2_isBalanced_64 rfl ?_
            refine j_callV (mm_X2_brotherIn hO s hn hn16 (nI k)) dX2_isBalanced_65 mt_X2_brotherIn q2295 q2297 qs56 (hO.at s (i := 0) (by decide)) (by decide) rfl cd_X2_brotherIn (Nat.le_of_ble_eq_true rfl) rfl rfl (Nat.le_of_ble_eq_true rfl) (jk_v ?_) jx_v
            refine j_if_lt (tgt := 75) dX2_isBalanced_68 (by decide) (fun c68 => ?_) (fun c68 => ?_)
            · refine j_iconst (v := 0) dX2_isBalanced_75 (by decide) ?_
              refine j_iadd dX2_isBalanced_76 ?_
              refine j_istore_n dX2_isBalanced_77 (by decide) rfl ?_
              refine j_iinc (v := nI (k + 1)) dX2_isBalanced_78 rfl (nI_1 _) (by decide) rfl ?_
              refine j_goto (tgt := 56) dX2_isBalanced_81 (by decide) ?_
              refine j_locs (ls2 := [(0, .ref (L 0)), (1, .int 0), (2, .int (acc + 0)), (3, .int (nI (k + 1)))]) ⟨rfl, rfl, rfl, rfl, trivial⟩ (ih_ (k + 1) (acc + 0) (by omega) (by omega) (by rw [hacc]; show _ = msum _ k + _; dsimp only; first | rw [if_pos c68] | rw [if_neg c68] | rw [if_neg (Int32.not_lt.mpr c68)]))
            · refine j_iconst (v := 1) dX2_isBalanced_71 (by decide) ?_
              refine j_goto (tgt := 76) dX2_isBalanced_72 (by decide) ?_
              refine j_iadd dX2_isBalanced_76 ?_
              refine j_istore_n dX2_isBalanced_77 (by decide) rfl ?_
              refine j_iinc (v := nI (k + 1)) dX2_isBalanced_78 rfl (nI_1 _) (by decide) rfl ?_
              refine j_goto (tgt := 56) dX2_isBalanced_81 (by decide) ?_
              refine j_locs (ls2 := [(0, .ref (L 0)), (1, .int 0), (2, .int (acc + 1)), (3, .int (nI (k + 1)))]) ⟨rfl, rfl, rfl, rfl, trivial⟩ (ih_ (k + 1) (acc + 1) (by omega) (by omega) (by rw [hacc]; show _ = msum _ k + _; dsimp only; first | rw [if_pos c68] | rw [if_neg c68] | rw [if_neg (Int32.not_lt.mpr c68)]))
      refine j_locs (ls2 := [(0, .ref (L 0)), (1, .int 0), (2, .int 0), (3, .int (nI 0))]) ⟨rfl, rfl, rfl, rfl, trivial⟩ ?_
      exact l_ _ 0 0 (Nat.lt_succ_self _) (Nat.zero_le _) rfl
    · refine j_iconst (v := 1) dX2_isBalanced_46 (by decide) ?_
      refine j_goto (tgt := 51) dX2_isBalanced_47 (by decide) ?_
      refine j_istore_n dX2_isBalanced_51 (by decide) rfl ?_
      refine j_iconst (v := 0) dX2_isBalanced_52 (by decide) ?_
      refine j_istore_n dX2_isBalanced_53 (by decide) rfl ?_
      refine j_iconst (v := 0) dX2_isBalanced_54 (by decide) ?_
      refine j_istore_n dX2_isBalanced_55 (by decide) rfl ?_
      have l_ : ∀ (fu_ : Nat) (k : Nat) (acc : Int32), 8 - k < fu_ → (k ≤ 8) → (acc = msum (fun c => if mBrotherIn s n (nI c) < 0 then 0 else 1) k) → JW l G 3 YX2_isBalanced (jv (.int (jb (mBal s n))) (mput M L s)) 56 [(0, .ref (L 0)), (1, .int 1), (2, .int acc), (3, .int (nI k))] [] (mput M L s) := by
        intro fu_
        induction fu_ with
        | zero => intro k acc hf_; exact absurd hf_ (Nat.not_lt_zero _)
        | succ fu_ ih_ =>
          intro k acc hf_ hk hacc
          refine j_iload_n dX2_isBalanced_56 rfl ?_
          refine j_bipush (v := 8) dX2_isBalanced_57 (by decide) ?_
          refine j_icmp_ge (tgt := 84) dX2_isBalanced_59 (by decide) (fun q_ => ?_) (fun q_ => ?_)
          · obtain rfl : k = 8 := c_end (n := 8) (by decide) hk q_
            refine j_iload_n dX2_isBalanced_84 rfl ?_
            refine j_if_eq (tgt := 101) dX2_isBalanced_85 (by decide) (fun c85 => ?_) (fun c85 => ?_)
            · refine j_iconst (v := 0) dX2_isBalanced_101 (by decide) ?_
              exact j_ireturn dX2_isBalanced_102 rfl (mjv (by unfold mBal; rw [show mHoused s n = acc from hacc.symm]; simp_all [jb]) rfl)
            · refine j_iload_n dX2_isBalanced_88 rfl ?_
              refine j_aload_n dX2_isBalanced_89 rfl rfl ?_
              refine j_iconst (v := 1) dX2_isBalanced_90 (by decide) ?_
              refine j_callV (mm_X2_brethrenThat hO s hn hn16 1) dX2_isBalanced_91 mt_X2_brethrenThat q2260 q2262 qs50 (hO.at s (i := 0) (by decide)) (by decide) rfl cd_X2_brethrenThat (Nat.le_of_ble_eq_true rfl) rfl rfl (Nat.le_of_ble_eq_true rfl) (jk_v ?_) jx_v
              refine j_icmp_ne (tgt := 101) dX2_isBalanced_94 (by decide) (fun c94 => ?_) (fun c94 => ?_)
              · refine j_iconst (v := 0) dX2_isBalanced_101 (by decide) ?_
                exact j_ireturn dX2_isBalanced_102 rfl (mjv (by unfold mBal; rw [show mHoused s n = acc from hacc.symm]; simp_all [jb]) rfl)
              · refine j_iconst (v := 1) dX2_isBalanced_97 (by decide) ?_
                refine j_goto (tgt := 102) dX2_isBalanced_98 (by decide) ?_
                exact j_ireturn dX2_isBalanced_102 rfl (mjv (by unfold mBal; rw [show mHoused s n = acc from hacc.symm]; simp_all [jb]) rfl)
          · have hk_ : k < 8 := c_on (n := 8) (by decide) q_ hk
            refine j_iload_n dX2_isBalanced_62 rfl ?_
            refine j_aload_n dX2_isBalanced_63 rfl rfl ?_
            refine j_iload_n dX2_isBalanced_64 rfl ?_
            refine j_callV (mm_X2_brotherIn hO s hn hn16 (nI k)) dX2_isBalanced_65 mt_X2_brotherIn q2295 q2297 qs56 (hO.at s (i := 0) (by decide)) (by decide) rfl cd_X2_brotherIn (Nat.le_of_ble_eq_true rfl) rfl rfl (Nat.le_of_ble_eq_true rfl) (jk_v ?_) jx_v
            refine j_if_lt (tgt := 75) dX2_isBalanced_68 (by decide) (fun c68 => ?_) (fun c68 => ?_)
            · refine j_iconst (v := 0) dX2_isBalanced_75 (by decide) ?_
              refine j_iadd dX2_isBalanced_76 ?_
              refine j_istore_n dX2_isBalanced_77 (by decide) rfl ?_
              refine j_iinc (v := nI (k + 1)) dX2_isBalanced_78 rfl (nI_1 _) (by decide) rfl ?_
              refine j_goto (tgt := 56) dX2_isBalanced_81 (by decide) ?_
              refine j_locs (ls2 := [(0, .ref (L 0)), (1, .int 1), (2, .int (acc + 0)), (3, .int (nI (k + 1)))]) ⟨rfl, rfl, rfl, rfl, trivial⟩ (ih_ (k + 1) (acc + 0) (by omega) (by omega) (by rw [hacc]; show _ = msum _ k + _; dsimp only; first | rw [if_pos c68] | rw [if_neg c68] | rw [if_neg (Int32.not_lt.mpr c68)]))
            · refine j_iconst (v := 1) dX2_isBalanced_71 (by decide) ?_
              refine j_goto (tgt := 76) dX2_isBalanced_72 (by decide) ?_
              refine j_iadd dX2_isBalanced_76 ?_
              refine j_istore_n dX2_isBalanced_77 (by decide) rfl ?_
              refine j_iinc (v := nI (k + 1)) dX2_isBalanced_78 rfl (nI_1 _) (by decide) rfl ?_
              refine j_goto (tgt := 56) dX2_isBalanced_81 (by decide) ?_
              refine j_locs (ls2 := [(0, .ref (L 0)), (1, .int 1), (2, .int (acc + 1)), (3, .int (nI (k + 1)))]) ⟨rfl, rfl, rfl, rfl, trivial⟩ (ih_ (k + 1) (acc + 1) (by omega) (by omega) (by rw [hacc]; show _ = msum _ k + _; dsimp only; first | rw [if_pos c68] | rw [if_neg c68] | rw [if_neg (Int32.not_lt.mpr c68)]))
      refine j_locs (ls2 := [(0, .ref (L 0)), (1, .int 1), (2, .int 0), (3, .int (nI 0))]) ⟨rfl, rfl, rfl, rfl, trivial⟩ ?_
      exact l_ _ 0 0 (Nat.lt_succ_self _) (Nat.zero_le _) rfl

theorem mm_X2_meanAge (hO : mOK G M L) (s : MS) {n : Nat} (hn : s.2 0 2 = nI n) (hn16 : n ≤ 16) (hd : mThat s n 1 ≠ 0 → vf_n64 (FP.ddiv (FP.i2d (mAgesAll s n)) (FP.i2d (mThat s n 1)))) : JM l G 3 yX2_meanAge wX2_meanAge [.ref (L 0)] (mput M L s) (jv (.double (mMean s n)) (mput M L s)) := by
  refine JM.of pn_X2 (Nat.le_of_ble_eq_true rfl) (hO.1.1) ?_
  show JW l G 3 YX2_meanAge _ 0 [(0, .ref (L 0))] [] (mput M L s)
  refine j_aload_n dX2_meanAge_0 rfl rfl ?_
  refine j_iconst (v := 1) dX2_meanAge_1 (by decide) ?_
  refine j_callV (mm_X2_brethrenThat hO s hn hn16 1) dX2_meanAge_2 mt_X2_brethrenThat q2260 q2262 qs50 (hO.at s (i := 0) (by decide)) (by decide) rfl cd_X2_brethrenThat (Nat.le_of_ble_eq_true rfl) rfl rfl (Nat.le_of_ble_eq_true rfl) (jk_v ?_) jx_v
  refine j_istore_n dX2_meanAge_5 (by decide) rfl ?_
  refine j_iconst (v := 0) dX2_meanAge_6 (by decide) ?_
  refine j_istore_n dX2_meanAge_7 (by decide) rfl ?_
  refine j_iconst (v := 0) dX2_meanAge_8 (by decide) ?_
  refine j_istore_n dX2_meanAge_9 (by decide) rfl ?_
  have l_ : ∀ (fu_ : Nat) (k : Nat) (acc : Int32), n - k < fu_ → (k ≤ n) → (acc = msum (fun b => if mSo s b 1 then mo s b 0 else 0) k) → JW l G 3 YX2_meanAge (jv (.double (mMean s n)) (mput M L s)) 10 [(0, .ref (L 0)), (1, .int (mThat s n 1)), (2, .int acc), (3, .int (nI k))] [] (mput M L s) := by
    intro fu_
    induction fu_ with
    | zero => intro k acc hf_; exact absurd hf_ (Nat.not_lt_zero _)
    | succ fu_ ih_ =>
      intro k acc hf_ hk hacc
      refine j_iload_n dX2_meanAge_10 rfl ?_
      refine j_aload_n dX2_meanAge_11 rfl rfl ?_
      refine mj_get hO dX2_meanAge_12 fd_X2_7_2 rfl ?_
      refine j_iconst (v := 2) dX2_meanAge_15 (by decide) ?_
      refine mj_iald (j := 0) (i := 2) hO dX2_meanAge_16 (by decide) rfl (by decide) ?_
      refine j_icmp_ge (tgt := 48) dX2_meanAge_17 (by decide) (fun q_ => ?_) (fun q_ => ?_)
      · obtain rfl : n = k := (n_end hn hn16 hk q_).symm
        rw [show acc = mAgesAll s n from hacc]
        refine j_iload_n dX2_meanAge_48 rfl ?_
        refine j_if_ne (tgt := 56) dX2_meanAge_49 (by decide) (fun c49 => ?_) (fun c49 => ?_)
        · refine j_iload_n dX2_meanAge_56 rfl ?_
          refine j_i2d dX2_meanAge_57 ?_
          refine j_iload_n dX2_meanAge_58 rfl ?_
          refine j_i2d dX2_meanAge_59 ?_
          refine j_ddiv dX2_meanAge_60 (hd c49) ?_
          exact j_dreturn dX2_meanAge_61 rfl (show jv _ _ _ by unfold mMean; first | rw [if_pos c49]; rfl | rw [if_neg c49]; rfl)
        · refine j_dconst0 dX2_meanAge_52 ?_
          refine j_goto (tgt := 61) dX2_meanAge_53 (by decide) ?_
          exact j_dreturn dX2_meanAge_61 rfl (show jv _ _ _ by unfold mMean; first | rw [if_pos c49]; rfl | rw [if_neg c49]; rfl)
      · have hk_ := n_on hn hn16 q_ hk
        refine j_iload_n dX2_meanAge_20 rfl ?_
        refine j_aload_n dX2_meanAge_21 rfl rfl ?_
        refine j_iload_n dX2_meanAge_22 rfl ?_
        refine j_iconst (v := 1) dX2_meanAge_23 (by decide) ?_
        refine j_callV (mm_X2_isSo hO s (b := k) (by omega) 1) dX2_meanAge_24 mt_X2_isSo q2244 q2246 qs46 (hO.at s (i := 0) (by decide)) (by decide) rfl cd_X2_isSo (Nat.le_of_ble_eq_true rfl) rfl rfl (Nat.le_of_ble_eq_true rfl) (jk_v ?_) jx_v
        refine j_ifeqB (tgt := 39) dX2_meanAge_27 (by decide) (fun c27 => ?_) (fun c27 => ?_)
        · refine j_iconst (v := 0) dX2_meanAge_39 (by decide) ?_
          refine j_iadd dX2_meanAge_40 ?_
          refine j_istore_n dX2_meanAge_41 (by decide) rfl ?_
          refine j_iinc (v := nI (k + 1)) dX2_meanAge_42 rfl (nI_1 _) (by decide) rfl ?_
          refine j_goto (tgt := 10) dX2_meanAge_45 (by decide) ?_
          refine j_locs (ls2 := [(0, .ref (L 0)), (1, .int (mThat s n 1)), (2, .int (acc + 0)), (3, .int (nI (k + 1)))]) ⟨rfl, rfl, rfl, rfl, trivial⟩ (ih_ (k + 1) (acc + 0) (by omega) (by omega) (by rw [hacc]; show _ = msum _ k + _; dsimp only; first | rw [if_pos c27] | rw [if_neg (Bool.eq_false_iff.mp c27)]))
        · refine j_aload_n dX2_meanAge_30 rfl rfl ?_
          refine j_iload_n dX2_meanAge_31 rfl ?_
          refine j_iconst (v := 0) dX2_meanAge_32 (by decide) ?_
          refine j_callV (mm_X2_of hO s (b := k) (k := 0) (by omega) (by omega)) dX2_meanAge_33 mt_X2_of q2248 q2250 qs47 (hO.at s (i := 0) (by decide)) (by decide) rfl cd_X2_of (Nat.le_of_ble_eq_true rfl) rfl rfl (Nat.le_of_ble_eq_true rfl) (jk_v ?_) jx_v
          refine j_goto (tgt := 40) dX2_meanAge_36 (by decide) ?_
          refine j_iadd dX2_meanAge_40 ?_
          refine j_istore_n dX2_meanAge_41 (by decide) rfl ?_
          refine j_iinc (v := nI (k + 1)) dX2_meanAge_42 rfl (nI_1 _) (by decide) rfl ?_
          refine j_goto (tgt := 10) dX2_meanAge_45 (by decide) ?_
          refine j_locs (ls2 := [(0, .ref (L 0)), (1, .int (mThat s n 1)), (2, .int (acc + (mo s k 0))), (3, .int (nI (k + 1)))]) ⟨rfl, rfl, rfl, rfl, trivial⟩ (ih_ (k + 1) (acc + (mo s k 0)) (by omega) (by omega) (by rw [hacc]; show _ = msum _ k + _; dsimp only; first | rw [if_pos c27] | rw [if_neg (Bool.eq_false_iff.mp c27)]))
  refine j_locs (ls2 := [(0, .ref (L 0)), (1, .int (mThat s n 1)), (2, .int 0), (3, .int (nI 0))]) ⟨rfl, rfl, rfl, rfl, trivial⟩ ?_
  exact l_ _ 0 0 (Nat.lt_succ_self _) (Nat.zero_le _) rfl

theorem mm_X2_entitledShare (hO : mOK G M L) (s : MS) {n : Nat} (hn : s.2 0 2 = nI n) (hn16 : n ≤ 16) (hd : mThat s n 1 ≠ 0 → vf_n32 (FP.fdiv (FP.i2f (mEntMany s n)) (FP.i2f (mThat s n 1)))) : JM l G 4 yX2_entitledShare wX2_entitledShare [.ref (L 0)] (mput M L s) (jv (.float (mShare s n)) (mput M L s)) := by
  refine JM.of pn_X2 (Nat.le_of_ble_eq_true rfl) (hO.1.1) ?_
  show JW l G 4 YX2_entitledShare _ 0 [(0, .ref (L 0))] [] (mput M L s)
  refine j_aload_n dX2_entitledShare_0 rfl rfl ?_
  refine j_iconst (v := 1) dX2_entitledShare_1 (by decide) ?_
  refine j_callV (mm_X2_brethrenThat hO s hn hn16 1) dX2_entitledShare_2 mt_X2_brethrenThat q2260 q2262 qs50 (hO.at s (i := 0) (by decide)) (by decide) rfl cd_X2_brethrenThat (Nat.le_of_ble_eq_true rfl) rfl rfl (Nat.le_of_ble_eq_true rfl) (jk_v ?_) jx_v
  refine j_istore_n dX2_entitledShare_5 (by decide) rfl ?_
  refine j_iload_n dX2_entitledShare_6 rfl ?_
  refine j_if_ne (tgt := 14) dX2_entitledShare_7 (by decide) (fun c7 => ?_) (fun c7 => ?_)
  · refine j_aload_n dX2_entitledShare_14 rfl rfl ?_
    refine j_callV (mm_X2_entitledMany hO s hn hn16) dX2_entitledShare_15 mt_X2_entitledMany q2390 q2392 qs73 (hO.at s (i := 0) (by decide)) (by decide) rfl cd_X2_entitledMany (Nat.le_of_ble_eq_true rfl) rfl rfl (Nat.le_of_ble_eq_true rfl) (jk_v ?_) jx_v
    refine j_i2f dX2_entitledShare_18 ?_
    refine j_iload_n dX2_entitledShare_19 rfl ?_
    refine j_i2f dX2_entitledShare_20 ?_
    refine j_fdiv dX2_entitledShare_21 (hd c7) ?_
    exact j_freturn dX2_entitledShare_22 rfl (show jv _ _ _ by unfold mShare; first | rw [if_pos c7]; rfl | rw [if_neg c7]; rfl)
  · refine j_fconst0 dX2_entitledShare_10 ?_
    refine j_goto (tgt := 22) dX2_entitledShare_11 (by decide) ?_
    exact j_freturn dX2_entitledShare_22 rfl (show jv _ _ _ by unfold mShare; first | rw [if_pos c7]; rfl | rw [if_neg c7]; rfl)

theorem mm_X2_undo (hO : mOK G M L) (s : MS) {c f : Nat} (hc : s.1 8 = nI c) (hf : s.1 9 = nI f) (hc8 : c ≤ 8) (hf8 : f < 8) : JM l G 0 yX2_undo wX2_undo [.ref (L 0)] (mput M L s) (jv (.int ((mUndo s c f).1)) (mput M L ((mUndo s c f).2))) := by
  refine JM.of pn_X2 (Nat.le_of_ble_eq_true rfl) (hO.1.1) ?_
  show JW l G 0 YX2_undo _ 0 [(0, .ref (L 0))] [] (mput M L s)
  refine j_aload_n dX2_undo_0 rfl rfl ?_
  refine mj_get hO dX2_undo_1 fd_X2_48_2 rfl ?_
  refine j_if_ne (tgt := 10) dX2_undo_4 (by decide) (fun c4 => ?_) (fun c4 => ?_)
  · refine j_aload_n dX2_undo_10 rfl rfl ?_
    refine j_dup dX2_undo_11 rfl ?_
    refine mj_get hO dX2_undo_12 fd_X2_48_2 rfl ?_
    refine j_iconst (v := 1) dX2_undo_15 (by decide) ?_
    refine j_isub dX2_undo_16 ?_
    refine mj_put hO dX2_undo_17 fd_X2_48_2 rfl (fun r hr => ⟨(ft_2_8 r hr).1, (ft_2_8 r hr).2.1⟩) rfl rfl ?_
    have hc0_ : ¬ c = 0 := fun q => c4 (by rw [hc, q]; rfl)
    have e8_ : s.1 8 - 1 = nI (c - 1) := by
      obtain ⟨c1, rfl⟩ : ∃ c1, c = c1 + 1 := ⟨c - 1, by omega⟩
      rw [hc, nI_pred]; rfl
    refine j_mem (M' := mput M L (ms_z s 8 (nI (c - 1)))) (congrArg (mput M L) (congrArg (ms_z s 8) e8_.symm)) ?_
    refine j_aload_n dX2_undo_20 rfl rfl ?_
    refine mj_get hO dX2_undo_21 fd_X2_51_2 rfl ?_
    refine j_aload_n dX2_undo_24 rfl rfl ?_
    refine mj_get hO dX2_undo_25 fd_X2_48_2 rfl ?_
    refine j_iadd dX2_undo_28 ?_
    refine j_bipush (v := 8) dX2_undo_29 (by decide) ?_
    refine j_irem dX2_undo_31 (by decide) ?_
    refine j_istore_n dX2_undo_32 (by decide) rfl ?_
    refine j_iconst (v := 0) dX2_undo_33 (by decide) ?_
    refine j_istore_n dX2_undo_34 (by decide) rfl ?_
    have et_ : ((((ms_z s 8 (nI (c - 1))).1 9) + ((ms_z s 8 (nI (c - 1))).1 8)) - (((ms_z s 8 (nI (c - 1))).1 9) + ((ms_z s 8 (nI (c - 1))).1 8)) / 8 * 8) = nI ((f + (c - 1)) % 8) := by
      show (s.1 9 + nI (c - 1)) - (s.1 9 + nI (c - 1)) / nI 8 * nI 8 = _
      rw [hf, nI_add, pk_rem (by omega) (by decide) (by decide)]
    rw [et_]
    have hto_ : (f + (c - 1)) % 8 < 8 := Nat.mod_lt _ (by decide)
    -- loop at 35
    refine j_mem (M' := mput M L (mCp (ms_z s 8 (nI (c - 1))) 0 (fun i => s.2 1 (320 * ((f + (c - 1)) % 8) + i)) 0)) (congrArg (mput M L) (mCp_0 (ms_z s 8 (nI (c - 1))) 0 (fun i => s.2 1 (320 * ((f + (c - 1)) % 8) + i)))) ?_
    have l13_ : ∀ (fu_ : Nat) (k : Nat), 320 - k < fu_ → (k ≤ 320) → JW l G 0 YX2_undo (jv (.int ((mUndo s c f).1)) (mput M L ((mUndo s c f).2))) 35 [(0, .ref (L 0)), (1, .int (nI ((f + (c - 1)) % 8))), (2, .int (nI k))] [] (mput M L (mCp (ms_z s 8 (nI (c - 1))) 0 (fun i => s.2 1 (320 * ((f + (c - 1)) % 8) + i)) k)) := by
      intro fu_
      induction fu_ with
      | zero => intro k hf_; exact absurd hf_ (Nat.not_lt_zero _)
      | succ fu_ ih_ =>
        intro k hf_ hk
        refine j_iload_n dX2_undo_35 rfl ?_
        refine j_sipush (v := 320) dX2_undo_36 (by decide) ?_
        refine j_icmp_ge (tgt := 66) dX2_undo_39 (by decide) (fun q13_ => ?_) (fun q13_ => ?_)
        · obtain rfl : k = 320 := c_end (n := 320) (by decide) hk q13_
          refine j_aload_n dX2_undo_66 rfl rfl ?_
          refine mj_get hO dX2_undo_67 fd_X2_48_2 rfl ?_
          exact j_ireturn dX2_undo_70 rfl (mjv (by unfold mUndo; rw [if_neg hc0_]; rfl) (by unfold mUndo; rw [if_neg hc0_]))
        · have hk_ : k < 320 := c_on (n := 320) (by decide) q13_ hk
          refine j_aload_n dX2_undo_42 rfl rfl ?_
          refine mj_get hO dX2_undo_43 fd_X2_7_2 rfl ?_
          refine j_iload_n dX2_undo_46 rfl ?_
          refine j_aload_n dX2_undo_47 rfl rfl ?_
          refine mj_get hO dX2_undo_48 fd_X2_13_2 rfl ?_
          refine j_sipush (v := 320) dX2_undo_51 (by decide) ?_
          refine j_iload_n dX2_undo_54 rfl ?_
          refine j_imul dX2_undo_55 ?_
          refine j_iload_n dX2_undo_56 rfl ?_
          refine j_iadd dX2_undo_57 ?_
          refine mj_iald (j := 1) (i := (320 * ((f + (c - 1)) % 8) + k)) hO dX2_undo_58 (by decide) (m_ix320 _ _) (by show _ < 2560; omega) ?_
          refine mj_iast (j := 0) (i := k) hO dX2_undo_59 (by decide) rfl (by show _ < 320; omega) ?_
          refine j_iinc (v := nI (k + 1)) dX2_undo_60 rfl (nI_1 _) (by decide) rfl ?_
          refine j_goto (tgt := 35) dX2_undo_63 (by decide) ?_
          refine j_mem (M' := mput M L (mCp (ms_z s 8 (nI (c - 1))) 0 (fun i => s.2 1 (320 * ((f + (c - 1)) % 8) + i)) (k + 1))) (congrArg (mput M L) (mCp_step (ms_z s 8 (nI (c - 1))) 0 (fun i => s.2 1 (320 * ((f + (c - 1)) % 8) + i)) k rfl)) ?_
          refine j_locs (ls2 := [(0, .ref (L 0)), (1, .int (nI ((f + (c - 1)) % 8))), (2, .int (nI (k + 1)))]) ⟨rfl, rfl, rfl, trivial⟩ (ih_ (k + 1) (by omega) (by omega))
    refine j_locs (ls2 := [(0, .ref (L 0)), (1, .int (nI ((f + (c - 1)) % 8))), (2, .int (nI 0))]) ⟨rfl, rfl, rfl, trivial⟩ ?_
    exact l13_ _ 0 (Nat.lt_succ_self _) (Nat.zero_le _)
  · refine j_bipush (v := (-15)) dX2_undo_7 (by decide) ?_
    exact j_ireturn dX2_undo_9 rfl (mjv (by unfold mUndo; rw [if_pos ((nI_eq (by omega) (by decide)).mp (hc.symm.trans c4))]) (by unfold mUndo; rw [if_pos ((nI_eq (by omega) (by decide)).mp (hc.symm.trans c4))]))

theorem mm_X2_save (hO : mOK G M L) (s : MS) : JM l G 0 yX2_save wX2_save [.ref (L 0)] (mput M L s) (jv (.int ((mSave s).1)) (mput M L ((mSave s).2))) := by
  refine JM.of pn_X2 (Nat.le_of_ble_eq_true rfl) (hO.1.1) ?_
  show JW l G 0 YX2_save _ 0 [(0, .ref (L 0))] [] (mput M L s)
  refine j_iconst (v := 0) dX2_save_0 (by decide) ?_
  refine j_istore_n dX2_save_1 (by decide) rfl ?_
  -- loop at 2
  refine j_mem (M' := mput M L (mCp s 2 (s.2 0) 0)) (congrArg (mput M L) (mCp_0 s 2 (s.2 0))) ?_
  have l14_ : ∀ (fu_ : Nat) (k : Nat), 320 - k < fu_ → (k ≤ 320) → JW l G 0 YX2_save (jv (.int ((mSave s).1)) (mput M L ((mSave s).2))) 2 [(0, .ref (L 0)), (1, .int (nI k))] [] (mput M L (mCp s 2 (s.2 0) k)) := by
    intro fu_
    induction fu_ with
    | zero => intro k hf_; exact absurd hf_ (Nat.not_lt_zero _)
    | succ fu_ ih_ =>
      intro k hf_ hk
      refine j_iload_n dX2_save_2 rfl ?_
      refine j_sipush (v := 320) dX2_save_3 (by decide) ?_
      refine j_icmp_ge (tgt := 27) dX2_save_6 (by decide) (fun q14_ => ?_) (fun q14_ => ?_)
      · obtain rfl : k = 320 := c_end (n := 320) (by decide) hk q14_
        refine j_aload_n dX2_save_27 rfl rfl ?_
        refine j_iconst (v := 1) dX2_save_28 (by decide) ?_
        refine mj_put hO dX2_save_29 fd_X2_265_2 rfl (fun r hr => ⟨(ft_2_10 r hr).1, (ft_2_10 r hr).2.1⟩) rfl rfl ?_
        refine j_aload_n dX2_save_32 rfl rfl ?_
        refine mj_get hO dX2_save_33 fd_X2_7_2 rfl ?_
        refine j_iconst (v := 2) dX2_save_36 (by decide) ?_
        refine mj_iald (j := 0) (i := 2) hO dX2_save_37 (by decide) rfl (by decide) ?_
        exact j_ireturn dX2_save_38 rfl (mjv rfl rfl)
      · have hk_ : k < 320 := c_on (n := 320) (by decide) q14_ hk
        refine j_aload_n dX2_save_9 rfl rfl ?_
        refine mj_get hO dX2_save_10 fd_X2_16_2 rfl ?_
        refine j_iload_n dX2_save_13 rfl ?_
        refine j_aload_n dX2_save_14 rfl rfl ?_
        refine mj_get hO dX2_save_15 fd_X2_7_2 rfl ?_
        refine j_iload_n dX2_save_18 rfl ?_
        refine mj_iald (j := 0) (i := k) hO dX2_save_19 (by decide) rfl (by show _ < 320; omega) ?_
        refine mj_iast (j := 2) (i := k) hO dX2_save_20 (by decide) rfl (by show _ < 320; omega) ?_
        refine j_iinc (v := nI (k + 1)) dX2_save_21 rfl (nI_1 _) (by decide) rfl ?_
        refine j_goto (tgt := 2) dX2_save_24 (by decide) ?_
        refine j_mem (M' := mput M L (mCp s 2 (s.2 0) (k + 1))) (congrArg (mput M L) (mCp_step s 2 (s.2 0) k rfl)) ?_
        refine j_locs (ls2 := [(0, .ref (L 0)), (1, .int (nI (k + 1)))]) ⟨rfl, rfl, trivial⟩ (ih_ (k + 1) (by omega) (by omega))
  refine j_locs (ls2 := [(0, .ref (L 0)), (1, .int (nI 0))]) ⟨rfl, rfl, trivial⟩ ?_
  exact l14_ _ 0 (Nat.lt_succ_self _) (Nat.zero_le _)

theorem mm_X2_restore (hO : mOK G M L) (s : MS) : JM l G 0 yX2_restore wX2_restore [.ref (L 0)] (mput M L s) (jv (.int ((mRestore s).1)) (mput M L ((mRestore s).2))) := by
  refine JM.of pn_X2 (Nat.le_of_ble_eq_true rfl) (hO.1.1) ?_
  show JW l G 0 YX2_restore _ 0 [(0, .ref (L 0))] [] (mput M L s)
  refine j_aload_n dX2_restore_0 rfl rfl ?_
  refine mj_get hO dX2_restore_1 fd_X2_265_2 rfl ?_
  refine j_if_ne (tgt := 10) dX2_restore_4 (by decide) (fun c4 => ?_) (fun c4 => ?_)
  · refine j_iconst (v := 0) dX2_restore_10 (by decide) ?_
    refine j_istore_n dX2_restore_11 (by decide) rfl ?_
    -- loop at 12
    refine j_mem (M' := mput M L (mCp s 0 (s.2 2) 0)) (congrArg (mput M L) (mCp_0 s 0 (s.2 2))) ?_
    have l15_ : ∀ (fu_ : Nat) (k : Nat), 320 - k < fu_ → (k ≤ 320) → JW l G 0 YX2_restore (jv (.int ((mRestore s).1)) (mput M L ((mRestore s).2))) 12 [(0, .ref (L 0)), (1, .int (nI k))] [] (mput M L (mCp s 0 (s.2 2) k)) := by
      intro fu_
      induction fu_ with
      | zero => intro k hf_; exact absurd hf_ (Nat.not_lt_zero _)
      | succ fu_ ih_ =>
        intro k hf_ hk
        refine j_iload_n dX2_restore_12 rfl ?_
        refine j_sipush (v := 320) dX2_restore_13 (by decide) ?_
        refine j_icmp_ge (tgt := 37) dX2_restore_16 (by decide) (fun q15_ => ?_) (fun q15_ => ?_)
        · obtain rfl : k = 320 := c_end (n := 320) (by decide) hk q15_
          refine j_aload_n dX2_restore_37 rfl rfl ?_
          refine j_iconst (v := 0) dX2_restore_38 (by decide) ?_
          refine mj_put hO dX2_restore_39 fd_X2_48_2 rfl (fun r hr => ⟨(ft_2_8 r hr).1, (ft_2_8 r hr).2.1⟩) rfl rfl ?_
          refine j_aload_n dX2_restore_42 rfl rfl ?_
          refine j_iconst (v := 0) dX2_restore_43 (by decide) ?_
          refine mj_put hO dX2_restore_44 fd_X2_51_2 rfl (fun r hr => ⟨(ft_2_9 r hr).1, (ft_2_9 r hr).2.1⟩) rfl rfl ?_
          refine j_aload_n dX2_restore_47 rfl rfl ?_
          refine mj_get hO dX2_restore_48 fd_X2_7_2 rfl ?_
          refine j_iconst (v := 2) dX2_restore_51 (by decide) ?_
          refine mj_iald (j := 0) (i := 2) hO dX2_restore_52 (by decide) rfl (by decide) ?_
          exact j_ireturn dX2_restore_53 rfl (mjv (by unfold mRestore; rw [if_neg c4]; rfl) (by unfold mRestore; rw [if_neg c4]))
        · have hk_ : k < 320 := c_on (n := 320) (by decide) q15_ hk
          refine j_aload_n dX2_restore_19 rfl rfl ?_
          refine mj_get hO dX2_restore_20 fd_X2_7_2 rfl ?_
          refine j_iload_n dX2_restore_23 rfl ?_
          refine j_aload_n dX2_restore_24 rfl rfl ?_
          refine mj_get hO dX2_restore_25 fd_X2_16_2 rfl ?_
          refine j_iload_n dX2_restore_28 rfl ?_
          refine mj_iald (j := 2) (i := k) hO dX2_restore_29 (by decide) rfl (by show _ < 320; omega) ?_
          refine mj_iast (j := 0) (i := k) hO dX2_restore_30 (by decide) rfl (by show _ < 320; omega) ?_
          refine j_iinc (v := nI (k + 1)) dX2_restore_31 rfl (nI_1 _) (by decide) rfl ?_
          refine j_goto (tgt := 12) dX2_restore_34 (by decide) ?_
          refine j_mem (M' := mput M L (mCp s 0 (s.2 2) (k + 1))) (congrArg (mput M L) (mCp_step s 0 (s.2 2) k rfl)) ?_
          refine j_locs (ls2 := [(0, .ref (L 0)), (1, .int (nI (k + 1)))]) ⟨rfl, rfl, trivial⟩ (ih_ (k + 1) (by omega) (by omega))
    refine j_locs (ls2 := [(0, .ref (L 0)), (1, .int (nI 0))]) ⟨rfl, rfl, trivial⟩ ?_
    exact l15_ _ 0 (Nat.lt_succ_self _) (Nat.zero_le _)
  · refine j_bipush (v := (-15)) dX2_restore_7 (by decide) ?_
    exact j_ireturn dX2_restore_9 rfl (mjv (by unfold mRestore; rw [if_pos c4]) (by unfold mRestore; rw [if_pos c4]))

end M5
