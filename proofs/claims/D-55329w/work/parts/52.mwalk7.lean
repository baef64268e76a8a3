section M7
variable {l : Launch} {G : j_G} {M : j_M} {L : Nat → Nat}
theorem mm_X2_readsTwo (hO : mOK G M L) (s : MS) {len : Nat} (hl : s.1 13 = nI len) (h60 : len ≤ 60) {a : Nat} (hal : a ≤ len) (q : Int32) (g : Nat → Int32) {it d1 d2 : Nat} (h1 : d1 < 4) (h2 : d2 < 4) : JM l G 3 yX2_readsTwo wX2_readsTwo [.ref (L 0), .int (nI it), .int (nI d1), .int (nI d2)] (mput M L (msP s a q g)) (jv (.int (jb (pTwo (s.2 5) len d1 d2 a g).1)) (mput M L (msP s (pTwo (s.2 5) len d1 d2 a g).2.1 (nI it) (pTwo (s.2 5) len d1 d2 a g).2.2))) := by
  refine JM.of pn_X2 (Nat.le_of_ble_eq_true rfl) (hO.1.1) ?_
  show JW l G 3 YX2_readsTwo _ 0 [(0, .ref (L 0)), (1, .int (nI it)), (2, .int (nI d1)), (3, .int (nI d2))] [] (mput M L (msP s a q g))
  refine j_aload_n dX2_readsTwo_0 rfl rfl ?_
  refine j_iload_n dX2_readsTwo_1 rfl ?_
  refine mj_put hO dX2_readsTwo_2 fd_X2_216_2 rfl (fun r hr => ⟨(ft_2_16 r hr).1, (ft_2_16 r hr).2.1⟩) rfl rfl ?_
  refine j_mem (M' := mput M L (msP s a (nI it) g)) (congrArg (mput M L) (msP_it _ _ _ _ _).symm) ?_
  refine j_aload_n dX2_readsTwo_5 rfl rfl ?_
  refine j_iconst (v := 0) dX2_readsTwo_6 (by decide) ?_
  refine j_iload_n dX2_readsTwo_7 rfl ?_
  refine j_callV (mm_X2_readsNumber hO s hl h60 (a := a) (by first | assumption | exact pAt_lt (by assumption) | exact pDig_lt (by assumption) | exact (pNum_le _ _ _ _ (by assumption)).2 | exact (pTwo_le _ _ _ _ (by assumption)).2) (nI it) g (k := 0) (d := d1) (by omega) (by omega)) dX2_readsTwo_8 mt_X2_readsNumber q2506 q2508 qs87 (hO.at (msP s a (nI it) g) (i := 0) (by decide)) (by decide) rfl cd_X2_readsNumber (Nat.le_of_ble_eq_true rfl) rfl rfl (Nat.le_of_ble_eq_true rfl) (jk_v ?_) jx_v
  refine j_ifeqB (tgt := 31) dX2_readsTwo_11 (by decide) (fun c11 => ?_) (fun c11 => ?_)
  · refine j_iconst (v := 0) dX2_readsTwo_31 (by decide) ?_
    exact j_zreturn dX2_readsTwo_32 rfl rfl (mjv (by unfold pTwo; rw [if_neg (Bool.eq_false_iff.mp c11), c11]; rfl) (by unfold pTwo; rw [if_neg (Bool.eq_false_iff.mp c11)]))
  · have ha1_ : (pNum (s.2 5) len 0 d1 a g).2.1 ≤ len := (pNum_le 0 d1 a g hal).2
    refine j_iload_n dX2_readsTwo_14 rfl ?_
    refine j_if_eq (tgt := 27) dX2_readsTwo_15 (by decide) (fun c15 => ?_) (fun c15 => ?_)
    · have hd2_ : d2 = 0 := (nI_eq (by omega) (by decide)).mp c15
      refine j_iconst (v := 1) dX2_readsTwo_27 (by decide) ?_
      refine j_goto (tgt := 32) dX2_readsTwo_28 (by decide) ?_
      exact j_zreturn dX2_readsTwo_32 rfl rfl (mjv (by unfold pTwo; rw [if_pos c11, if_pos hd2_, c11]; rfl) (by unfold pTwo; rw [if_pos c11, if_pos hd2_]))
    · have hd2_ : ¬ d2 = 0 := fun w => c15 ((nI_eq (by omega) (by decide)).mpr w)
      refine j_aload_n dX2_readsTwo_18 rfl rfl ?_
      refine j_iconst (v := 1) dX2_readsTwo_19 (by decide) ?_
      refine j_iload_n dX2_readsTwo_20 rfl ?_
      refine j_callV (mm_X2_readsNumber hO s hl h60 (a := ((pNum (s.2 5) len 0 d1 a g).2.1)) (by first | assumption | exact pAt_lt (by assumption) | exact pDig_lt (by assumption) | exact (pNum_le _ _ _ _ (by assumption)).2 | exact (pTwo_le _ _ _ _ (by assumption)).2) (nI it) ((pNum (s.2 5) len 0 d1 a g).2.2) (k := 1) (d := d2) (by omega) (by omega)) dX2_readsTwo_21 mt_X2_readsNumber q2506 q2508 qs87 (hO.at (msP s ((pNum (s.2 5) len 0 d1 a g).2.1) (nI it) ((pNum (s.2 5) len 0 d1 a g).2.2)) (i := 0) (by decide)) (by decide) rfl cd_X2_readsNumber (Nat.le_of_ble_eq_true rfl) rfl rfl (Nat.le_of_ble_eq_true rfl) (jk_v ?_) jx_v
      refine j_ifeqB (tgt := 31) dX2_readsTwo_24 (by decide) (fun c24 => ?_) (fun c24 => ?_)
      · refine j_iconst (v := 0) dX2_readsTwo_31 (by decide) ?_
        exact j_zreturn dX2_readsTwo_32 rfl rfl (mjv (by unfold pTwo; rw [if_pos c11, if_neg hd2_, c24]; rfl) (by unfold pTwo; rw [if_pos c11, if_neg hd2_]))
      · refine j_iconst (v := 1) dX2_readsTwo_27 (by decide) ?_
        refine j_goto (tgt := 32) dX2_readsTwo_28 (by decide) ?_
        exact j_zreturn dX2_readsTwo_32 rfl rfl (mjv (by unfold pTwo; rw [if_pos c11, if_neg hd2_, c24]; rfl) (by unfold pTwo; rw [if_pos c11, if_neg hd2_]))

set_option maxHeartbeats 4000000 in
theorem mm_X2_readsOrder (hO : mOK G M L) (s : MS) {len : Nat} (hl : s.1 13 = nI len) (h60 : len ≤ 60) {a : Nat} (hal : a ≤ len) (q : Int32) (g : Nat → Int32) : JM l G 4 yX2_readsOrder wX2_readsOrder [.ref (L 0)] (mput M L (msP s a q g)) (jv (.int (jb (pOrder (s.2 5) len a q g).1)) (mput M L (msP s (pOrder (s.2 5) len a q g).2.1 (pOrder (s.2 5) len a q g).2.2.1 (pOrder (s.2 5) len a q g).2.2.2))) := by
  refine JM.of pn_X2 (Nat.le_of_ble_eq_true rfl) (hO.1.1) ?_
  show JW l G 4 YX2_readsOrder _ 0 [(0, .ref (L 0))] [] (mput M L (msP s a q g))
  refine j_aload_n dX2_readsOrder_0 rfl rfl ?_
  refine j_bipush (v := 118) dX2_readsOrder_1 (by decide) ?_
  refine j_callV (mm_X2_reads hO s hl h60 (a := a) (by first | assumption | exact pAt_lt (by assumption) | exact pDig_lt (by assumption) | exact (pNum_le _ _ _ _ (by assumption)).2 | exact (pTwo_le _ _ _ _ (by assumption)).2) q g 118 (by decide)) dX2_readsOrder_3 mt_X2_reads q2494 q2496 qs84 (hO.at (msP s a q g) (i := 0) (by decide)) (by decide) rfl cd_X2_reads (Nat.le_of_ble_eq_true rfl) rfl rfl (Nat.le_of_ble_eq_true rfl) (jk_v ?_) jx_v
  refine j_ifeqB (tgt := 61) dX2_readsOrder_6 (by decide) (fun c6 => ?_) (fun c6 => ?_)
  · rw [if_neg (Bool.eq_false_iff.mp c6)]
    refine j_aload_n dX2_readsOrder_61 rfl rfl ?_
    refine j_bipush (v := 99) dX2_readsOrder_62 (by decide) ?_
    refine j_callV (mm_X2_reads hO s hl h60 (a := a) (by first | assumption | exact pAt_lt (by assumption) | exact pDig_lt (by assumption) | exact (pNum_le _ _ _ _ (by assumption)).2 | exact (pTwo_le _ _ _ _ (by assumption)).2) q g 99 (by decide)) dX2_readsOrder_64 mt_X2_reads q2494 q2496 qs84 (hO.at (msP s a q g) (i := 0) (by decide)) (by decide) rfl cd_X2_reads (Nat.le_of_ble_eq_true rfl) rfl rfl (Nat.le_of_ble_eq_true rfl) (jk_v ?_) jx_v
    refine j_ifeqB (tgt := 131) dX2_readsOrder_67 (by decide) (fun c67 => ?_) (fun c67 => ?_)
    · rw [if_neg (Bool.eq_false_iff.mp c67)]
      refine j_aload_n dX2_readsOrder_131 rfl rfl ?_
      refine j_bipush (v := 108) dX2_readsOrder_132 (by decide) ?_
      refine j_callV (mm_X2_reads hO s hl h60 (a := a) (by first | assumption | exact pAt_lt (by assumption) | exact pDig_lt (by assumption) | exact (pNum_le _ _ _ _ (by assumption)).2 | exact (pTwo_le _ _ _ _ (by assumption)).2) q g 108 (by decide)) dX2_readsOrder_134 mt_X2_reads q2494 q2496 qs84 (hO.at (msP s a q g) (i := 0) (by decide)) (by decide) rfl cd_X2_reads (Nat.le_of_ble_eq_true rfl) rfl rfl (Nat.le_of_ble_eq_true rfl) (jk_v ?_) jx_v
      refine j_ifeqB (tgt := 192) dX2_readsOrder_137 (by decide) (fun c137 => ?_) (fun c137 => ?_)
      · rw [if_neg (Bool.eq_false_iff.mp c137)]
        refine j_aload_n dX2_readsOrder_192 rfl rfl ?_
        refine j_bipush (v := 98) dX2_readsOrder_193 (by decide) ?_
        refine j_callV (mm_X2_reads hO s hl h60 (a := a) (by first | assumption | exact pAt_lt (by assumption) | exact pDig_lt (by assumption) | exact (pNum_le _ _ _ _ (by assumption)).2 | exact (pTwo_le _ _ _ _ (by assumption)).2) q g 98 (by decide)) dX2_readsOrder_195 mt_X2_reads q2494 q2496 qs84 (hO.at (msP s a q g) (i := 0) (by decide)) (by decide) rfl cd_X2_reads (Nat.le_of_ble_eq_true rfl) rfl rfl (Nat.le_of_ble_eq_true rfl) (jk_v ?_) jx_v
        refine j_ifeqB (tgt := 262) dX2_readsOrder_198 (by decide) (fun c198 => ?_) (fun c198 => ?_)
        · rw [if_neg (Bool.eq_false_iff.mp c198)]
          refine j_aload_n dX2_readsOrder_262 rfl rfl ?_
          refine j_bipush (v := 112) dX2_readsOrder_263 (by decide) ?_
          refine j_callV (mm_X2_reads hO s hl h60 (a := a) (by first | assumption | exact pAt_lt (by assumption) | exact pDig_lt (by assumption) | exact (pNum_le _ _ _ _ (by assumption)).2 | exact (pTwo_le _ _ _ _ (by assumption)).2) q g 112 (by decide)) dX2_readsOrder_265 mt_X2_reads q2494 q2496 qs84 (hO.at (msP s a q g) (i := 0) (by decide)) (by decide) rfl cd_X2_reads (Nat.le_of_ble_eq_true rfl) rfl rfl (Nat.le_of_ble_eq_true rfl) (jk_v ?_) jx_v
          refine j_ifeqB (tgt := 332) dX2_readsOrder_268 (by decide) (fun c268 => ?_) (fun c268 => ?_)
          · rw [if_neg (Bool.eq_false_iff.mp c268)]
            refine j_aload_n dX2_readsOrder_332 rfl rfl ?_
            refine j_bipush (v := 102) dX2_readsOrder_333 (by decide) ?_
            refine j_callV (mm_X2_reads hO s hl h60 (a := a) (by first | assumption | exact pAt_lt (by assumption) | exact pDig_lt (by assumption) | exact (pNum_le _ _ _ _ (by assumption)).2 | exact (pTwo_le _ _ _ _ (by assumption)).2) q g 102 (by decide)) dX2_readsOrder_335 mt_X2_reads q2494 q2496 qs84 (hO.at (msP s a q g) (i := 0) (by decide)) (by decide) rfl cd_X2_reads (Nat.le_of_ble_eq_true rfl) rfl rfl (Nat.le_of_ble_eq_true rfl) (jk_v ?_) jx_v
            refine j_ifeqB (tgt := 393) dX2_readsOrder_338 (by decide) (fun c338 => ?_) (fun c338 => ?_)
            · rw [if_neg (Bool.eq_false_iff.mp c338)]
              refine j_aload_n dX2_readsOrder_393 rfl rfl ?_
              refine j_bipush (v := 103) dX2_readsOrder_394 (by decide) ?_
              refine j_callV (mm_X2_reads hO s hl h60 (a := a) (by first | assumption | exact pAt_lt (by assumption) | exact pDig_lt (by assumption) | exact (pNum_le _ _ _ _ (by assumption)).2 | exact (pTwo_le _ _ _ _ (by assumption)).2) q g 103 (by decide)) dX2_readsOrder_396 mt_X2_reads q2494 q2496 qs84 (hO.at (msP s a q g) (i := 0) (by decide)) (by decide) rfl cd_X2_reads (Nat.le_of_ble_eq_true rfl) rfl rfl (Nat.le_of_ble_eq_true rfl) (jk_v ?_) jx_v
              refine j_ifeqB (tgt := 446) dX2_readsOrder_399 (by decide) (fun c399 => ?_) (fun c399 => ?_)
              · rw [if_neg (Bool.eq_false_iff.mp c399)]
                refine j_aload_n dX2_readsOrder_446 rfl rfl ?_
                refine j_bipush (v := 119) dX2_readsOrder_447 (by decide) ?_
                refine j_callV (mm_X2_reads hO s hl h60 (a := a) (by first | assumption | exact pAt_lt (by assumption) | exact pDig_lt (by assumption) | exact (pNum_le _ _ _ _ (by assumption)).2 | exact (pTwo_le _ _ _ _ (by assumption)).2) q g 119 (by decide)) dX2_readsOrder_449 mt_X2_reads q2494 q2496 qs84 (hO.at (msP s a q g) (i := 0) (by decide)) (by decide) rfl cd_X2_reads (Nat.le_of_ble_eq_true rfl) rfl rfl (Nat.le_of_ble_eq_true rfl) (jk_v ?_) jx_v
                refine j_ifeqB (tgt := 506) dX2_readsOrder_452 (by decide) (fun c452 => ?_) (fun c452 => ?_)
                · rw [if_neg (Bool.eq_false_iff.mp c452)]
                  refine j_iconst (v := 0) dX2_readsOrder_506 (by decide) ?_
                  exact j_zreturn dX2_readsOrder_507 rfl rfl (mjv (by simp only [pOrder, pThen, pWord, c6, c67, c137, c198, c268, c338, c399, c452, if_true, if_false, Bool.false_eq_true]; first | done | rfl) (by simp only [pOrder, pThen, pWord, c6, c67, c137, c198, c268, c338, c399, c452, if_true, if_false, Bool.false_eq_true]; first | done | rfl))
                · rw [if_pos c452]
                  show JW l G _ _ _ _ _ _ (mput M L (msP s (a + 1) q g))
                  refine j_aload_n dX2_readsOrder_455 rfl rfl ?_
                  refine j_bipush (v := 101) dX2_readsOrder_456 (by decide) ?_
                  refine j_callV (mm_X2_reads hO s hl h60 (a := (a + 1)) (by first | assumption | exact pAt_lt (by assumption) | exact pDig_lt (by assumption) | exact (pNum_le _ _ _ _ (by assumption)).2 | exact (pTwo_le _ _ _ _ (by assumption)).2) q g 101 (by decide)) dX2_readsOrder_458 mt_X2_reads q2494 q2496 qs84 (hO.at (msP s (a + 1) q g) (i := 0) (by decide)) (by decide) rfl cd_X2_reads (Nat.le_of_ble_eq_true rfl) rfl rfl (Nat.le_of_ble_eq_true rfl) (jk_v ?_) jx_v
                  refine j_ifeqB (tgt := 506) dX2_readsOrder_461 (by decide) (fun c461 => ?_) (fun c461 => ?_)
                  · rw [if_neg (Bool.eq_false_iff.mp c461)]
                    show JW l G _ _ _ _ _ _ (mput M L (msP s ((a + 1)) q g))
                    refine j_iconst (v := 0) dX2_readsOrder_506 (by decide) ?_
                    exact j_zreturn dX2_readsOrder_507 rfl rfl (mjv (by simp only [pOrder, pThen, pWord, c6, c67, c137, c198, c268, c338, c399, c452, c461, if_true, if_false, Bool.false_eq_true]; first | done | rfl) (by simp only [pOrder, pThen, pWord, c6, c67, c137, c198, c268, c338, c399, c452, c461, if_true, if_false, Bool.false_eq_true]; first | done | rfl))
                  · rw [if_pos c461]
                    show JW l G _ _ _ _ _ _ (mput M L (msP s (a + 2) q g))
                    refine j_aload_n dX2_readsOrder_464 rfl rfl ?_
                    refine j_bipush (v := 101) dX2_readsOrder_465 (by decide) ?_
                    refine j_callV (mm_X2_reads hO s hl h60 (a := (a + 2)) (by first | assumption | exact pAt_lt (by assumption) | exact pDig_lt (by assumption) | exact (pNum_le _ _ _ _ (by assumption)).2 | exact (pTwo_le _ _ _ _ (by assumption)).2) q g 101 (by decide)) dX2_readsOrder_467 mt_X2_reads q2494 q2496 qs84 (hO.at (msP s (a + 2) q g) (i := 0) (by decide)) (by decide) rfl cd_X2_reads (Nat.le_of_ble_eq_true rfl) rfl rfl (Nat.le_of_ble_eq_true rfl) (jk_v ?_) jx_v
                    refine j_ifeqB (tgt := 506) dX2_readsOrder_470 (by decide) (fun c470 => ?_) (fun c470 => ?_)
                    · rw [if_neg (Bool.eq_false_iff.mp c470)]
                      show JW l G _ _ _ _ _ _ (mput M L (msP s ((a + 2)) q g))
                      refine j_iconst (v := 0) dX2_readsOrder_506 (by decide) ?_
                      exact j_zreturn dX2_readsOrder_507 rfl rfl (mjv (by simp only [pOrder, pThen, pWord, c6, c67, c137, c198, c268, c338, c399, c452, c461, c470, if_true, if_false, Bool.false_eq_true]; first | done | rfl) (by simp only [pOrder, pThen, pWord, c6, c67, c137, c198, c268, c338, c399, c452, c461, c470, if_true, if_false, Bool.false_eq_true]; first | done | rfl))
                    · rw [if_pos c470]
                      show JW l G _ _ _ _ _ _ (mput M L (msP s (a + 3) q g))
                      refine j_aload_n dX2_readsOrder_473 rfl rfl ?_
                      refine j_bipush (v := 107) dX2_readsOrder_474 (by decide) ?_
                      refine j_callV (mm_X2_reads hO s hl h60 (a := (a + 3)) (by first | assumption | exact pAt_lt (by assumption) | exact pDig_lt (by assumption) | exact (pNum_le _ _ _ _ (by assumption)).2 | exact (pTwo_le _ _ _ _ (by assumption)).2) q g 107 (by decide)) dX2_readsOrder_476 mt_X2_reads q2494 q2496 qs84 (hO.at (msP s (a + 3) q g) (i := 0) (by decide)) (by decide) rfl cd_X2_reads (Nat.le_of_ble_eq_true rfl) rfl rfl (Nat.le_of_ble_eq_true rfl) (jk_v ?_) jx_v
                      refine j_ifeqB (tgt := 506) dX2_readsOrder_479 (by decide) (fun c479 => ?_) (fun c479 => ?_)
                      · rw [if_neg (Bool.eq_false_iff.mp c479)]
                        show JW l G _ _ _ _ _ _ (mput M L (msP s ((a + 3)) q g))
                        refine j_iconst (v := 0) dX2_readsOrder_506 (by decide) ?_
                        exact j_zreturn dX2_readsOrder_507 rfl rfl (mjv (by simp only [pOrder, pThen, pWord, c6, c67, c137, c198, c268, c338, c399, c452, c461, c470, c479, if_true, if_false, Bool.false_eq_true]; first | done | rfl) (by simp only [pOrder, pThen, pWord, c6, c67, c137, c198, c268, c338, c399, c452, c461, c470, c479, if_true, if_false, Bool.false_eq_true]; first | done | rfl))
                      · rw [if_pos c479]
                        show JW l G _ _ _ _ _ _ (mput M L (msP s (a + 4) q g))
                        refine j_aload_n dX2_readsOrder_482 rfl rfl ?_
                        refine j_bipush (v := 115) dX2_readsOrder_483 (by decide) ?_
                        refine j_callV (mm_X2_reads hO s hl h60 (a := (a + 4)) (by first | assumption | exact pAt_lt (by assumption) | exact pDig_lt (by assumption) | exact (pNum_le _ _ _ _ (by assumption)).2 | exact (pTwo_le _ _ _ _ (by assumption)).2) q g 115 (by decide)) dX2_readsOrder_485 mt_X2_reads q2494 q2496 qs84 (hO.at (msP s (a + 4) q g) (i := 0) (by decide)) (by decide) rfl cd_X2_reads (Nat.le_of_ble_eq_true rfl) rfl rfl (Nat.le_of_ble_eq_true rfl) (jk_v ?_) jx_v
                        refine j_ifeqB (tgt := 506) dX2_readsOrder_488 (by decide) (fun c488 => ?_) (fun c488 => ?_)
                        · rw [if_neg (Bool.eq_false_iff.mp c488)]
                          show JW l G _ _ _ _ _ _ (mput M L (msP s ((a + 4)) q g))
                          refine j_iconst (v := 0) dX2_readsOrder_506 (by decide) ?_
                          exact j_zreturn dX2_readsOrder_507 rfl rfl (mjv (by simp only [pOrder, pThen, pWord, c6, c67, c137, c198, c268, c338, c399, c452, c461, c470, c479, c488, if_true, if_false, Bool.false_eq_true]; first | done | rfl) (by simp only [pOrder, pThen, pWord, c6, c67, c137, c198, c268, c338, c399, c452, c461, c470, c479, c488, if_true, if_false, Bool.false_eq_true]; first | done | rfl))
                        · rw [if_pos c488]
                          show JW l G _ _ _ _ _ _ (mput M L (msP s (a + 5) q g))
                          refine j_aload_n dX2_readsOrder_491 rfl rfl ?_
                          refine j_bipush (v := 7) dX2_readsOrder_492 (by decide) ?_
                          refine j_iconst (v := 2) dX2_readsOrder_494 (by decide) ?_
                          refine j_iconst (v := 0) dX2_readsOrder_495 (by decide) ?_
                          refine j_callV (mm_X2_readsTwo hO s hl h60 (a := (a + 5)) (by first | assumption | exact pAt_lt (by assumption) | exact pDig_lt (by assumption) | exact (pNum_le _ _ _ _ (by assumption)).2 | exact (pTwo_le _ _ _ _ (by assumption)).2) q g (it := 7) (d1 := 2) (d2 := 0) (by omega) (by omega)) dX2_readsOrder_496 mt_X2_readsTwo q2502 q2504 qs86 (hO.at (msP s (a + 5) q g) (i := 0) (by decide)) (by decide) rfl cd_X2_readsTwo (Nat.le_of_ble_eq_true rfl) rfl rfl (Nat.le_of_ble_eq_true rfl) (jk_v ?_) jx_v
                          refine j_ifeqB (tgt := 506) dX2_readsOrder_499 (by decide) (fun c499 => ?_) (fun c499 => ?_)
                          · refine j_iconst (v := 0) dX2_readsOrder_506 (by decide) ?_
                            exact j_zreturn dX2_readsOrder_507 rfl rfl (mjv (by simp only [pOrder, pThen, pWord, c6, c67, c137, c198, c268, c338, c399, c452, c461, c470, c479, c488, c499, if_true, if_false, Bool.false_eq_true]; first | done | rfl) (by simp only [pOrder, pThen, pWord, c6, c67, c137, c198, c268, c338, c399, c452, c461, c470, c479, c488, c499, if_true, if_false, Bool.false_eq_true]; first | done | rfl))
                          · refine j_iconst (v := 1) dX2_readsOrder_502 (by decide) ?_
                            refine j_goto (tgt := 507) dX2_readsOrder_503 (by decide) ?_
                            exact j_zreturn dX2_readsOrder_507 rfl rfl (mjv (by simp only [pOrder, pThen, pWord, c6, c67, c137, c198, c268, c338, c399, c452, c461, c470, c479, c488, c499, if_true, if_false, Bool.false_eq_true]; first | done | rfl) (by simp only [pOrder, pThen, pWord, c6, c67, c137, c198, c268, c338, c399, c452, c461, c470, c479, c488, c499, if_true, if_false, Bool.false_eq_true]; first | done | rfl))
              · rw [if_pos c399]
                show JW l G _ _ _ _ _ _ (mput M L (msP s (a + 1) q g))
                refine j_aload_n dX2_readsOrder_402 rfl rfl ?_
                refine j_bipush (v := 105) dX2_readsOrder_403 (by decide) ?_
                refine j_callV (mm_X2_reads hO s hl h60 (a := (a + 1)) (by first | assumption | exact pAt_lt (by assumption) | exact pDig_lt (by assumption) | exact (pNum_le _ _ _ _ (by assumption)).2 | exact (pTwo_le _ _ _ _ (by assumption)).2) q g 105 (by decide)) dX2_readsOrder_405 mt_X2_reads q2494 q2496 qs84 (hO.at (msP s (a + 1) q g) (i := 0) (by decide)) (by decide) rfl cd_X2_reads (Nat.le_of_ble_eq_true rfl) rfl rfl (Nat.le_of_ble_eq_true rfl) (jk_v ?_) jx_v
                refine j_ifeqB (tgt := 444) dX2_readsOrder_408 (by decide) (fun c408 => ?_) (fun c408 => ?_)
                · rw [if_neg (Bool.eq_false_iff.mp c408)]
                  show JW l G _ _ _ _ _ _ (mput M L (msP s ((a + 1)) q g))
                  refine j_iconst (v := 0) dX2_readsOrder_444 (by decide) ?_
                  exact j_zreturn dX2_readsOrder_445 rfl rfl (mjv (by simp only [pOrder, pThen, pWord, c6, c67, c137, c198, c268, c338, c399, c408, if_true, if_false, Bool.false_eq_true]; first | done | rfl) (by simp only [pOrder, pThen, pWord, c6, c67, c137, c198, c268, c338, c399, c408, if_true, if_false, Bool.false_eq_true]; first | done | rfl))
                · rw [if_pos c408]
                  show JW l G _ _ _ _ _ _ (mput M L (msP s (a + 2) q g))
                  refine j_aload_n dX2_readsOrder_411 rfl rfl ?_
                  refine j_bipush (v := 102) dX2_readsOrder_412 (by decide) ?_
                  refine j_callV (mm_X2_reads hO s hl h60 (a := (a + 2)) (by first | assumption | exact pAt_lt (by assumption) | exact pDig_lt (by assumption) | exact (pNum_le _ _ _ _ (by assumption)).2 | exact (pTwo_le _ _ _ _ (by assumption)).2) q g 102 (by decide)) dX2_readsOrder_414 mt_X2_reads q2494 q2496 qs84 (hO.at (msP s (a + 2) q g) (i := 0) (by decide)) (by decide) rfl cd_X2_reads (Nat.le_of_ble_eq_true rfl) rfl rfl (Nat.le_of_ble_eq_true rfl) (jk_v ?_) jx_v
                  refine j_ifeqB (tgt := 444) dX2_readsOrder_417 (by decide) (fun c417 => ?_) (fun c417 => ?_)
                  · rw [if_neg (Bool.eq_false_iff.mp c417)]
                    show JW l G _ _ _ _ _ _ (mput M L (msP s ((a + 2)) q g))
                    refine j_iconst (v := 0) dX2_readsOrder_444 (by decide) ?_
                    exact j_zreturn dX2_readsOrder_445 rfl rfl (mjv (by simp only [pOrder, pThen, pWord, c6, c67, c137, c198, c268, c338, c399, c408, c417, if_true, if_false, Bool.false_eq_true]; first | done | rfl) (by simp only [pOrder, pThen, pWord, c6, c67, c137, c198, c268, c338, c399, c408, c417, if_true, if_false, Bool.false_eq_true]; first | done | rfl))
                  · rw [if_pos c417]
                    show JW l G _ _ _ _ _ _ (mput M L (msP s (a + 3) q g))
                    refine j_aload_n dX2_readsOrder_420 rfl rfl ?_
                    refine j_bipush (v := 116) dX2_readsOrder_421 (by decide) ?_
                    refine j_callV (mm_X2_reads hO s hl h60 (a := (a + 3)) (by first | assumption | exact pAt_lt (by assumption) | exact pDig_lt (by assumption) | exact (pNum_le _ _ _ _ (by assumption)).2 | exact (pTwo_le _ _ _ _ (by assumption)).2) q g 116 (by decide)) dX2_readsOrder_423 mt_X2_reads q2494 q2496 qs84 (hO.at (msP s (a + 3) q g) (i := 0) (by decide)) (by decide) rfl cd_X2_reads (Nat.le_of_ble_eq_true rfl) rfl rfl (Nat.le_of_ble_eq_true rfl) (jk_v ?_) jx_v
                    refine j_ifeqB (tgt := 444) dX2_readsOrder_426 (by decide) (fun c426 => ?_) (fun c426 => ?_)
                    · rw [if_neg (Bool.eq_false_iff.mp c426)]
                      show JW l G _ _ _ _ _ _ (mput M L (msP s ((a + 3)) q g))
                      refine j_iconst (v := 0) dX2_readsOrder_444 (by decide) ?_
                      exact j_zreturn dX2_readsOrder_445 rfl rfl (mjv (by simp only [pOrder, pThen, pWord, c6, c67, c137, c198, c268, c338, c399, c408, c417, c426, if_true, if_false, Bool.false_eq_true]; first | done | rfl) (by simp only [pOrder, pThen, pWord, c6, c67, c137, c198, c268, c338, c399, c408, c417, c426, if_true, if_false, Bool.false_eq_true]; first | done | rfl))
                    · rw [if_pos c426]
                      show JW l G _ _ _ _ _ _ (mput M L (msP s (a + 4) q g))
                      refine j_aload_n dX2_readsOrder_429 rfl rfl ?_
                      refine j_bipush (v := 6) dX2_readsOrder_430 (by decide) ?_
                      refine j_iconst (v := 3) dX2_readsOrder_432 (by decide) ?_
                      refine j_iconst (v := 0) dX2_readsOrder_433 (by decide) ?_
                      refine j_callV (mm_X2_readsTwo hO s hl h60 (a := (a + 4)) (by first | assumption | exact pAt_lt (by assumption) | exact pDig_lt (by assumption) | exact (pNum_le _ _ _ _ (by assumption)).2 | exact (pTwo_le _ _ _ _ (by assumption)).2) q g (it := 6) (d1 := 3) (d2 := 0) (by omega) (by omega)) dX2_readsOrder_434 mt_X2_readsTwo q2502 q2504 qs86 (hO.at (msP s (a + 4) q g) (i := 0) (by decide)) (by decide) rfl cd_X2_readsTwo (Nat.le_of_ble_eq_true rfl) rfl rfl (Nat.le_of_ble_eq_true rfl) (jk_v ?_) jx_v
                      refine j_ifeqB (tgt := 444) dX2_readsOrder_437 (by decide) (fun c437 => ?_) (fun c437 => ?_)
                      · refine j_iconst (v := 0) dX2_readsOrder_444 (by decide) ?_
                        exact j_zreturn dX2_readsOrder_445 rfl rfl (mjv (by simp only [pOrder, pThen, pWord, c6, c67, c137, c198, c268, c338, c399, c408, c417, c426, c437, if_true, if_false, Bool.false_eq_true]; first | done | rfl) (by simp only [pOrder, pThen, pWord, c6, c67, c137, c198, c268, c338, c399, c408, c417, c426, c437, if_true, if_false, Bool.false_eq_true]; first | done | rfl))
                      · refine j_iconst (v := 1) dX2_readsOrder_440 (by decide) ?_
                        refine j_goto (tgt := 445) dX2_readsOrder_441 (by decide) ?_
                        exact j_zreturn dX2_readsOrder_445 rfl rfl (mjv (by simp only [pOrder, pThen, pWord, c6, c67, c137, c198, c268, c338, c399, c408, c417, c426, c437, if_true, if_false, Bool.false_eq_true]; first | done | rfl) (by simp only [pOrder, pThen, pWord, c6, c67, c137, c198, c268, c338, c399, c408, c417, c426, c437, if_true, if_false, Bool.false_eq_true]; first | done | rfl))
            · rw [if_pos c338]
              show JW l G _ _ _ _ _ _ (mput M L (msP s (a + 1) q g))
              refine j_aload_n dX2_readsOrder_341 rfl rfl ?_
              refine j_bipush (v := 101) dX2_readsOrder_342 (by decide) ?_
              refine j_callV (mm_X2_reads hO s hl h60 (a := (a + 1)) (by first | assumption | exact pAt_lt (by assumption) | exact pDig_lt (by assumption) | exact (pNum_le _ _ _ _ (by assumption)).2 | exact (pTwo_le _ _ _ _ (by assumption)).2) q g 101 (by decide)) dX2_readsOrder_344 mt_X2_reads q2494 q2496 qs84 (hO.at (msP s (a + 1) q g) (i := 0) (by decide)) (by decide) rfl cd_X2_reads (Nat.le_of_ble_eq_true rfl) rfl rfl (Nat.le_of_ble_eq_true rfl) (jk_v ?_) jx_v
              refine j_ifeqB (tgt := 391) dX2_readsOrder_347 (by decide) (fun c347 => ?_) (fun c347 => ?_)
              · rw [if_neg (Bool.eq_false_iff.mp c347)]
                show JW l G _ _ _ _ _ _ (mput M L (msP s ((a + 1)) q g))
                refine j_iconst (v := 0) dX2_readsOrder_391 (by decide) ?_
                exact j_zreturn dX2_readsOrder_392 rfl rfl (mjv (by simp only [pOrder, pThen, pWord, c6, c67, c137, c198, c268, c338, c347, if_true, if_false, Bool.false_eq_true]; first | done | rfl) (by simp only [pOrder, pThen, pWord, c6, c67, c137, c198, c268, c338, c347, if_true, if_false, Bool.false_eq_true]; first | done | rfl))
              · rw [if_pos c347]
                show JW l G _ _ _ _ _ _ (mput M L (msP s (a + 2) q g))
                refine j_aload_n dX2_readsOrder_350 rfl rfl ?_
                refine j_bipush (v := 97) dX2_readsOrder_351 (by decide) ?_
                refine j_callV (mm_X2_reads hO s hl h60 (a := (a + 2)) (by first | assumption | exact pAt_lt (by assumption) | exact pDig_lt (by assumption) | exact (pNum_le _ _ _ _ (by assumption)).2 | exact (pTwo_le _ _ _ _ (by assumption)).2) q g 97 (by decide)) dX2_readsOrder_353 mt_X2_reads q2494 q2496 qs84 (hO.at (msP s (a + 2) q g) (i := 0) (by decide)) (by decide) rfl cd_X2_reads (Nat.le_of_ble_eq_true rfl) rfl rfl (Nat.le_of_ble_eq_true rfl) (jk_v ?_) jx_v
                refine j_ifeqB (tgt := 391) dX2_readsOrder_356 (by decide) (fun c356 => ?_) (fun c356 => ?_)
                · rw [if_neg (Bool.eq_false_iff.mp c356)]
                  show JW l G _ _ _ _ _ _ (mput M L (msP s ((a + 2)) q g))
                  refine j_iconst (v := 0) dX2_readsOrder_391 (by decide) ?_
                  exact j_zreturn dX2_readsOrder_392 rfl rfl (mjv (by simp only [pOrder, pThen, pWord, c6, c67, c137, c198, c268, c338, c347, c356, if_true, if_false, Bool.false_eq_true]; first | done | rfl) (by simp only [pOrder, pThen, pWord, c6, c67, c137, c198, c268, c338, c347, c356, if_true, if_false, Bool.false_eq_true]; first | done | rfl))
                · rw [if_pos c356]
                  show JW l G _ _ _ _ _ _ (mput M L (msP s (a + 3) q g))
                  refine j_aload_n dX2_readsOrder_359 rfl rfl ?_
                  refine j_bipush (v := 115) dX2_readsOrder_360 (by decide) ?_
                  refine j_callV (mm_X2_reads hO s hl h60 (a := (a + 3)) (by first | assumption | exact pAt_lt (by assumption) | exact pDig_lt (by assumption) | exact (pNum_le _ _ _ _ (by assumption)).2 | exact (pTwo_le _ _ _ _ (by assumption)).2) q g 115 (by decide)) dX2_readsOrder_362 mt_X2_reads q2494 q2496 qs84 (hO.at (msP s (a + 3) q g) (i := 0) (by decide)) (by decide) rfl cd_X2_reads (Nat.le_of_ble_eq_true rfl) rfl rfl (Nat.le_of_ble_eq_true rfl) (jk_v ?_) jx_v
                  refine j_ifeqB (tgt := 391) dX2_readsOrder_365 (by decide) (fun c365 => ?_) (fun c365 => ?_)
                  · rw [if_neg (Bool.eq_false_iff.mp c365)]
                    show JW l G _ _ _ _ _ _ (mput M L (msP s ((a + 3)) q g))
                    refine j_iconst (v := 0) dX2_readsOrder_391 (by decide) ?_
                    exact j_zreturn dX2_readsOrder_392 rfl rfl (mjv (by simp only [pOrder, pThen, pWord, c6, c67, c137, c198, c268, c338, c347, c356, c365, if_true, if_false, Bool.false_eq_true]; first | done | rfl) (by simp only [pOrder, pThen, pWord, c6, c67, c137, c198, c268, c338, c347, c356, c365, if_true, if_false, Bool.false_eq_true]; first | done | rfl))
                  · rw [if_pos c365]
                    show JW l G _ _ _ _ _ _ (mput M L (msP s (a + 4) q g))
                    refine j_aload_n dX2_readsOrder_368 rfl rfl ?_
                    refine j_bipush (v := 116) dX2_readsOrder_369 (by decide) ?_
                    refine j_callV (mm_X2_reads hO s hl h60 (a := (a + 4)) (by first | assumption | exact pAt_lt (by assumption) | exact pDig_lt (by assumption) | exact (pNum_le _ _ _ _ (by assumption)).2 | exact (pTwo_le _ _ _ _ (by assumption)).2) q g 116 (by decide)) dX2_readsOrder_371 mt_X2_reads q2494 q2496 qs84 (hO.at (msP s (a + 4) q g) (i := 0) (by decide)) (by decide) rfl cd_X2_reads (Nat.le_of_ble_eq_true rfl) rfl rfl (Nat.le_of_ble_eq_true rfl) (jk_v ?_) jx_v
                    refine j_ifeqB (tgt := 391) dX2_readsOrder_374 (by decide) (fun c374 => ?_) (fun c374 => ?_)
                    · rw [if_neg (Bool.eq_false_iff.mp c374)]
                      show JW l G _ _ _ _ _ _ (mput M L (msP s ((a + 4)) q g))
                      refine j_iconst (v := 0) dX2_readsOrder_391 (by decide) ?_
                      exact j_zreturn dX2_readsOrder_392 rfl rfl (mjv (by simp only [pOrder, pThen, pWord, c6, c67, c137, c198, c268, c338, c347, c356, c365, c374, if_true, if_false, Bool.false_eq_true]; first | done | rfl) (by simp only [pOrder, pThen, pWord, c6, c67, c137, c198, c268, c338, c347, c356, c365, c374, if_true, if_false, Bool.false_eq_true]; first | done | rfl))
                    · rw [if_pos c374]
                      show JW l G _ _ _ _ _ _ (mput M L (msP s (a + 5) q g))
                      refine j_aload_n dX2_readsOrder_377 rfl rfl ?_
                      refine j_iconst (v := 5) dX2_readsOrder_378 (by decide) ?_
                      refine j_iconst (v := 2) dX2_readsOrder_379 (by decide) ?_
                      refine j_iconst (v := 1) dX2_readsOrder_380 (by decide) ?_
                      refine j_callV (mm_X2_readsTwo hO s hl h60 (a := (a + 5)) (by first | assumption | exact pAt_lt (by assumption) | exact pDig_lt (by assumption) | exact (pNum_le _ _ _ _ (by assumption)).2 | exact (pTwo_le _ _ _ _ (by assumption)).2) q g (it := 5) (d1 := 2) (d2 := 1) (by omega) (by omega)) dX2_readsOrder_381 mt_X2_readsTwo q2502 q2504 qs86 (hO.at (msP s (a + 5) q g) (i := 0) (by decide)) (by decide) rfl cd_X2_readsTwo (Nat.le_of_ble_eq_true rfl) rfl rfl (Nat.le_of_ble_eq_true rfl) (jk_v ?_) jx_v
                      refine j_ifeqB (tgt := 391) dX2_readsOrder_384 (by decide) (fun c384 => ?_) (fun c384 => ?_)
                      · refine j_iconst (v := 0) dX2_readsOrder_391 (by decide) ?_
                        exact j_zreturn dX2_readsOrder_392 rfl rfl (mjv (by simp only [pOrder, pThen, pWord, c6, c67, c137, c198, c268, c338, c347, c356, c365, c374, c384, if_true, if_false, Bool.false_eq_true]; first | done | rfl) (by simp only [pOrder, pThen, pWord, c6, c67, c137, c198, c268, c338, c347, c356, c365, c374, c384, if_true, if_false, Bool.false_eq_true]; first | done | rfl))
                      · refine j_iconst (v := 1) dX2_readsOrder_387 (by decide) ?_
                        refine j_goto (tgt := 392) dX2_readsOrder_388 (by decide) ?_
                        exact j_zreturn dX2_readsOrder_392 rfl rfl (mjv (by simp only [pOrder, pThen, pWord, c6, c67, c137, c198, c268, c338, c347, c356, c365, c374, c384, if_true, if_false, Bool.false_eq_true]; first | done | rfl) (by simp only [pOrder, pThen, pWord, c6, c67, c137, c198, c268, c338, c347, c356, c365, c374, c384, if_true, if_false, Bool.false_eq_true]; first | done | rfl))
          · rw [if_pos c268]
            show JW l G _ _ _ _ _ _ (mput M L (msP s (a + 1) q g))
            refine j_aload_n dX2_readsOrder_271 rfl rfl ?_
            refine j_bipush (v := 97) dX2_readsOrder_272 (by decide) ?_
            refine j_callV (mm_X2_reads hO s hl h60 (a := (a + 1)) (by first | assumption | exact pAt_lt (by assumption) | exact pDig_lt (by assumption) | exact (pNum_le _ _ _ _ (by assumption)).2 | exact (pTwo_le _ _ _ _ (by assumption)).2) q g 97 (by decide)) dX2_readsOrder_274 mt_X2_reads q2494 q2496 qs84 (hO.at (msP s (a + 1) q g) (i := 0) (by decide)) (by decide) rfl cd_X2_reads (Nat.le_of_ble_eq_true rfl) rfl rfl (Nat.le_of_ble_eq_true rfl) (jk_v ?_) jx_v
            refine j_ifeqB (tgt := 330) dX2_readsOrder_277 (by decide) (fun c277 => ?_) (fun c277 => ?_)
            · rw [if_neg (Bool.eq_false_iff.mp c277)]
              show JW l G _ _ _ _ _ _ (mput M L (msP s ((a + 1)) q g))
              refine j_iconst (v := 0) dX2_readsOrder_330 (by decide) ?_
              exact j_zreturn dX2_readsOrder_331 rfl rfl (mjv (by simp only [pOrder, pThen, pWord, c6, c67, c137, c198, c268, c277, if_true, if_false, Bool.false_eq_true]; first | done | rfl) (by simp only [pOrder, pThen, pWord, c6, c67, c137, c198, c268, c277, if_true, if_false, Bool.false_eq_true]; first | done | rfl))
            · rw [if_pos c277]
              show JW l G _ _ _ _ _ _ (mput M L (msP s (a + 2) q g))
              refine j_aload_n dX2_readsOrder_280 rfl rfl ?_
              refine j_bipush (v := 114) dX2_readsOrder_281 (by decide) ?_
              refine j_callV (mm_X2_reads hO s hl h60 (a := (a + 2)) (by first | assumption | exact pAt_lt (by assumption) | exact pDig_lt (by assumption) | exact (pNum_le _ _ _ _ (by assumption)).2 | exact (pTwo_le _ _ _ _ (by assumption)).2) q g 114 (by decide)) dX2_readsOrder_283 mt_X2_reads q2494 q2496 qs84 (hO.at (msP s (a + 2) q g) (i := 0) (by decide)) (by decide) rfl cd_X2_reads (Nat.le_of_ble_eq_true rfl) rfl rfl (Nat.le_of_ble_eq_true rfl) (jk_v ?_) jx_v
              refine j_ifeqB (tgt := 330) dX2_readsOrder_286 (by decide) (fun c286 => ?_) (fun c286 => ?_)
              · rw [if_neg (Bool.eq_false_iff.mp c286)]
                show JW l G _ _ _ _ _ _ (mput M L (msP s ((a + 2)) q g))
                refine j_iconst (v := 0) dX2_readsOrder_330 (by decide) ?_
                exact j_zreturn dX2_readsOrder_331 rfl rfl (mjv (by simp only [pOrder, pThen, pWord, c6, c67, c137, c198, c268, c277, c286, if_true, if_false, Bool.false_eq_true]; first | done | rfl) (by simp only [pOrder, pThen, pWord, c6, c67, c137, c198, c268, c277, c286, if_true, if_false, Bool.false_eq_true]; first | done | rfl))
              · rw [if_pos c286]
                show JW l G _ _ _ _ _ _ (mput M L (msP s (a + 3) q g))
                refine j_aload_n dX2_readsOrder_289 rfl rfl ?_
                refine j_bipush (v := 100) dX2_readsOrder_290 (by decide) ?_
                refine j_callV (mm_X2_reads hO s hl h60 (a := (a + 3)) (by first | assumption | exact pAt_lt (by assumption) | exact pDig_lt (by assumption) | exact (pNum_le _ _ _ _ (by assumption)).2 | exact (pTwo_le _ _ _ _ (by assumption)).2) q g 100 (by decide)) dX2_readsOrder_292 mt_X2_reads q2494 q2496 qs84 (hO.at (msP s (a + 3) q g) (i := 0) (by decide)) (by decide) rfl cd_X2_reads (Nat.le_of_ble_eq_true rfl) rfl rfl (Nat.le_of_ble_eq_true rfl) (jk_v ?_) jx_v
                refine j_ifeqB (tgt := 330) dX2_readsOrder_295 (by decide) (fun c295 => ?_) (fun c295 => ?_)
                · rw [if_neg (Bool.eq_false_iff.mp c295)]
                  show JW l G _ _ _ _ _ _ (mput M L (msP s ((a + 3)) q g))
                  refine j_iconst (v := 0) dX2_readsOrder_330 (by decide) ?_
                  exact j_zreturn dX2_readsOrder_331 rfl rfl (mjv (by simp only [pOrder, pThen, pWord, c6, c67, c137, c198, c268, c277, c286, c295, if_true, if_false, Bool.false_eq_true]; first | done | rfl) (by simp only [pOrder, pThen, pWord, c6, c67, c137, c198, c268, c277, c286, c295, if_true, if_false, Bool.false_eq_true]; first | done | rfl))
                · rw [if_pos c295]
                  show JW l G _ _ _ _ _ _ (mput M L (msP s (a + 4) q g))
                  refine j_aload_n dX2_readsOrder_298 rfl rfl ?_
                  refine j_bipush (v := 111) dX2_readsOrder_299 (by decide) ?_
                  refine j_callV (mm_X2_reads hO s hl h60 (a := (a + 4)) (by first | assumption | exact pAt_lt (by assumption) | exact pDig_lt (by assumption) | exact (pNum_le _ _ _ _ (by assumption)).2 | exact (pTwo_le _ _ _ _ (by assumption)).2) q g 111 (by decide)) dX2_readsOrder_301 mt_X2_reads q2494 q2496 qs84 (hO.at (msP s (a + 4) q g) (i := 0) (by decide)) (by decide) rfl cd_X2_reads (Nat.le_of_ble_eq_true rfl) rfl rfl (Nat.le_of_ble_eq_true rfl) (jk_v ?_) jx_v
                  refine j_ifeqB (tgt := 330) dX2_readsOrder_304 (by decide) (fun c304 => ?_) (fun c304 => ?_)
                  · rw [if_neg (Bool.eq_false_iff.mp c304)]
                    show JW l G _ _ _ _ _ _ (mput M L (msP s ((a + 4)) q g))
                    refine j_iconst (v := 0) dX2_readsOrder_330 (by decide) ?_
                    exact j_zreturn dX2_readsOrder_331 rfl rfl (mjv (by simp only [pOrder, pThen, pWord, c6, c67, c137, c198, c268, c277, c286, c295, c304, if_true, if_false, Bool.false_eq_true]; first | done | rfl) (by simp only [pOrder, pThen, pWord, c6, c67, c137, c198, c268, c277, c286, c295, c304, if_true, if_false, Bool.false_eq_true]; first | done | rfl))
                  · rw [if_pos c304]
                    show JW l G _ _ _ _ _ _ (mput M L (msP s (a + 5) q g))
                    refine j_aload_n dX2_readsOrder_307 rfl rfl ?_
                    refine j_bipush (v := 110) dX2_readsOrder_308 (by decide) ?_
                    refine j_callV (mm_X2_reads hO s hl h60 (a := (a + 5)) (by first | assumption | exact pAt_lt (by assumption) | exact pDig_lt (by assumption) | exact (pNum_le _ _ _ _ (by assumption)).2 | exact (pTwo_le _ _ _ _ (by assumption)).2) q g 110 (by decide)) dX2_readsOrder_310 mt_X2_reads q2494 q2496 qs84 (hO.at (msP s (a + 5) q g) (i := 0) (by decide)) (by decide) rfl cd_X2_reads (Nat.le_of_ble_eq_true rfl) rfl rfl (Nat.le_of_ble_eq_true rfl) (jk_v ?_) jx_v
                    refine j_ifeqB (tgt := 330) dX2_readsOrder_313 (by decide) (fun c313 => ?_) (fun c313 => ?_)
                    · rw [if_neg (Bool.eq_false_iff.mp c313)]
                      show JW l G _ _ _ _ _ _ (mput M L (msP s ((a + 5)) q g))
                      refine j_iconst (v := 0) dX2_readsOrder_330 (by decide) ?_
                      exact j_zreturn dX2_readsOrder_331 rfl rfl (mjv (by simp only [pOrder, pThen, pWord, c6, c67, c137, c198, c268, c277, c286, c295, c304, c313, if_true, if_false, Bool.false_eq_true]; first | done | rfl) (by simp only [pOrder, pThen, pWord, c6, c67, c137, c198, c268, c277, c286, c295, c304, c313, if_true, if_false, Bool.false_eq_true]; first | done | rfl))
                    · rw [if_pos c313]
                      show JW l G _ _ _ _ _ _ (mput M L (msP s (a + 6) q g))
                      refine j_aload_n dX2_readsOrder_316 rfl rfl ?_
                      refine j_iconst (v := 4) dX2_readsOrder_317 (by decide) ?_
                      refine j_iconst (v := 2) dX2_readsOrder_318 (by decide) ?_
                      refine j_iconst (v := 0) dX2_readsOrder_319 (by decide) ?_
                      refine j_callV (mm_X2_readsTwo hO s hl h60 (a := (a + 6)) (by first | assumption | exact pAt_lt (by assumption) | exact pDig_lt (by assumption) | exact (pNum_le _ _ _ _ (by assumption)).2 | exact (pTwo_le _ _ _ _ (by assumption)).2) q g (it := 4) (d1 := 2) (d2 := 0) (by omega) (by omega)) dX2_readsOrder_320 mt_X2_readsTwo q2502 q2504 qs86 (hO.at (msP s (a + 6) q g) (i := 0) (by decide)) (by decide) rfl cd_X2_readsTwo (Nat.le_of_ble_eq_true rfl) rfl rfl (Nat.le_of_ble_eq_true rfl) (jk_v ?_) jx_v
                      refine j_ifeqB (tgt := 330) dX2_readsOrder_323 (by decide) (fun c323 => ?_) (fun c323 => ?_)
                      · refine j_iconst (v := 0) dX2_readsOrder_330 (by decide) ?_
                        exact j_zreturn dX2_readsOrder_331 rfl rfl (mjv (by simp only [pOrder, pThen, pWord, c6, c67, c137, c198, c268, c277, c286, c295, c304, c313, c323, if_true, if_false, Bool.false_eq_true]; first | done | rfl) (by simp only [pOrder, pThen, pWord, c6, c67, c137, c198, c268, c277, c286, c295, c304, c313, c323, if_true, if_false, Bool.false_eq_true]; first | done | rfl))
                      · refine j_iconst (v := 1) dX2_readsOrder_326 (by decide) ?_
                        refine j_goto (tgt := 331) dX2_readsOrder_327 (by decide) ?_
                        exact j_zreturn dX2_readsOrder_331 rfl rfl (mjv (by simp only [pOrder, pThen, pWord, c6, c67, c137, c198, c268, c277, c286, c295, c304, c313, c323, if_true, if_false, Bool.false_eq_true]; first | done | rfl) (by simp only [pOrder, pThen, pWord, c6, c67, c137, c198, c268, c277, c286, c295, c304, c313, c323, if_true, if_false, Bool.false_eq_true]; first | done | rfl))
        · rw [if_pos c198]
          show JW l G _ _ _ _ _ _ (mput M L (msP s (a + 1) q g))
          refine j_aload_n dX2_readsOrder_201 rfl rfl ?_
          refine j_bipush (v := 114) dX2_readsOrder_202 (by decide) ?_
          refine j_callV (mm_X2_reads hO s hl h60 (a := (a + 1)) (by first | assumption | exact pAt_lt (by assumption) | exact pDig_lt (by assumption) | exact (pNum_le _ _ _ _ (by assumption)).2 | exact (pTwo_le _ _ _ _ (by assumption)).2) q g 114 (by decide)) dX2_readsOrder_204 mt_X2_reads q2494 q2496 qs84 (hO.at (msP s (a + 1) q g) (i := 0) (by decide)) (by decide) rfl cd_X2_reads (Nat.le_of_ble_eq_true rfl) rfl rfl (Nat.le_of_ble_eq_true rfl) (jk_v ?_) jx_v
          refine j_ifeqB (tgt := 260) dX2_readsOrder_207 (by decide) (fun c207 => ?_) (fun c207 => ?_)
          · rw [if_neg (Bool.eq_false_iff.mp c207)]
            show JW l G _ _ _ _ _ _ (mput M L (msP s ((a + 1)) q g))
            refine j_iconst (v := 0) dX2_readsOrder_260 (by decide) ?_
            exact j_zreturn dX2_readsOrder_261 rfl rfl (mjv (by simp only [pOrder, pThen, pWord, c6, c67, c137, c198, c207, if_true, if_false, Bool.false_eq_true]; first | done | rfl) (by simp only [pOrder, pThen, pWord, c6, c67, c137, c198, c207, if_true, if_false, Bool.false_eq_true]; first | done | rfl))
          · rw [if_pos c207]
            show JW l G _ _ _ _ _ _ (mput M L (msP s (a + 2) q g))
            refine j_aload_n dX2_readsOrder_210 rfl rfl ?_
            refine j_bipush (v := 101) dX2_readsOrder_211 (by decide) ?_
            refine j_callV (mm_X2_reads hO s hl h60 (a := (a + 2)) (by first | assumption | exact pAt_lt (by assumption) | exact pDig_lt (by assumption) | exact (pNum_le _ _ _ _ (by assumption)).2 | exact (pTwo_le _ _ _ _ (by assumption)).2) q g 101 (by decide)) dX2_readsOrder_213 mt_X2_reads q2494 q2496 qs84 (hO.at (msP s (a + 2) q g) (i := 0) (by decide)) (by decide) rfl cd_X2_reads (Nat.le_of_ble_eq_true rfl) rfl rfl (Nat.le_of_ble_eq_true rfl) (jk_v ?_) jx_v
            refine j_ifeqB (tgt := 260) dX2_readsOrder_216 (by decide) (fun c216 => ?_) (fun c216 => ?_)
            · rw [if_neg (Bool.eq_false_iff.mp c216)]
              show JW l G _ _ _ _ _ _ (mput M L (msP s ((a + 2)) q g))
              refine j_iconst (v := 0) dX2_readsOrder_260 (by decide) ?_
              exact j_zreturn dX2_readsOrder_261 rfl rfl (mjv (by simp only [pOrder, pThen, pWord, c6, c67, c137, c198, c207, c216, if_true, if_false, Bool.false_eq_true]; first | done | rfl) (by simp only [pOrder, pThen, pWord, c6, c67, c137, c198, c207, c216, if_true, if_false, Bool.false_eq_true]; first | done | rfl))
            · rw [if_pos c216]
              show JW l G _ _ _ _ _ _ (mput M L (msP s (a + 3) q g))
              refine j_aload_n dX2_readsOrder_219 rfl rfl ?_
              refine j_bipush (v := 97) dX2_readsOrder_220 (by decide) ?_
              refine j_callV (mm_X2_reads hO s hl h60 (a := (a + 3)) (by first | assumption | exact pAt_lt (by assumption) | exact pDig_lt (by assumption) | exact (pNum_le _ _ _ _ (by assumption)).2 | exact (pTwo_le _ _ _ _ (by assumption)).2) q g 97 (by decide)) dX2_readsOrder_222 mt_X2_reads q2494 q2496 qs84 (hO.at (msP s (a + 3) q g) (i := 0) (by decide)) (by decide) rfl cd_X2_reads (Nat.le_of_ble_eq_true rfl) rfl rfl (Nat.le_of_ble_eq_true rfl) (jk_v ?_) jx_v
              refine j_ifeqB (tgt := 260) dX2_readsOrder_225 (by decide) (fun c225 => ?_) (fun c225 => ?_)
              · rw [if_neg (Bool.eq_false_iff.mp c225)]
                show JW l G _ _ _ _ _ _ (mput M L (msP s ((a + 3)) q g))
                refine j_iconst (v := 0) dX2_readsOrder_260 (by decide) ?_
                exact j_zreturn dX2_readsOrder_261 rfl rfl (mjv (by simp only [pOrder, pThen, pWord, c6, c67, c137, c198, c207, c216, c225, if_true, if_false, Bool.false_eq_true]; first | done | rfl) (by simp only [pOrder, pThen, pWord, c6, c67, c137, c198, c207, c216, c225, if_true, if_false, Bool.false_eq_true]; first | done | rfl))
              · rw [if_pos c225]
                show JW l G _ _ _ _ _ _ (mput M L (msP s (a + 4) q g))
                refine j_aload_n dX2_readsOrder_228 rfl rfl ?_
                refine j_bipush (v := 99) dX2_readsOrder_229 (by decide) ?_
                refine j_callV (mm_X2_reads hO s hl h60 (a := (a + 4)) (by first | assumption | exact pAt_lt (by assumption) | exact pDig_lt (by assumption) | exact (pNum_le _ _ _ _ (by assumption)).2 | exact (pTwo_le _ _ _ _ (by assumption)).2) q g 99 (by decide)) dX2_readsOrder_231 mt_X2_reads q2494 q2496 qs84 (hO.at (msP s (a + 4) q g) (i := 0) (by decide)) (by decide) rfl cd_X2_reads (Nat.le_of_ble_eq_true rfl) rfl rfl (Nat.le_of_ble_eq_true rfl) (jk_v ?_) jx_v
                refine j_ifeqB (tgt := 260) dX2_readsOrder_234 (by decide) (fun c234 => ?_) (fun c234 => ?_)
                · rw [if_neg (Bool.eq_false_iff.mp c234)]
                  show JW l G _ _ _ _ _ _ (mput M L (msP s ((a + 4)) q g))
                  refine j_iconst (v := 0) dX2_readsOrder_260 (by decide) ?_
                  exact j_zreturn dX2_readsOrder_261 rfl rfl (mjv (by simp only [pOrder, pThen, pWord, c6, c67, c137, c198, c207, c216, c225, c234, if_true, if_false, Bool.false_eq_true]; first | done | rfl) (by simp only [pOrder, pThen, pWord, c6, c67, c137, c198, c207, c216, c225, c234, if_true, if_false, Bool.false_eq_true]; first | done | rfl))
                · rw [if_pos c234]
                  show JW l G _ _ _ _ _ _ (mput M L (msP s (a + 5) q g))
                  refine j_aload_n dX2_readsOrder_237 rfl rfl ?_
                  refine j_bipush (v := 104) dX2_readsOrder_238 (by decide) ?_
                  refine j_callV (mm_X2_reads hO s hl h60 (a := (a + 5)) (by first | assumption | exact pAt_lt (by assumption) | exact pDig_lt (by assumption) | exact (pNum_le _ _ _ _ (by assumption)).2 | exact (pTwo_le _ _ _ _ (by assumption)).2) q g 104 (by decide)) dX2_readsOrder_240 mt_X2_reads q2494 q2496 qs84 (hO.at (msP s (a + 5) q g) (i := 0) (by decide)) (by decide) rfl cd_X2_reads (Nat.le_of_ble_eq_true rfl) rfl rfl (Nat.le_of_ble_eq_true rfl) (jk_v ?_) jx_v
                  refine j_ifeqB (tgt := 260) dX2_readsOrder_243 (by decide) (fun c243 => ?_) (fun c243 => ?_)
                  · rw [if_neg (Bool.eq_false_iff.mp c243)]
                    show JW l G _ _ _ _ _ _ (mput M L (msP s ((a + 5)) q g))
                    refine j_iconst (v := 0) dX2_readsOrder_260 (by decide) ?_
                    exact j_zreturn dX2_readsOrder_261 rfl rfl (mjv (by simp only [pOrder, pThen, pWord, c6, c67, c137, c198, c207, c216, c225, c234, c243, if_true, if_false, Bool.false_eq_true]; first | done | rfl) (by simp only [pOrder, pThen, pWord, c6, c67, c137, c198, c207, c216, c225, c234, c243, if_true, if_false, Bool.false_eq_true]; first | done | rfl))
                  · rw [if_pos c243]
                    show JW l G _ _ _ _ _ _ (mput M L (msP s (a + 6) q g))
                    refine j_aload_n dX2_readsOrder_246 rfl rfl ?_
                    refine j_iconst (v := 3) dX2_readsOrder_247 (by decide) ?_
                    refine j_iconst (v := 2) dX2_readsOrder_248 (by decide) ?_
                    refine j_iconst (v := 1) dX2_readsOrder_249 (by decide) ?_
                    refine j_callV (mm_X2_readsTwo hO s hl h60 (a := (a + 6)) (by first | assumption | exact pAt_lt (by assumption) | exact pDig_lt (by assumption) | exact (pNum_le _ _ _ _ (by assumption)).2 | exact (pTwo_le _ _ _ _ (by assumption)).2) q g (it := 3) (d1 := 2) (d2 := 1) (by omega) (by omega)) dX2_readsOrder_250 mt_X2_readsTwo q2502 q2504 qs86 (hO.at (msP s (a + 6) q g) (i := 0) (by decide)) (by decide) rfl cd_X2_readsTwo (Nat.le_of_ble_eq_true rfl) rfl rfl (Nat.le_of_ble_eq_true rfl) (jk_v ?_) jx_v
                    refine j_ifeqB (tgt := 260) dX2_readsOrder_253 (by decide) (fun c253 => ?_) (fun c253 => ?_)
                    · refine j_iconst (v := 0) dX2_readsOrder_260 (by decide) ?_
                      exact j_zreturn dX2_readsOrder_261 rfl rfl (mjv (by simp only [pOrder, pThen, pWord, c6, c67, c137, c198, c207, c216, c225, c234, c243, c253, if_true, if_false, Bool.false_eq_true]; first | done | rfl) (by simp only [pOrder, pThen, pWord, c6, c67, c137, c198, c207, c216, c225, c234, c243, c253, if_true, if_false, Bool.false_eq_true]; first | done | rfl))
                    · refine j_iconst (v := 1) dX2_readsOrder_256 (by decide) ?_
                      refine j_goto (tgt := 261) dX2_readsOrder_257 (by decide) ?_
                      exact j_zreturn dX2_readsOrder_261 rfl rfl (mjv (by simp only [pOrder, pThen, pWord, c6, c67, c137, c198, c207, c216, c225, c234, c243, c253, if_true, if_false, Bool.false_eq_true]; first | done | rfl) (by simp only [pOrder, pThen, pWord, c6, c67, c137, c198, c207, c216, c225, c234, c243, c253, if_true, if_false, Bool.false_eq_true]; first | done | rfl))
      · rw [if_pos c137]
        show JW l G _ _ _ _ _ _ (mput M L (msP s (a + 1) q g))
        refine j_aload_n dX2_readsOrder_140 rfl rfl ?_
        refine j_bipush (v := 101) dX2_readsOrder_141 (by decide) ?_
        refine j_callV (mm_X2_reads hO s hl h60 (a := (a + 1)) (by first | assumption | exact pAt_lt (by assumption) | exact pDig_lt (by assumption) | exact (pNum_le _ _ _ _ (by assumption)).2 | exact (pTwo_le _ _ _ _ (by assumption)).2) q g 101 (by decide)) dX2_readsOrder_143 mt_X2_reads q2494 q2496 qs84 (hO.at (msP s (a + 1) q g) (i := 0) (by decide)) (by decide) rfl cd_X2_reads (Nat.le_of_ble_eq_true rfl) rfl rfl (Nat.le_of_ble_eq_true rfl) (jk_v ?_) jx_v
        refine j_ifeqB (tgt := 190) dX2_readsOrder_146 (by decide) (fun c146 => ?_) (fun c146 => ?_)
        · rw [if_neg (Bool.eq_false_iff.mp c146)]
          show JW l G _ _ _ _ _ _ (mput M L (msP s ((a + 1)) q g))
          refine j_iconst (v := 0) dX2_readsOrder_190 (by decide) ?_
          exact j_zreturn dX2_readsOrder_191 rfl rfl (mjv (by simp only [pOrder, pThen, pWord, c6, c67, c137, c146, if_true, if_false, Bool.false_eq_true]; first | done | rfl) (by simp only [pOrder, pThen, pWord, c6, c67, c137, c146, if_true, if_false, Bool.false_eq_true]; first | done | rfl))
        · rw [if_pos c146]
          show JW l G _ _ _ _ _ _ (mput M L (msP s (a + 2) q g))
          refine j_aload_n dX2_readsOrder_149 rfl rfl ?_
          refine j_bipush (v := 97) dX2_readsOrder_150 (by decide) ?_
          refine j_callV (mm_X2_reads hO s hl h60 (a := (a + 2)) (by first | assumption | exact pAt_lt (by assumption) | exact pDig_lt (by assumption) | exact (pNum_le _ _ _ _ (by assumption)).2 | exact (pTwo_le _ _ _ _ (by assumption)).2) q g 97 (by decide)) dX2_readsOrder_152 mt_X2_reads q2494 q2496 qs84 (hO.at (msP s (a + 2) q g) (i := 0) (by decide)) (by decide) rfl cd_X2_reads (Nat.le_of_ble_eq_true rfl) rfl rfl (Nat.le_of_ble_eq_true rfl) (jk_v ?_) jx_v
          refine j_ifeqB (tgt := 190) dX2_readsOrder_155 (by decide) (fun c155 => ?_) (fun c155 => ?_)
          · rw [if_neg (Bool.eq_false_iff.mp c155)]
            show JW l G _ _ _ _ _ _ (mput M L (msP s ((a + 2)) q g))
            refine j_iconst (v := 0) dX2_readsOrder_190 (by decide) ?_
            exact j_zreturn dX2_readsOrder_191 rfl rfl (mjv (by simp only [pOrder, pThen, pWord, c6, c67, c137, c146, c155, if_true, if_false, Bool.false_eq_true]; first | done | rfl) (by simp only [pOrder, pThen, pWord, c6, c67, c137, c146, c155, if_true, if_false, Bool.false_eq_true]; first | done | rfl))
          · rw [if_pos c155]
            show JW l G _ _ _ _ _ _ (mput M L (msP s (a + 3) q g))
            refine j_aload_n dX2_readsOrder_158 rfl rfl ?_
            refine j_bipush (v := 118) dX2_readsOrder_159 (by decide) ?_
            refine j_callV (mm_X2_reads hO s hl h60 (a := (a + 3)) (by first | assumption | exact pAt_lt (by assumption) | exact pDig_lt (by assumption) | exact (pNum_le _ _ _ _ (by assumption)).2 | exact (pTwo_le _ _ _ _ (by assumption)).2) q g 118 (by decide)) dX2_readsOrder_161 mt_X2_reads q2494 q2496 qs84 (hO.at (msP s (a + 3) q g) (i := 0) (by decide)) (by decide) rfl cd_X2_reads (Nat.le_of_ble_eq_true rfl) rfl rfl (Nat.le_of_ble_eq_true rfl) (jk_v ?_) jx_v
            refine j_ifeqB (tgt := 190) dX2_readsOrder_164 (by decide) (fun c164 => ?_) (fun c164 => ?_)
            · rw [if_neg (Bool.eq_false_iff.mp c164)]
              show JW l G _ _ _ _ _ _ (mput M L (msP s ((a + 3)) q g))
              refine j_iconst (v := 0) dX2_readsOrder_190 (by decide) ?_
              exact j_zreturn dX2_readsOrder_191 rfl rfl (mjv (by simp only [pOrder, pThen, pWord, c6, c67, c137, c146, c155, c164, if_true, if_false, Bool.false_eq_true]; first | done | rfl) (by simp only [pOrder, pThen, pWord, c6, c67, c137, c146, c155, c164, if_true, if_false, Bool.false_eq_true]; first | done | rfl))
            · rw [if_pos c164]
              show JW l G _ _ _ _ _ _ (mput M L (msP s (a + 4) q g))
              refine j_aload_n dX2_readsOrder_167 rfl rfl ?_
              refine j_bipush (v := 101) dX2_readsOrder_168 (by decide) ?_
              refine j_callV (mm_X2_reads hO s hl h60 (a := (a + 4)) (by first | assumption | exact pAt_lt (by assumption) | exact pDig_lt (by assumption) | exact (pNum_le _ _ _ _ (by assumption)).2 | exact (pTwo_le _ _ _ _ (by assumption)).2) q g 101 (by decide)) dX2_readsOrder_170 mt_X2_reads q2494 q2496 qs84 (hO.at (msP s (a + 4) q g) (i := 0) (by decide)) (by decide) rfl cd_X2_reads (Nat.le_of_ble_eq_true rfl) rfl rfl (Nat.le_of_ble_eq_true rfl) (jk_v ?_) jx_v
              refine j_ifeqB (tgt := 190) dX2_readsOrder_173 (by decide) (fun c173 => ?_) (fun c173 => ?_)
              · rw [if_neg (Bool.eq_false_iff.mp c173)]
                show JW l G _ _ _ _ _ _ (mput M L (msP s ((a + 4)) q g))
                refine j_iconst (v := 0) dX2_readsOrder_190 (by decide) ?_
                exact j_zreturn dX2_readsOrder_191 rfl rfl (mjv (by simp only [pOrder, pThen, pWord, c6, c67, c137, c146, c155, c164, c173, if_true, if_false, Bool.false_eq_true]; first | done | rfl) (by simp only [pOrder, pThen, pWord, c6, c67, c137, c146, c155, c164, c173, if_true, if_false, Bool.false_eq_true]; first | done | rfl))
              · rw [if_pos c173]
                show JW l G _ _ _ _ _ _ (mput M L (msP s (a + 5) q g))
                refine j_aload_n dX2_readsOrder_176 rfl rfl ?_
                refine j_iconst (v := 2) dX2_readsOrder_177 (by decide) ?_
                refine j_iconst (v := 1) dX2_readsOrder_178 (by decide) ?_
                refine j_iconst (v := 0) dX2_readsOrder_179 (by decide) ?_
                refine j_callV (mm_X2_readsTwo hO s hl h60 (a := (a + 5)) (by first | assumption | exact pAt_lt (by assumption) | exact pDig_lt (by assumption) | exact (pNum_le _ _ _ _ (by assumption)).2 | exact (pTwo_le _ _ _ _ (by assumption)).2) q g (it := 2) (d1 := 1) (d2 := 0) (by omega) (by omega)) dX2_readsOrder_180 mt_X2_readsTwo q2502 q2504 qs86 (hO.at (msP s (a + 5) q g) (i := 0) (by decide)) (by decide) rfl cd_X2_readsTwo (Nat.le_of_ble_eq_true rfl) rfl rfl (Nat.le_of_ble_eq_true rfl) (jk_v ?_) jx_v
                refine j_ifeqB (tgt := 190) dX2_readsOrder_183 (by decide) (fun c183 => ?_) (fun c183 => ?_)
                · refine j_iconst (v := 0) dX2_readsOrder_190 (by decide) ?_
                  exact j_zreturn dX2_readsOrder_191 rfl rfl (mjv (by simp only [pOrder, pThen, pWord, c6, c67, c137, c146, c155, c164, c173, c183, if_true, if_false, Bool.false_eq_true]; first | done | rfl) (by simp only [pOrder, pThen, pWord, c6, c67, c137, c146, c155, c164, c173, c183, if_true, if_false, Bool.false_eq_true]; first | done | rfl))
                · refine j_iconst (v := 1) dX2_readsOrder_186 (by decide) ?_
                  refine j_goto (tgt := 191) dX2_readsOrder_187 (by decide) ?_
                  exact j_zreturn dX2_readsOrder_191 rfl rfl (mjv (by simp only [pOrder, pThen, pWord, c6, c67, c137, c146, c155, c164, c173, c183, if_true, if_false, Bool.false_eq_true]; first | done | rfl) (by simp only [pOrder, pThen, pWord, c6, c67, c137, c146, c155, c164, c173, c183, if_true, if_false, Bool.false_eq_true]; first | done | rfl))
    · rw [if_pos c67]
      show JW l G _ _ _ _ _ _ (mput M L (msP s (a + 1) q g))
      refine j_aload_n dX2_readsOrder_70 rfl rfl ?_
      refine j_bipush (v := 104) dX2_readsOrder_71 (by decide) ?_
      refine j_callV (mm_X2_reads hO s hl h60 (a := (a + 1)) (by first | assumption | exact pAt_lt (by assumption) | exact pDig_lt (by assumption) | exact (pNum_le _ _ _ _ (by assumption)).2 | exact (pTwo_le _ _ _ _ (by assumption)).2) q g 104 (by decide)) dX2_readsOrder_73 mt_X2_reads q2494 q2496 qs84 (hO.at (msP s (a + 1) q g) (i := 0) (by decide)) (by decide) rfl cd_X2_reads (Nat.le_of_ble_eq_true rfl) rfl rfl (Nat.le_of_ble_eq_true rfl) (jk_v ?_) jx_v
      refine j_ifeqB (tgt := 129) dX2_readsOrder_76 (by decide) (fun c76 => ?_) (fun c76 => ?_)
      · rw [if_neg (Bool.eq_false_iff.mp c76)]
        show JW l G _ _ _ _ _ _ (mput M L (msP s ((a + 1)) q g))
        refine j_iconst (v := 0) dX2_readsOrder_129 (by decide) ?_
        exact j_zreturn dX2_readsOrder_130 rfl rfl (mjv (by simp only [pOrder, pThen, pWord, c6, c67, c76, if_true, if_false, Bool.false_eq_true]; first | done | rfl) (by simp only [pOrder, pThen, pWord, c6, c67, c76, if_true, if_false, Bool.false_eq_true]; first | done | rfl))
      · rw [if_pos c76]
        show JW l G _ _ _ _ _ _ (mput M L (msP s (a + 2) q g))
        refine j_aload_n dX2_readsOrder_79 rfl rfl ?_
        refine j_bipush (v := 111) dX2_readsOrder_80 (by decide) ?_
        refine j_callV (mm_X2_reads hO s hl h60 (a := (a + 2)) (by first | assumption | exact pAt_lt (by assumption) | exact pDig_lt (by assumption) | exact (pNum_le _ _ _ _ (by assumption)).2 | exact (pTwo_le _ _ _ _ (by assumption)).2) q g 111 (by decide)) dX2_readsOrder_82 mt_X2_reads q2494 q2496 qs84 (hO.at (msP s (a + 2) q g) (i := 0) (by decide)) (by decide) rfl cd_X2_reads (Nat.le_of_ble_eq_true rfl) rfl rfl (Nat.le_of_ble_eq_true rfl) (jk_v ?_) jx_v
        refine j_ifeqB (tgt := 129) dX2_readsOrder_85 (by decide) (fun c85 => ?_) (fun c85 => ?_)
        · rw [if_neg (Bool.eq_false_iff.mp c85)]
          show JW l G _ _ _ _ _ _ (mput M L (msP s ((a + 2)) q g))
          refine j_iconst (v := 0) dX2_readsOrder_129 (by decide) ?_
          exact j_zreturn dX2_readsOrder_130 rfl rfl (mjv (by simp only [pOrder, pThen, pWord, c6, c67, c76, c85, if_true, if_false, Bool.false_eq_true]; first | done | rfl) (by simp only [pOrder, pThen, pWord, c6, c67, c76, c85, if_true, if_false, Bool.false_eq_true]; first | done | rfl))
        · rw [if_pos c85]
          show JW l G _ _ _ _ _ _ (mput M L (msP s (a + 3) q g))
          refine j_aload_n dX2_readsOrder_88 rfl rfl ?_
          refine j_bipush (v := 111) dX2_readsOrder_89 (by decide) ?_
          refine j_callV (mm_X2_reads hO s hl h60 (a := (a + 3)) (by first | assumption | exact pAt_lt (by assumption) | exact pDig_lt (by assumption) | exact (pNum_le _ _ _ _ (by assumption)).2 | exact (pTwo_le _ _ _ _ (by assumption)).2) q g 111 (by decide)) dX2_readsOrder_91 mt_X2_reads q2494 q2496 qs84 (hO.at (msP s (a + 3) q g) (i := 0) (by decide)) (by decide) rfl cd_X2_reads (Nat.le_of_ble_eq_true rfl) rfl rfl (Nat.le_of_ble_eq_true rfl) (jk_v ?_) jx_v
          refine j_ifeqB (tgt := 129) dX2_readsOrder_94 (by decide) (fun c94 => ?_) (fun c94 => ?_)
          · rw [if_neg (Bool.eq_false_iff.mp c94)]
            show JW l G _ _ _ _ _ _ (mput M L (msP s ((a + 3)) q g))
            refine j_iconst (v := 0) dX2_readsOrder_129 (by decide) ?_
            exact j_zreturn dX2_readsOrder_130 rfl rfl (mjv (by simp only [pOrder, pThen, pWord, c6, c67, c76, c85, c94, if_true, if_false, Bool.false_eq_true]; first | done | rfl) (by simp only [pOrder, pThen, pWord, c6, c67, c76, c85, c94, if_true, if_false, Bool.false_eq_true]; first | done | rfl))
          · rw [if_pos c94]
            show JW l G _ _ _ _ _ _ (mput M L (msP s (a + 4) q g))
            refine j_aload_n dX2_readsOrder_97 rfl rfl ?_
            refine j_bipush (v := 115) dX2_readsOrder_98 (by decide) ?_
            refine j_callV (mm_X2_reads hO s hl h60 (a := (a + 4)) (by first | assumption | exact pAt_lt (by assumption) | exact pDig_lt (by assumption) | exact (pNum_le _ _ _ _ (by assumption)).2 | exact (pTwo_le _ _ _ _ (by assumption)).2) q g 115 (by decide)) dX2_readsOrder_100 mt_X2_reads q2494 q2496 qs84 (hO.at (msP s (a + 4) q g) (i := 0) (by decide)) (by decide) rfl cd_X2_reads (Nat.le_of_ble_eq_true rfl) rfl rfl (Nat.le_of_ble_eq_true rfl) (jk_v ?_) jx_v
            refine j_ifeqB (tgt := 129) dX2_readsOrder_103 (by decide) (fun c103 => ?_) (fun c103 => ?_)
            · rw [if_neg (Bool.eq_false_iff.mp c103)]
              show JW l G _ _ _ _ _ _ (mput M L (msP s ((a + 4)) q g))
              refine j_iconst (v := 0) dX2_readsOrder_129 (by decide) ?_
              exact j_zreturn dX2_readsOrder_130 rfl rfl (mjv (by simp only [pOrder, pThen, pWord, c6, c67, c76, c85, c94, c103, if_true, if_false, Bool.false_eq_true]; first | done | rfl) (by simp only [pOrder, pThen, pWord, c6, c67, c76, c85, c94, c103, if_true, if_false, Bool.false_eq_true]; first | done | rfl))
            · rw [if_pos c103]
              show JW l G _ _ _ _ _ _ (mput M L (msP s (a + 5) q g))
              refine j_aload_n dX2_readsOrder_106 rfl rfl ?_
              refine j_bipush (v := 101) dX2_readsOrder_107 (by decide) ?_
              refine j_callV (mm_X2_reads hO s hl h60 (a := (a + 5)) (by first | assumption | exact pAt_lt (by assumption) | exact pDig_lt (by assumption) | exact (pNum_le _ _ _ _ (by assumption)).2 | exact (pTwo_le _ _ _ _ (by assumption)).2) q g 101 (by decide)) dX2_readsOrder_109 mt_X2_reads q2494 q2496 qs84 (hO.at (msP s (a + 5) q g) (i := 0) (by decide)) (by decide) rfl cd_X2_reads (Nat.le_of_ble_eq_true rfl) rfl rfl (Nat.le_of_ble_eq_true rfl) (jk_v ?_) jx_v
              refine j_ifeqB (tgt := 129) dX2_readsOrder_112 (by decide) (fun c112 => ?_) (fun c112 => ?_)
              · rw [if_neg (Bool.eq_false_iff.mp c112)]
                show JW l G _ _ _ _ _ _ (mput M L (msP s ((a + 5)) q g))
                refine j_iconst (v := 0) dX2_readsOrder_129 (by decide) ?_
                exact j_zreturn dX2_readsOrder_130 rfl rfl (mjv (by simp only [pOrder, pThen, pWord, c6, c67, c76, c85, c94, c103, c112, if_true, if_false, Bool.false_eq_true]; first | done | rfl) (by simp only [pOrder, pThen, pWord, c6, c67, c76, c85, c94, c103, c112, if_true, if_false, Bool.false_eq_true]; first | done | rfl))
              · rw [if_pos c112]
                show JW l G _ _ _ _ _ _ (mput M L (msP s (a + 6) q g))
                refine j_aload_n dX2_readsOrder_115 rfl rfl ?_
                refine j_iconst (v := 1) dX2_readsOrder_116 (by decide) ?_
                refine j_iconst (v := 1) dX2_readsOrder_117 (by decide) ?_
                refine j_iconst (v := 0) dX2_readsOrder_118 (by decide) ?_
                refine j_callV (mm_X2_readsTwo hO s hl h60 (a := (a + 6)) (by first | assumption | exact pAt_lt (by assumption) | exact pDig_lt (by assumption) | exact (pNum_le _ _ _ _ (by assumption)).2 | exact (pTwo_le _ _ _ _ (by assumption)).2) q g (it := 1) (d1 := 1) (d2 := 0) (by omega) (by omega)) dX2_readsOrder_119 mt_X2_readsTwo q2502 q2504 qs86 (hO.at (msP s (a + 6) q g) (i := 0) (by decide)) (by decide) rfl cd_X2_readsTwo (Nat.le_of_ble_eq_true rfl) rfl rfl (Nat.le_of_ble_eq_true rfl) (jk_v ?_) jx_v
                refine j_ifeqB (tgt := 129) dX2_readsOrder_122 (by decide) (fun c122 => ?_) (fun c122 => ?_)
                · refine j_iconst (v := 0) dX2_readsOrder_129 (by decide) ?_
                  exact j_zreturn dX2_readsOrder_130 rfl rfl (mjv (by simp only [pOrder, pThen, pWord, c6, c67, c76, c85, c94, c103, c112, c122, if_true, if_false, Bool.false_eq_true]; first | done | rfl) (by simp only [pOrder, pThen, pWord, c6, c67, c76, c85, c94, c103, c112, c122, if_true, if_false, Bool.false_eq_true]; first | done | rfl))
                · refine j_iconst (v := 1) dX2_readsOrder_125 (by decide) ?_
                  refine j_goto (tgt := 130) dX2_readsOrder_126 (by decide) ?_
                  exact j_zreturn dX2_readsOrder_130 rfl rfl (mjv (by simp only [pOrder, pThen, pWord, c6, c67, c76, c85, c94, c103, c112, c122, if_true, if_false, Bool.false_eq_true]; first | done | rfl) (by simp only [pOrder, pThen, pWord, c6, c67, c76, c85, c94, c103, c112, c122, if_true, if_false, Bool.false_eq_true]; first | done | rfl))
  · rw [if_pos c6]
    show JW l G _ _ _ _ _ _ (mput M L (msP s (a + 1) q g))
    refine j_aload_n dX2_readsOrder_9 rfl rfl ?_
    refine j_bipush (v := 111) dX2_readsOrder_10 (by decide) ?_
    refine j_callV (mm_X2_reads hO s hl h60 (a := (a + 1)) (by first | assumption | exact pAt_lt (by assumption) | exact pDig_lt (by assumption) | exact (pNum_le _ _ _ _ (by assumption)).2 | exact (pTwo_le _ _ _ _ (by assumption)).2) q g 111 (by decide)) dX2_readsOrder_12 mt_X2_reads q2494 q2496 qs84 (hO.at (msP s (a + 1) q g) (i := 0) (by decide)) (by decide) rfl cd_X2_reads (Nat.le_of_ble_eq_true rfl) rfl rfl (Nat.le_of_ble_eq_true rfl) (jk_v ?_) jx_v
    refine j_ifeqB (tgt := 59) dX2_readsOrder_15 (by decide) (fun c15 => ?_) (fun c15 => ?_)
    · rw [if_neg (Bool.eq_false_iff.mp c15)]
      show JW l G _ _ _ _ _ _ (mput M L (msP s ((a + 1)) q g))
      refine j_iconst (v := 0) dX2_readsOrder_59 (by decide) ?_
      exact j_zreturn dX2_readsOrder_60 rfl rfl (mjv (by simp only [pOrder, pThen, pWord, c6, c15, if_true, if_false, Bool.false_eq_true]; first | done | rfl) (by simp only [pOrder, pThen, pWord, c6, c15, if_true, if_false, Bool.false_eq_true]; first | done | rfl))
    · rw [if_pos c15]
      show JW l G _ _ _ _ _ _ (mput M L (msP s (a + 2) q g))
      refine j_aload_n dX2_readsOrder_18 rfl rfl ?_
      refine j_bipush (v := 105) dX2_readsOrder_19 (by decide) ?_
      refine j_callV (mm_X2_reads hO s hl h60 (a := (a + 2)) (by first | assumption | exact pAt_lt (by assumption) | exact pDig_lt (by assumption) | exact (pNum_le _ _ _ _ (by assumption)).2 | exact (pTwo_le _ _ _ _ (by assumption)).2) q g 105 (by decide)) dX2_readsOrder_21 mt_X2_reads q2494 q2496 qs84 (hO.at (msP s (a + 2) q g) (i := 0) (by decide)) (by decide) rfl cd_X2_reads (Nat.le_of_ble_eq_true rfl) rfl rfl (Nat.le_of_ble_eq_true rfl) (jk_v ?_) jx_v
      refine j_ifeqB (tgt := 59) dX2_readsOrder_24 (by decide) (fun c24 => ?_) (fun c24 => ?_)
      · rw [if_neg (Bool.eq_false_iff.mp c24)]
        show JW l G _ _ _ _ _ _ (mput M L (msP s ((a + 2)) q g))
        refine j_iconst (v := 0) dX2_readsOrder_59 (by decide) ?_
        exact j_zreturn dX2_readsOrder_60 rfl rfl (mjv (by simp only [pOrder, pThen, pWord, c6, c15, c24, if_true, if_false, Bool.false_eq_true]; first | done | rfl) (by simp only [pOrder, pThen, pWord, c6, c15, c24, if_true, if_false, Bool.false_eq_true]; first | done | rfl))
      · rw [if_pos c24]
        show JW l G _ _ _ _ _ _ (mput M L (msP s (a + 3) q g))
        refine j_aload_n dX2_readsOrder_27 rfl rfl ?_
        refine j_bipush (v := 99) dX2_readsOrder_28 (by decide) ?_
        refine j_callV (mm_X2_reads hO s hl h60 (a := (a + 3)) (by first | assumption | exact pAt_lt (by assumption) | exact pDig_lt (by assumption) | exact (pNum_le _ _ _ _ (by assumption)).2 | exact (pTwo_le _ _ _ _ (by assumption)).2) q g 99 (by decide)) dX2_readsOrder_30 mt_X2_reads q2494 q2496 qs84 (hO.at (msP s (a + 3) q g) (i := 0) (by decide)) (by decide) rfl cd_X2_reads (Nat.le_of_ble_eq_true rfl) rfl rfl (Nat.le_of_ble_eq_true rfl) (jk_v ?_) jx_v
        refine j_ifeqB (tgt := 59) dX2_readsOrder_33 (by decide) (fun c33 => ?_) (fun c33 => ?_)
        · rw [if_neg (Bool.eq_false_iff.mp c33)]
          show JW l G _ _ _ _ _ _ (mput M L (msP s ((a + 3)) q g))
          refine j_iconst (v := 0) dX2_readsOrder_59 (by decide) ?_
          exact j_zreturn dX2_readsOrder_60 rfl rfl (mjv (by simp only [pOrder, pThen, pWord, c6, c15, c24, c33, if_true, if_false, Bool.false_eq_true]; first | done | rfl) (by simp only [pOrder, pThen, pWord, c6, c15, c24, c33, if_true, if_false, Bool.false_eq_true]; first | done | rfl))
        · rw [if_pos c33]
          show JW l G _ _ _ _ _ _ (mput M L (msP s (a + 4) q g))
          refine j_aload_n dX2_readsOrder_36 rfl rfl ?_
          refine j_bipush (v := 101) dX2_readsOrder_37 (by decide) ?_
          refine j_callV (mm_X2_reads hO s hl h60 (a := (a + 4)) (by first | assumption | exact pAt_lt (by assumption) | exact pDig_lt (by assumption) | exact (pNum_le _ _ _ _ (by assumption)).2 | exact (pTwo_le _ _ _ _ (by assumption)).2) q g 101 (by decide)) dX2_readsOrder_39 mt_X2_reads q2494 q2496 qs84 (hO.at (msP s (a + 4) q g) (i := 0) (by decide)) (by decide) rfl cd_X2_reads (Nat.le_of_ble_eq_true rfl) rfl rfl (Nat.le_of_ble_eq_true rfl) (jk_v ?_) jx_v
          refine j_ifeqB (tgt := 59) dX2_readsOrder_42 (by decide) (fun c42 => ?_) (fun c42 => ?_)
          · rw [if_neg (Bool.eq_false_iff.mp c42)]
            show JW l G _ _ _ _ _ _ (mput M L (msP s ((a + 4)) q g))
            refine j_iconst (v := 0) dX2_readsOrder_59 (by decide) ?_
            exact j_zreturn dX2_readsOrder_60 rfl rfl (mjv (by simp only [pOrder, pThen, pWord, c6, c15, c24, c33, c42, if_true, if_false, Bool.false_eq_true]; first | done | rfl) (by simp only [pOrder, pThen, pWord, c6, c15, c24, c33, c42, if_true, if_false, Bool.false_eq_true]; first | done | rfl))
          · rw [if_pos c42]
            show JW l G _ _ _ _ _ _ (mput M L (msP s (a + 5) q g))
            refine j_aload_n dX2_readsOrder_45 rfl rfl ?_
            refine j_iconst (v := 0) dX2_readsOrder_46 (by decide) ?_
            refine j_iconst (v := 2) dX2_readsOrder_47 (by decide) ?_
            refine j_iconst (v := 2) dX2_readsOrder_48 (by decide) ?_
            refine j_callV (mm_X2_readsTwo hO s hl h60 (a := (a + 5)) (by first | assumption | exact pAt_lt (by assumption) | exact pDig_lt (by assumption) | exact (pNum_le _ _ _ _ (by assumption)).2 | exact (pTwo_le _ _ _ _ (by assumption)).2) q g (it := 0) (d1 := 2) (d2 := 2) (by omega) (by omega)) dX2_readsOrder_49 mt_X2_readsTwo q2502 q2504 qs86 (hO.at (msP s (a + 5) q g) (i := 0) (by decide)) (by decide) rfl cd_X2_readsTwo (Nat.le_of_ble_eq_true rfl) rfl rfl (Nat.le_of_ble_eq_true rfl) (jk_v ?_) jx_v
            refine j_ifeqB (tgt := 59) dX2_readsOrder_52 (by decide) (fun c52 => ?_) (fun c52 => ?_)
            · refine j_iconst (v := 0) dX2_readsOrder_59 (by decide) ?_
              exact j_zreturn dX2_readsOrder_60 rfl rfl (mjv (by simp only [pOrder, pThen, pWord, c6, c15, c24, c33, c42, c52, if_true, if_false, Bool.false_eq_true]; first | done | rfl) (by simp only [pOrder, pThen, pWord, c6, c15, c24, c33, c42, c52, if_true, if_false, Bool.false_eq_true]; first | done | rfl))
            · refine j_iconst (v := 1) dX2_readsOrder_55 (by decide) ?_
              refine j_goto (tgt := 60) dX2_readsOrder_56 (by decide) ?_
              exact j_zreturn dX2_readsOrder_60 rfl rfl (mjv (by simp only [pOrder, pThen, pWord, c6, c15, c24, c33, c42, c52, if_true, if_false, Bool.false_eq_true]; first | done | rfl) (by simp only [pOrder, pThen, pWord, c6, c15, c24, c33, c42, c52, if_true, if_false, Bool.false_eq_true]; first | done | rfl))

theorem mm_X2_readsAll (hO : mOK G M L) (s : MS) {len : Nat} (hl : s.1 13 = nI len) (h60 : len ≤ 60) : JM l G 5 yX2_readsAll wX2_readsAll [.ref (L 0)] (mput M L s) (jv (.int (jb (mAll s len).1)) (mput M L (mS1 s len))) := by
  refine JM.of pn_X2 (Nat.le_of_ble_eq_true rfl) (hO.1.1) ?_
  show JW l G 5 YX2_readsAll _ 0 [(0, .ref (L 0))] [] (mput M L s)
  refine j_aload_n dX2_readsAll_0 rfl rfl ?_
  refine j_iconst (v := 0) dX2_readsAll_1 (by decide) ?_
  refine mj_put hO dX2_readsAll_2 fd_X2_207_2 rfl (fun r hr => ⟨(ft_2_14 r hr).1, (ft_2_14 r hr).2.1⟩) rfl rfl ?_
  refine j_mem (M' := mput M L (msP s 0 (s.1 16) (s.2 6))) (congrArg (mput M L) (show msP s 0 (s.1 16) (s.2 6) = ms_z s 14 0 by unfold msP; rw [ms_z_self (k := 16) (v := s.1 16) (ms_z s 14 (nI 0)) rfl, ms_a_self (j := 6) (f := s.2 6) (ms_z s 14 (nI 0)) rfl]; rfl)) ?_
  refine j_iconst (v := 1) dX2_readsAll_5 (by decide) ?_
  refine j_istore_n dX2_readsAll_6 (by decide) rfl ?_
  refine j_iload_n dX2_readsAll_7 rfl ?_
  refine j_if_eq (tgt := 30) dX2_readsAll_8 (by decide) (fun c8 => ?_) (fun c8 => ?_)
  · exact absurd c8 (by decide)
  · have la_ : ∀ (f a : Nat) (q : Int32) (g : Nat → Int32), len - a < f → a ≤ len → pAll (s.2 5) len f a q g = mAll s len → JW l G 5 YX2_readsAll (jv (.int (jb (mAll s len).1)) (mput M L (mS1 s len))) 11 [(0, .ref (L 0))] [] (mput M L (msP s a q g)) := by
      intro f
      induction f with
      | zero => intro a q g h_; exact absurd h_ (Nat.not_lt_zero _)
      | succ f if_ =>
        intro a q g hf hal hp
        refine j_aload_n dX2_readsAll_11 rfl rfl ?_
        refine j_callV (mm_X2_readsOrder hO s hl h60 (a := a) (by first | assumption | exact pAt_lt (by assumption) | exact pDig_lt (by assumption) | exact (pNum_le _ _ _ _ (by assumption)).2 | exact (pTwo_le _ _ _ _ (by assumption)).2) q g) dX2_readsAll_12 mt_X2_readsOrder q2490 q2492 qs83 (hO.at (msP s a q g) (i := 0) (by decide)) (by decide) rfl cd_X2_readsOrder (Nat.le_of_ble_eq_true rfl) rfl rfl (Nat.le_of_ble_eq_true rfl) (jk_v ?_) jx_v
        refine j_ifneB (tgt := 20) dX2_readsAll_15 (by decide) (fun c15 => ?_) (fun c15 => ?_)
        · have hle_ : (pOrder (s.2 5) len a q g).2.1 ≤ len := (pOrder_le q g hal).2
          have hlt_ : a < (pOrder (s.2 5) len a q g).2.1 := pOrder_lt hal c15
          refine j_aload_n dX2_readsAll_20 rfl rfl ?_
          refine j_bipush (v := 59) dX2_readsAll_21 (by decide) ?_
          refine j_callV (mm_X2_reads hO s hl h60 (a := ((pOrder (s.2 5) len a q g).2.1)) (by first | assumption | exact pAt_lt (by assumption) | exact pDig_lt (by assumption) | exact (pNum_le _ _ _ _ (by assumption)).2 | exact (pTwo_le _ _ _ _ (by assumption)).2) ((pOrder (s.2 5) len a q g).2.2.1) ((pOrder (s.2 5) len a q g).2.2.2) 59 (by decide)) dX2_readsAll_23 mt_X2_reads q2494 q2496 qs84 (hO.at (msP s ((pOrder (s.2 5) len a q g).2.1) ((pOrder (s.2 5) len a q g).2.2.1) ((pOrder (s.2 5) len a q g).2.2.2)) (i := 0) (by decide)) (by decide) rfl cd_X2_reads (Nat.le_of_ble_eq_true rfl) rfl rfl (Nat.le_of_ble_eq_true rfl) (jk_v ?_) jx_v
          refine j_istore_n dX2_readsAll_26 (by decide) rfl ?_
          refine j_goto (tgt := 7) dX2_readsAll_27 (by decide) ?_
          refine j_iload_n dX2_readsAll_7 rfl ?_
          refine j_ifeqB (tgt := 30) dX2_readsAll_8 (by decide) (fun c8 => ?_) (fun c8 => ?_)
          · rw [if_neg (Bool.eq_false_iff.mp c8)]
            show JW l G _ _ _ _ _ _ (mput M L (msP s (((pOrder (s.2 5) len a q g).2.1)) ((pOrder (s.2 5) len a q g).2.2.1) ((pOrder (s.2 5) len a q g).2.2.2)))
            have hR_ : mAll s len = (decide ((pOrder (s.2 5) len a q g).2.1 = len), (pOrder (s.2 5) len a q g).2) := by
              rw [← hp]; conv => lhs; unfold pAll
              rw [if_pos c15, if_neg (Bool.eq_false_iff.mp c8)]
            have e14_ : (msP s (pOrder (s.2 5) len a q g).2.1 (pOrder (s.2 5) len a q g).2.2.1 (pOrder (s.2 5) len a q g).2.2.2).1 14 = nI (pOrder (s.2 5) len a q g).2.1 := rfl
            have e13_ : (msP s (pOrder (s.2 5) len a q g).2.1 (pOrder (s.2 5) len a q g).2.2.1 (pOrder (s.2 5) len a q g).2.2.2).1 13 = nI len := hl
            refine j_aload_n dX2_readsAll_30 rfl rfl ?_
            refine mj_get hO dX2_readsAll_31 fd_X2_207_2 rfl ?_
            refine j_aload_n dX2_readsAll_34 rfl rfl ?_
            refine mj_get hO dX2_readsAll_35 fd_X2_204_2 rfl ?_
            refine j_icmp_ne (tgt := 45) dX2_readsAll_38 (by decide) (fun c38 => ?_) (fun c38 => ?_)
            · have hne_ : ¬ (pOrder (s.2 5) len a q g).2.1 = len := fun w => c38 (by rw [e14_, e13_, w])
              refine j_iconst (v := 0) dX2_readsAll_45 (by decide) ?_
              exact j_zreturn dX2_readsAll_46 rfl rfl (mjv (by rw [hR_]; simp [hne_, jb]) (by unfold mS1; rw [hR_]))
            · have heq_ : (pOrder (s.2 5) len a q g).2.1 = len := (nI_eq (by omega) (by omega)).mp (by rw [e14_, e13_] at c38; exact c38)
              refine j_iconst (v := 1) dX2_readsAll_41 (by decide) ?_
              refine j_goto (tgt := 46) dX2_readsAll_42 (by decide) ?_
              exact j_zreturn dX2_readsAll_46 rfl rfl (mjv (by rw [hR_]; simp [heq_, jb]) (by unfold mS1; rw [hR_]))
          · rw [if_pos c8]
            show JW l G _ _ _ _ _ _ (mput M L (msP s (((pOrder (s.2 5) len a q g).2.1) + 1) ((pOrder (s.2 5) len a q g).2.2.1) ((pOrder (s.2 5) len a q g).2.2.2)))
            refine j_locs (ls2 := [(0, .ref (L 0))]) ⟨rfl, trivial⟩ (if_ ((pOrder (s.2 5) len a q g).2.1 + 1) (pOrder (s.2 5) len a q g).2.2.1 (pOrder (s.2 5) len a q g).2.2.2 (by omega) (pAt_lt c8) ?_)
            rw [← hp]; conv => rhs; unfold pAll
            rw [if_pos c15, if_pos c8]
        · have hR_ : mAll s len = (pOrder (s.2 5) len a q g) := by
            rw [← hp]; conv => lhs; unfold pAll
            rw [if_neg (Bool.eq_false_iff.mp c15)]
          refine j_iconst (v := 0) dX2_readsAll_18 (by decide) ?_
          exact j_zreturn dX2_readsAll_19 rfl rfl (mjv (by rw [hR_, c15]; rfl) (by unfold mS1; rw [hR_]))
    refine j_locs (ls2 := [(0, .ref (L 0))]) ⟨rfl, trivial⟩ ?_
    exact la_ 61 0 (s.1 16) (s.2 6) (by omega) (Nat.zero_le _) rfl

end M7
