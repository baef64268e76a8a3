section K12
variable {l : Launch} {G : j_G} {M : j_M} {W : jWt} {A : Nat → Nat} {H : HV}
theorem X1_feasts_m (hH : HAt G W M A H) : JM l G 0 yX1_feasts wX1_feasts [.ref (A 0)] M (jv (.int (hFeasts H)) M) := by
  refine JM.of pn_X1 (Nat.le_of_ble_eq_true rfl) (hH.wf.1) ?_
  show JW l G 0 YX1_feasts _ 0 [(0, .ref (A 0))] [] M
  refine j_iconst (v := 0) dX1_feasts_0 (by decide) ?_
  refine j_istore_n dX1_feasts_1 (by decide) rfl ?_
  refine j_aload_n dX1_feasts_2 rfl rfl ?_
  refine j_get dX1_feasts_3 fd_X1_34_1 hH.house rfl ?_
  refine j_astore_n dX1_feasts_6 rfl (by decide) rfl ?_
  refine j_aload_n dX1_feasts_7 rfl rfl ?_
  refine j_alen dX1_feasts_8 hH.feasts (by decide) ?_
  refine j_istore_n dX1_feasts_9 (by decide) rfl ?_
  refine j_iconst (v := 0) dX1_feasts_10 (by decide) ?_
  refine j_istore dX1_feasts_11 (by decide) rfl ?_
  have lb_ : ∀ (e j : Nat), e + j = 52 → JW l G 0 YX1_feasts (jv (.int (hFeasts H)) M) 13 [(0, .ref (A 0)), (1, .int (msum (fun w => jb (decide (0 < H.2.1 1 w))) j)), (2, .ref (A 6)), (3, .int (nI 52)), (4, .int (nI j))] [] M := by
    intro e
    induction e with
    | zero =>
      intro j hj
      obtain rfl : j = 52 := by omega
      refine j_iload dX1_feasts_13 rfl ?_
      refine j_iload_n dX1_feasts_15 rfl ?_
      refine j_icmp_ge (tgt := 44) dX1_feasts_16 (by decide) (fun c16 => ?_) (fun c16 => ?_)
      · refine j_iload_n dX1_feasts_44 rfl ?_
        exact j_ireturn dX1_feasts_45 rfl (rfl)
      · exact absurd (by decide) c16
    | succ e ih =>
      intro j hj
      refine j_iload dX1_feasts_13 rfl ?_
      refine j_iload_n dX1_feasts_15 rfl ?_
      refine j_icmp_ge (tgt := 44) dX1_feasts_16 (by decide) (fun c16 => ?_) (fun c16 => ?_)
      · exact absurd c16 (nI_ge (show j < 52 by omega) (by decide))
      · refine j_aload_n dX1_feasts_19 rfl rfl ?_
        refine j_iload dX1_feasts_20 rfl ?_
        refine j_iald (j := j) dX1_feasts_22 hH.feasts (by decide) rfl (by omega) (by omega) ?_
        refine j_istore dX1_feasts_23 (by decide) rfl ?_
        refine j_iload_n dX1_feasts_25 rfl ?_
        refine j_iload dX1_feasts_26 rfl ?_
        refine j_if_le (tgt := 35) dX1_feasts_28 (by decide) (fun c28 => ?_) (fun c28 => ?_)
        · refine j_iconst (v := 0) dX1_feasts_35 (by decide) ?_
          refine j_iadd dX1_feasts_36 ?_
          refine j_istore_n dX1_feasts_37 (by decide) rfl ?_
          refine j_iinc (v := nI (j + 1)) dX1_feasts_38 rfl (nI_1 _) (by decide) rfl ?_
          refine j_goto (tgt := 13) dX1_feasts_41 (by decide) ?_
          refine j_locs (ls2 := [(0, .ref (A 0)), (1, .int (msum (fun w => jb (decide (0 < H.2.1 1 w))) (j + 1))), (2, .ref (A 6)), (3, .int (nI 52)), (4, .int (nI (j + 1)))]) ⟨rfl, (by show _ = some (Value.int (msum _ j + jb (decide (0 < H.2.1 1 j)))); rw [decide_eq_false (Int32.not_lt.mpr c28)]; rfl), rfl, rfl, rfl, trivial⟩ (ih (j + 1) (by omega))
        · refine j_iconst (v := 1) dX1_feasts_31 (by decide) ?_
          refine j_goto (tgt := 36) dX1_feasts_32 (by decide) ?_
          refine j_iadd dX1_feasts_36 ?_
          refine j_istore_n dX1_feasts_37 (by decide) rfl ?_
          refine j_iinc (v := nI (j + 1)) dX1_feasts_38 rfl (nI_1 _) (by decide) rfl ?_
          refine j_goto (tgt := 13) dX1_feasts_41 (by decide) ?_
          refine j_locs (ls2 := [(0, .ref (A 0)), (1, .int (msum (fun w => jb (decide (0 < H.2.1 1 w))) (j + 1))), (2, .ref (A 6)), (3, .int (nI 52)), (4, .int (nI (j + 1)))]) ⟨rfl, (by show _ = some (Value.int (msum _ j + jb (decide (0 < H.2.1 1 j)))); rw [decide_eq_true (Int32.not_le.mp c28)]; rfl), rfl, rfl, rfl, trivial⟩ (ih (j + 1) (by omega))
  refine j_locs (ls2 := [(0, .ref (A 0)), (1, .int (msum (fun w => jb (decide (0 < H.2.1 1 w))) 0)), (2, .ref (A 6)), (3, .int (nI 52)), (4, .int (nI 0))]) ⟨rfl, rfl, rfl, rfl, rfl, trivial⟩ (lb_ 52 0 rfl)

theorem X1_nextFeast_m (hH : HAt G W M A H) (hWk_ : hWk H) : JM l G 0 yX1_nextFeast wX1_nextFeast [.ref (A 0)] M (jv (.int (hNextFeast H)) M) := by
  refine JM.of pn_X1 (Nat.le_of_ble_eq_true rfl) (hH.wf.1) ?_
  show JW l G 0 YX1_nextFeast _ 0 [(0, .ref (A 0))] [] M
  obtain ⟨wk, hwk_, ew_⟩ := hWk_
  have eN_ : mN (H.1 6) = wk := by rw [ew_]; exact mN_nI (by omega)
  have hix_ : ∀ k, k < 52 → H.1 6 + nI k - (H.1 6 + nI k) / 52 * 52 = nI ((wk + k) % 52) := by
    intro k hk
    rw [ew_, nI_add, show (52 : Int32) = nI 52 from rfl, pk_rem (by omega) (by decide) (by decide)]
  refine j_iconst (v := 0) dX1_nextFeast_0 (by decide) ?_
  refine j_istore_n dX1_nextFeast_1 (by decide) rfl ?_
  have lb_ : ∀ (e j : Nat), e + j = 52 → (∀ q, q < j → (fun k => decide (0 < H.2.1 1 ((wk + k) % 52))) q = false) → JW l G 0 YX1_nextFeast (jv (.int (hNextFeast H)) M) 2 [(0, .ref (A 0)), (1, .int (nI j))] [] M := by
    intro e
    induction e with
    | zero =>
      intro j hj hno
      obtain rfl : j = 52 := by omega
      refine j_iload_n dX1_nextFeast_2 rfl ?_
      refine j_bipush (v := 52) dX1_nextFeast_3 (by decide) ?_
      refine j_icmp_ge (tgt := 33) dX1_nextFeast_5 (by decide) (fun c5 => ?_) (fun c5 => ?_)
      · refine j_bipush (v := (-15)) dX1_nextFeast_33 (by decide) ?_
        exact j_ireturn dX1_nextFeast_35 rfl (by unfold hNextFeast; rw [eN_, mfind_none hno]; rfl)
      · exact absurd (by decide) c5
    | succ e ih =>
      intro j hj hno
      refine j_iload_n dX1_nextFeast_2 rfl ?_
      refine j_bipush (v := 52) dX1_nextFeast_3 (by decide) ?_
      refine j_icmp_ge (tgt := 33) dX1_nextFeast_5 (by decide) (fun c5 => ?_) (fun c5 => ?_)
      · exact absurd c5 (nI_ge (show j < 52 by omega) (by decide))
      · refine j_aload_n dX1_nextFeast_8 rfl rfl ?_
        refine j_get dX1_nextFeast_9 fd_X1_34_1 hH.house rfl ?_
        refine j_aload_n dX1_nextFeast_12 rfl rfl ?_
        refine j_get dX1_nextFeast_13 fd_X1_94_1 hH.house rfl ?_
        refine j_iload_n dX1_nextFeast_16 rfl ?_
        refine j_iadd dX1_nextFeast_17 ?_
        refine j_bipush (v := 52) dX1_nextFeast_18 (by decide) ?_
        refine j_irem dX1_nextFeast_20 (by decide) ?_
        refine j_iald (j := ((wk + j) % 52)) dX1_nextFeast_21 hH.feasts (by decide) (hix_ j (by omega)) (Nat.mod_lt _ (by decide)) (by decide) ?_
        refine j_if_le (tgt := 27) dX1_nextFeast_22 (by decide) (fun c22 => ?_) (fun c22 => ?_)
        · refine j_iinc (v := nI (j + 1)) dX1_nextFeast_27 rfl (nI_1 _) (by decide) rfl ?_
          refine j_goto (tgt := 2) dX1_nextFeast_30 (by decide) ?_
          refine j_locs (ls2 := [(0, .ref (A 0)), (1, .int (nI (j + 1)))]) ⟨rfl, rfl, trivial⟩ (ih (j + 1) (by omega) (lt_s hno (decide_eq_false (Int32.not_lt.mpr c22))))
        · refine j_iload_n dX1_nextFeast_25 rfl ?_
          exact j_ireturn dX1_nextFeast_26 rfl (by unfold hNextFeast; rw [eN_, mfind_some (by omega) hno (decide_eq_true (Int32.not_le.mp c22))]; rfl)
  refine j_locs (ls2 := [(0, .ref (A 0)), (1, .int (nI 0))]) ⟨rfl, rfl, trivial⟩ (lb_ 52 0 rfl (fun _ h => absurd h (Nat.not_lt_zero _)))

end K12
