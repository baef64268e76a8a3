section K14
variable {l : Launch} {G : j_G} {M : j_M} {W : jWt} {A : Nat → Nat} {H : HV}
theorem X1_place_m (hH : HAt G W M A H) (hG : jGd G W) (hx16_ : ∀ x, x ∈ hl H → x < 16) {b : Nat} (hb : b < 16) : JM l G 6 yX1_place wX1_place [.ref (A 0), .int (nI b)] M (jr (fun v M' => v = some (.int (mres ((hl H).findIdx? (fun x => x == b)) (-15))) ∧ jEx G M M' 1 5)) := by
  refine JM.of pn_X1 (Nat.le_of_ble_eq_true rfl) (hH.wf.1) ?_
  show JW l G 6 YX1_place _ 0 [(0, .ref (A 0)), (1, .int (nI b))] [] M
  refine j_iconst (v := 0) dX1_place_0 (by decide) ?_
  refine j_istore_n dX1_place_1 (by decide) rfl ?_
  refine j_aload_n dX1_place_2 rfl rfl ?_
  refine j_get dX1_place_3 fd_X1_23_1 hH.house rfl ?_
  refine j_callU (J3_iterator_m hH.wf hH.line (by have := hH.2.1.2.1; omega)) dX1_place_6 mt_J3_iterator q940 q941 (Or.inr q942) (by decide) rfl q943 q944 hH.line.1 (by decide) rfl cd_J3_iterator (Nat.le_of_ble_eq_true rfl) rfl rfl (Nat.le_of_ble_eq_true rfl) (jk_v ?_) jx_v
  obtain ⟨it, hit⟩ : ∃ z : Nat, z = M.2.1 := ⟨_, rfl⟩
  obtain ⟨M1_, hM1_⟩ : ∃ X : j_M, X = j_new M (.inr (17, [.null, va_rf (lk (fun j => A (40 + j)) (hl H).length 0), .int 0, .int (H.1 1), .ref (A 3)])) 5 := ⟨_, rfl⟩
  rw [← hit, ← hM1_]
  have hm1_ : M.2.1 ≤ it := Nat.le_of_eq hit.symm
  have hE1_ : jEx G M M1_ 1 5 := by rw [hM1_]; exact jFr.new hH.wf
  refine j_astore_n dX1_place_9 rfl (by decide) rfl ?_
  have lo_ : ∀ (vs us : List Nat) (M_ : j_M) (lr : Value), us ++ vs = hl H → jEx G M M_ 1 5 → M_.1 it = some (.inr (17, [lr, va_rf (lk (fun j => A (40 + j)) (hl H).length us.length), .int (nI us.length), .int (H.1 1), .ref (A 3)])) → (∀ x, x ∈ us → (x == b) = false) → JW l G 6 YX1_place (jr (fun v M' => v = some (.int (mres ((hl H).findIdx? (fun x => x == b)) (-15))) ∧ jEx G M M' 1 5)) 10 [(0, .ref (A 0)), (1, .int (nI b)), (2, .int (nI us.length)), (3, .ref it)] [] M_ := by
    intro vs
    induction vs with
    | nil =>
      intro us M_ lr hx_ hE_ hI_ hno_
      have hul_ : us = hl H := by rw [← hx_, List.append_nil]
      have hlu_ : us.length = (hl H).length := by rw [hul_]
      have hL_ := hH.line.ex hH.wf hE_
      have h15_ := hH.2.1.2.1
      refine j_aload_n dX1_place_10 rfl rfl ?_
      refine j_callF (J23_hasNext_m hE_.1 hL_ hI_ (by omega) (by omega)) dX1_place_11 mt_J23_hasNext q393 (by decide +kernel) rfl q433 q435 hI_ (by decide) rfl cd_J23_hasNext (Nat.le_of_ble_eq_true rfl) rfl rfl (Nat.le_of_ble_eq_true rfl) (jk_v ?_) jx_v
      refine j_ifeqB (tgt := 47) dX1_place_16 (by decide) (fun c16 => ?_) (fun c16 => ?_)
      · have hfn_ : (hl H).findIdx? (fun x => x == b) = none := by
          rw [List.findIdx?_eq_none_iff]; intro x hx; exact hno_ x (by rw [hul_]; exact hx)
        refine j_bipush (v := (-15)) dX1_place_47 (by decide) ?_
        exact j_ireturn dX1_place_49 rfl (jr_i ⟨by rw [hfn_]; rfl, hE_⟩)
      · exact absurd (of_decide_eq_true c16) (by omega)
    | cons v vs ih =>
      intro us M_ lr hx_ hE_ hI_ hno_
      have hul_ : us.length < (hl H).length := by rw [← hx_, List.length_append, List.length_cons]; omega
      have hv16_ : v < 16 := hx16_ v (by rw [← hx_]; exact List.mem_append_right _ List.mem_cons_self)
      have hlv_ : hlist (hl H) W.2 us.length = W.2 v := by rw [← hx_]; exact hlist_mid us vs v W.2
      have hL_ := hH.line.ex hH.wf hE_
      have h15_ := hH.2.1.2.1
      refine j_aload_n dX1_place_10 rfl rfl ?_
      refine j_callF (J23_hasNext_m hE_.1 hL_ hI_ (by omega) (by omega)) dX1_place_11 mt_J23_hasNext q393 (by decide +kernel) rfl q433 q435 hI_ (by decide) rfl cd_J23_hasNext (Nat.le_of_ble_eq_true rfl) rfl rfl (Nat.le_of_ble_eq_true rfl) (jk_v ?_) jx_v
      refine j_ifeqB (tgt := 47) dX1_place_16 (by decide) (fun c16 => ?_) (fun c16 => ?_)
      · exact absurd c16 (by rw [decide_eq_true hul_]; decide)
      · refine j_aload_n dX1_place_19 rfl rfl ?_
        refine j_callF (J23_next_m hE_.1 hL_ hI_ (by omega) (by omega)) dX1_place_20 mt_J23_next q439 (by decide +kernel) rfl q847 q849 hI_ (by decide) rfl cd_J23_next (Nat.le_of_ble_eq_true rfl) rfl rfl (Nat.le_of_ble_eq_true rfl) (jk_v ?_) jx_v
        rw [hlv_]
        obtain ⟨M2_, hM2_⟩ : ∃ X : j_M, X = j_put M_ it (.inr (17, [.ref (A (40 + us.length)), va_rf (lk (fun j => A (40 + j)) (hl H).length (us.length + 1)), .int (nI (us.length + 1)), .int (H.1 1), .ref (A 3)])) := ⟨_, rfl⟩
        refine j_mem (M' := M2_) hM2_ ?_
        have hI2_ : M2_.1 it = some (.inr (17, [.ref (A (40 + us.length)), va_rf (lk (fun j => A (40 + j)) (hl H).length (us.length + 1)), .int (nI (us.length + 1)), .int (H.1 1), .ref (A 3)])) := by rw [hM2_]; exact j_peq
        have hE2_ : jEx G M M2_ 1 5 := by rw [hM2_]; exact hE_.stepp hI_ (fun h => absurd h (by omega))
        have hw2_ : jWd G W M2_ := hH.1.ex hE2_
        refine j_chk dX1_place_25 (hw2_.int hG hv16_) (by decide) rfl q1011 (Or.inl rfl) ?_
        refine j_callV (J25_intValue_m hE2_.1 (hw2_.int hG hv16_)) dX1_place_28 mt_J25_intValue q1012 q1013 q1014 (hw2_.int hG hv16_) (by decide) rfl cd_J25_intValue (Nat.le_of_ble_eq_true rfl) rfl rfl (Nat.le_of_ble_eq_true rfl) (jk_v ?_) jx_v
        refine j_istore dX1_place_31 (by decide) rfl ?_
        refine j_iload dX1_place_33 rfl ?_
        refine j_iload_n dX1_place_35 rfl ?_
        refine j_icmp_ne (tgt := 41) dX1_place_36 (by decide) (fun c36 => ?_) (fun c36 => ?_)
        · have hvb_ : (v == b) = false := beq_eq_false_iff_ne.mpr (fun e => c36 (by rw [e]))
          refine j_iinc (v := (nI us.length) + 1) dX1_place_41 rfl rfl (by decide) rfl ?_
          refine j_goto (tgt := 10) dX1_place_44 (by decide) ?_
          have hl2_ : (us ++ [v]).length = us.length + 1 := by rw [List.length_append]; rfl
          refine j_locs (ls2 := [(0, .ref (A 0)), (1, .int (nI b)), (2, .int (nI (us ++ [v]).length)), (3, .ref it)]) ⟨rfl, rfl, by rw [hl2_, ← nI_1]; rfl, rfl, trivial⟩ ?_
          refine ih (us ++ [v]) M2_ (.ref (A (40 + us.length))) (by rw [List.append_assoc]; exact hx_) hE2_ (by rw [hl2_]; exact hI2_) (fun x hx => ?_)
          rcases List.mem_append.mp hx with h | h
          · exact hno_ x h
          · rw [List.mem_singleton.mp h]; exact hvb_
        · have hvb_ : v = b := (nI_eq (by omega) (by omega)).mp c36
          have hfs_ : (hl H).findIdx? (fun x => x == b) = some us.length := by
            rw [← hx_, List.findIdx?_append, show us.findIdx? (fun x => x == b) = none from by rw [List.findIdx?_eq_none_iff]; exact hno_]
            rw [List.findIdx?_cons, if_pos (by rw [hvb_]; exact beq_self_eq_true b)]; simp
          refine j_iload_n dX1_place_39 rfl ?_
          exact j_ireturn dX1_place_40 rfl (jr_i ⟨by rw [hfs_]; rfl, hE2_⟩)
  refine j_locs (ls2 := [(0, .ref (A 0)), (1, .int (nI b)), (2, .int (nI ([] : List Nat).length)), (3, .ref it)]) ⟨rfl, rfl, rfl, rfl, trivial⟩ ?_
  exact lo_ (hl H) [] M1_ .null rfl hE1_ (by rw [hM1_, hit]; exact j_neq) (fun x hx => absurd hx List.not_mem_nil)

end K14
