section K4
variable {l : Launch} {G : j_G} {M : j_M} {W : jWt} {A : Nat → Nat} {H : HV}
theorem X1_takesFrom_m (hWd : jWd G W M) (hG : jGd G W) {q : Nat} {m : Int32} {nd : Nat → Nat} {xs : List Nat} (hL : LL M q m nd (hlist xs W.2) xs.length) (hxs : ∀ x, x ∈ xs → x < 16) (hlen : xs.length ≤ 16) (hqB : jB G ≤ q) (hnB : ∀ j, j < xs.length → jB G ≤ nd j) {b : Nat} (hb : b < 16) : JM l G 6 yX1_takesFrom wX1_takesFrom [.ref q, .int (nI b)] M (jr (fun v M' => v = none ∧ ∃ m2 nd2, LL M' q m2 nd2 (hlist (xs.filter (fun x => x != b)) W.2) (xs.filter (fun x => x != b)).length ∧ (∀ j, j < (xs.filter (fun x => x != b)).length → ∃ i, i < xs.length ∧ nd2 j = nd i) ∧ jFr G (fun a => a = q ∨ ∃ i, i < xs.length ∧ a = nd i) M M' 1 5)) := by
  refine JM.of pn_X1 (Nat.le_of_ble_eq_true rfl) (hWd.1.1) ?_
  show JW l G 6 YX1_takesFrom _ 0 [(0, .ref q), (1, .int (nI b))] [] M
  refine j_aload_n dX1_takesFrom_0 rfl rfl ?_
  refine j_callU (J3_iterator_m hWd.1 hL (by omega)) dX1_takesFrom_1 mt_J3_iterator q940 q941 (Or.inr q942) (by decide) rfl q943 q944 hL.1 (by decide) rfl cd_J3_iterator (Nat.le_of_ble_eq_true rfl) rfl rfl (Nat.le_of_ble_eq_true rfl) (jk_v ?_) jx_v
  obtain ⟨it, hit⟩ : ∃ z : Nat, z = M.2.1 := ⟨_, rfl⟩
  obtain ⟨M1_, hM1_⟩ : ∃ X : j_M, X = j_new M (.inr (17, [.null, va_rf (lk nd xs.length 0), .int 0, .int m, .ref q])) 5 := ⟨_, rfl⟩
  rw [← hit, ← hM1_]
  have hitm_ : M.2.1 ≤ it := Nat.le_of_eq hit.symm
  have hitB_ : jB G ≤ it := Nat.le_trans hWd.1.1 hitm_
  refine j_astore_n dX1_takesFrom_4 rfl (by decide) rfl ?_
  have lp_ : ∀ (vs us : List Nat) (M_ : j_M) (m_ : Int32) (nd_ : Nat → Nat) (lr : Value), (us ++ vs).length ≤ 16 → (∀ x, x ∈ vs → x < 16) → LL M_ q m_ nd_ (hlist (us ++ vs) W.2) (us ++ vs).length → M_.1 it = some (.inr (17, [lr, va_rf (lk nd_ (us ++ vs).length us.length), .int (nI us.length), .int m_, .ref q])) → jWd G W M_ → jFr G (fun a => a = q ∨ ∃ i, i < xs.length ∧ a = nd i) M M_ 1 5 → (∀ j, j < (us ++ vs).length → ∃ i, i < xs.length ∧ nd_ j = nd i) → us ++ vs.filter (fun x => x != b) = (xs.filter (fun x => x != b)) → JW l G 6 YX1_takesFrom (jr (fun v M' => v = none ∧ ∃ m2 nd2, LL M' q m2 nd2 (hlist (xs.filter (fun x => x != b)) W.2) (xs.filter (fun x => x != b)).length ∧ (∀ j, j < (xs.filter (fun x => x != b)).length → ∃ i, i < xs.length ∧ nd2 j = nd i) ∧ jFr G (fun a => a = q ∨ ∃ i, i < xs.length ∧ a = nd i) M M' 1 5)) 5 [(0, .ref q), (1, .int (nI b)), (2, .ref it)] [] M_ := by
    intro vs
    induction vs with
    | nil =>
      intro us M_ m_ nd_ lr hle hv hL_ hI_ hw_ hf_ hn_ he_
      have hul_ : (us ++ ([] : List Nat)).length = us.length := by rw [List.append_nil]
      refine j_aload_n dX1_takesFrom_5 rfl rfl ?_
      refine j_callF (J23_hasNext_m hw_.1 hL_ hI_ (by omega) (by omega)) dX1_takesFrom_6 mt_J23_hasNext q393 (by decide +kernel) rfl q433 q435 hI_ (by decide) rfl cd_J23_hasNext (Nat.le_of_ble_eq_true rfl) rfl rfl (Nat.le_of_ble_eq_true rfl) (jk_v ?_) jx_v
      refine j_ifeqB (tgt := 41) dX1_takesFrom_11 (by decide) (fun c11 => ?_) (fun c11 => ?_)
      · have e9_ : us ++ ([] : List Nat) = (xs.filter (fun x => x != b)) := he_
        rw [e9_] at hL_ hn_
        exact j_return dX1_takesFrom_41 rfl (jr_i ⟨rfl, m_, nd_, hL_, hn_, hf_⟩)
      · exact absurd (of_decide_eq_true c11) (by omega)
    | cons v vs ih =>
      intro us M_ m_ nd_ lr hle hv hL_ hI_ hw_ hf_ hn_ he_
      have hul_ : (us ++ v :: vs).length = us.length + vs.length + 1 := by rw [List.length_append, List.length_cons]; omega
      have hul2_ : (us ++ vs).length = us.length + vs.length := List.length_append
      refine j_aload_n dX1_takesFrom_5 rfl rfl ?_
      refine j_callF (J23_hasNext_m hw_.1 hL_ hI_ (by omega) (by omega)) dX1_takesFrom_6 mt_J23_hasNext q393 (by decide +kernel) rfl q433 q435 hI_ (by decide) rfl cd_J23_hasNext (Nat.le_of_ble_eq_true rfl) rfl rfl (Nat.le_of_ble_eq_true rfl) (jk_v ?_) jx_v
      refine j_ifeqB (tgt := 41) dX1_takesFrom_11 (by decide) (fun c11 => ?_) (fun c11 => ?_)
      · exact absurd c11 (by rw [decide_eq_true (show us.length < (us ++ v :: vs).length by omega)]; decide)
      · refine j_aload_n dX1_takesFrom_14 rfl rfl ?_
        refine j_callF (J23_next_m hw_.1 hL_ hI_ (by omega) (by omega)) dX1_takesFrom_15 mt_J23_next q439 (by decide +kernel) rfl q847 q849 hI_ (by decide) rfl cd_J23_next (Nat.le_of_ble_eq_true rfl) rfl rfl (Nat.le_of_ble_eq_true rfl) (jk_v ?_) jx_v
        rw [hlist_mid]
        obtain ⟨M2_, hM2_⟩ : ∃ X : j_M, X = j_put M_ it (.inr (17, [.ref (nd_ us.length), va_rf (lk nd_ (us ++ v :: vs).length (us.length + 1)), .int (nI (us.length + 1)), .int m_, .ref q])) := ⟨_, rfl⟩
        rw [← hM2_]
        have hv16_ : v < 16 := hv v List.mem_cons_self
        have hI2_ : M2_.1 it = some (.inr (17, [.ref (nd_ us.length), va_rf (lk nd_ (us ++ v :: vs).length (us.length + 1)), .int (nI (us.length + 1)), .int m_, .ref q])) := by rw [hM2_]; exact j_peq
        have hf2_ : jFr G (fun a => a = q ∨ ∃ i, i < xs.length ∧ a = nd i) M M2_ 1 5 := by rw [hM2_]; exact hf_.stepp hI_ (fun h => absurd h (by omega))
        have hw2_ : jWd G W M2_ := hWd.keep hf2_ (fun a ha h => by rcases h with rfl | ⟨i, hi, rfl⟩; (· omega); (· have := hnB i hi; omega))
        have hL2_ : LL M2_ q m_ nd_ (hlist (us ++ v :: vs) W.2) (us ++ v :: vs).length := by rw [hM2_]; exact ⟨j_pne (j_nek (M := M_) hL_.1 hI_ (Nat.ne_of_beq_eq_false rfl)) hL_.1, fun j hj => j_pne (j_nek (M := M_) (hL_.2.1 j hj) hI_ (Nat.ne_of_beq_eq_false rfl)) (hL_.2.1 j hj), hL_.2.2⟩
        refine j_chk dX1_takesFrom_20 (hw2_.int hG hv16_) (by decide) rfl q1011 (Or.inl rfl) ?_
        refine j_callV (J25_intValue_m hw2_.1 (hw2_.int hG hv16_)) dX1_takesFrom_23 mt_J25_intValue q1012 q1013 q1014 (hw2_.int hG hv16_) (by decide) rfl cd_J25_intValue (Nat.le_of_ble_eq_true rfl) rfl rfl (Nat.le_of_ble_eq_true rfl) (jk_v ?_) jx_v
        refine j_istore_n dX1_takesFrom_26 (by decide) rfl ?_
        refine j_iload_n dX1_takesFrom_27 rfl ?_
        refine j_iload_n dX1_takesFrom_28 rfl ?_
        refine j_icmp_ne (tgt := 38) dX1_takesFrom_29 (by decide) (fun c29 => ?_) (fun c29 => ?_)
        · refine j_goto (tgt := 5) dX1_takesFrom_38 (by decide) ?_
          have hvb_ : v ≠ b := fun e => c29 (by rw [e])
          refine j_locs (ls2 := [(0, .ref q), (1, .int (nI b)), (2, .ref it)]) ⟨rfl, rfl, rfl, trivial⟩ ?_
          refine ih (us ++ [v]) M2_ m_ nd_ (.ref (nd_ us.length)) ?_ (fun x hx => hv x (List.mem_cons_of_mem _ hx)) ?_ ?_ hw2_ hf2_ ?_ ?_
          · rw [List.append_assoc, List.singleton_append]; exact hle
          · rw [List.append_assoc, List.singleton_append]; exact hL2_
          · rw [List.append_assoc, List.singleton_append, List.length_append (as := us) (bs := [v])]; exact hI2_
          · rw [List.append_assoc, List.singleton_append]; exact hn_
          · rw [List.append_assoc, List.singleton_append, ← he_, List.filter_cons_of_pos (by simpa using hvb_)]
        · have hvb_ : v = b := (nI_eq (by omega) (by omega)).mp c29
          refine j_aload_n dX1_takesFrom_32 rfl rfl ?_
          refine j_callF (J23_remove_m hw2_.1 hL2_ hI2_ (by omega)) dX1_takesFrom_33 mt_J23_remove q1172 (by decide +kernel) rfl q1262 q1264 hI2_ (by decide) rfl cd_J23_remove (Nat.le_of_ble_eq_true rfl) rfl rfl (Nat.le_of_ble_eq_true rfl) (jk_r (fun v_ M3_ hp_ => ?_)) jx_r
          obtain ⟨rfl, hL3_, hI3_, hf3_⟩ := hp_
          show JW _ _ _ _ _ _ _ [] M3_
          refine j_goto (tgt := 5) dX1_takesFrom_38 (by decide) ?_
          have hf4_ : jFr G (fun a => a = q ∨ ∃ i, i < xs.length ∧ a = nd i) M M3_ 1 5 := hf2_.trans hf3_ (fun _ _ h => h) (fun a ha h => by rcases h with rfl | rfl | ⟨j, hj, rfl⟩; (· omega); (· exact Or.inl rfl); (· exact Or.inr (hn_ j hj))) (Nat.le_refl _) (Nat.le_refl _)
          have hw3_ : jWd G W M3_ := hWd.keep hf4_ (fun a ha h => by rcases h with rfl | ⟨i, hi, rfl⟩; (· omega); (· have := hnB i hi; omega))
          have hl1_ : (us ++ v :: vs).length - 1 = (us ++ vs).length := by omega
          rw [← lk_ldel, hl1_] at hI3_
          rw [hl1_] at hL3_
          refine j_locs (ls2 := [(0, .ref q), (1, .int (nI b)), (2, .ref it)]) ⟨rfl, rfl, rfl, trivial⟩ ?_
          refine ih us M3_ (m_ + 1) (ldel nd_ us.length) .null (by omega) (fun x hx => hv x (List.mem_cons_of_mem _ hx)) (hL3_.congr (fun j _ => hlist_del us vs v W.2 j)) hI3_ hw3_ hf4_ (fun j hj => ?_) ?_
          · unfold ldel; split
            · exact hn_ j (by omega)
            · exact hn_ (j + 1) (by omega)
          · rw [← he_, List.filter_cons_of_neg (by simpa using hvb_)]
  have hf1_ : jEx G M M1_ 1 5 := by rw [hM1_]; exact jFr.new hWd.1
  refine j_locs (ls2 := [(0, .ref q), (1, .int (nI b)), (2, .ref it)]) ⟨rfl, rfl, rfl, trivial⟩ ?_
  refine lp_ xs [] M1_ m nd .null hlen hxs ?_ ?_ (hWd.ex hf1_) (hf1_.mono (fun _ _ h => False.elim h) (Nat.le_refl _) (Nat.le_refl _)) (fun j hj => ⟨j, hj, rfl⟩) rfl
  · exact ⟨hf1_.cell hWd.1 hL.1, fun j hj => hf1_.cell hWd.1 (hL.2.1 j hj), hL.2.2⟩
  · rw [hM1_, hit]; exact j_neq

end K4
