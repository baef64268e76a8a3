/-! ===== takesFrom, addLast on the lists of a House ===== -/
section HTk
variable {l : Launch} {G : j_G} {W : jWt} {M : j_M} {A : Nat → Nat} {H : HV}
abbrev hWo (b : Nat) (xs : List Nat) : List Nat := xs.filter (fun x => x != b)
/-- what a change of a list leaves: the house with it, at addresses that differ in its nodes alone -/
def hTo (G : j_G) (W : jWt) (M : j_M) (A : Nat → Nat) (H : HV) (N D : Nat) (H2 : Int32 → HV) (M' : j_M) : Prop :=
  ∃ A2 m2, HAt G W M' A2 (H2 m2) ∧ (∀ i, i < 40 → A2 i = A i) ∧ jFr G (hF A H) M M' N D ∧ ∀ a, hF A2 (H2 m2) a → hF A H a ∨ M.2.1 ≤ a
theorem HAt.takesL (h : HAt G W M A H) (hG : jGd G W) (h16 : ∀ x, x ∈ hl H → x < 16) {b : Nat} (hb : b < 16) : JM l G 6 yX1_takesFrom wX1_takesFrom [.ref (A 3), .int (nI b)] M (jr (fun v M' => v = none ∧ hTo G W M A H 1 5 (fun m => hsL H m (hWo b (hl H))) M')) := by
  refine (X1_takesFrom_m (l := l) h.1 hG h.line h16 h.2.1.2.1 (h.2.2.2.2 3 (Or.inl (by decide))) (fun j hj => h.2.2.2.2 _ (hdom_l hj)) hb).imp ?_
  rintro r ⟨v, M', rfl, rfl, m2, nd2, hL, hnd, hf⟩
  have h2 := h.listL (m := m2) (nd := nd2) (l := hWo b (hl H)) hL (Nat.le_trans (List.length_filter_le _ _) h.2.1.2.1) hf (fun j hj => Or.inl (hnd j hj))
  exact ⟨none, M', rfl, rfl, AL A nd2, m2, h2.1, fun i hi => AL_out (by omega), h2.2.1, h2.2.2⟩
theorem HAt.takesS (h : HAt G W M A H) (hG : jGd G W) (h16 : ∀ x, x ∈ hs H → x < 16) {b : Nat} (hb : b < 16) : JM l G 6 yX1_takesFrom wX1_takesFrom [.ref (A 4), .int (nI b)] M (jr (fun v M' => v = none ∧ hTo G W M A H 1 5 (fun m => hsS H m (hWo b (hs H))) M')) := by
  refine (X1_takesFrom_m (l := l) h.1 hG h.sen h16 h.2.1.2.2 (h.2.2.2.2 4 (Or.inl (by decide))) (fun j hj => h.2.2.2.2 _ (hdom_s hj)) hb).imp ?_
  rintro r ⟨v, M', rfl, rfl, m2, nd2, hL, hnd, hf⟩
  have h2 := h.listS (m := m2) (nd := nd2) (l := hWo b (hs H)) hL (Nat.le_trans (List.length_filter_le _ _) h.2.1.2.2) hf (fun j hj => Or.inl (hnd j hj))
  exact ⟨none, M', rfl, rfl, AS A nd2, m2, h2.1, fun i hi => AS_out (by omega), h2.2.1, h2.2.2⟩
theorem hlist_snoc (xs : List Nat) (v : Nat) (ic : Nat → Nat) (j : Nat) (hj : j < (xs ++ [v]).length) : hlist (xs ++ [v]) ic j = va_up (hlist xs ic) xs.length (ic v) j := by
  have hl1 : (xs ++ [v]).length = xs.length + 1 := by rw [List.length_append]; rfl
  by_cases h : j = xs.length
  · subst h; rw [va_up_self]; exact hlist_mid xs [] v ic
  · rw [va_up_ne _ _ h]
    unfold hlist
    rw [List.getD_eq_getElem?_getD, List.getD_eq_getElem?_getD, List.getElem?_append_left (by omega)]
theorem HAt.addsL (h : HAt G W M A H) {v : Nat} (hlen : (hl H).length < 16) : JM l G 3 yJ4_addLast wJ4_addLast [.ref (A 3), .ref (W.2 v)] M (jr (fun x M' => x = none ∧ hTo G W M A H 1 3 (fun m => hsL H m (hl H ++ [v])) M')) := by
  refine (J4_addLast_m (l := l) (e := W.2 v) h.wf h.line).imp ?_
  rintro r ⟨x, M', rfl, rfl, hL, hf⟩
  have hl1 : (hl H ++ [v]).length = (hl H).length + 1 := by rw [List.length_append]; rfl
  have hL2 : LL M' (A 3) (H.1 1 + 1) (va_up (fun j => A (40 + j)) (hl H).length M.2.1) (hlist (hl H ++ [v]) W.2) (hl H ++ [v]).length := by
    rw [hl1]
    exact hL.congr (fun j hj => hlist_snoc _ _ _ _ (by omega))
  have h2 := h.listL hL2 (by omega) hf (fun j hj => by
    by_cases q : j = (hl H).length
    · subst q; rw [va_up_self]; exact Or.inr (Nat.le_refl _)
    · rw [va_up_ne _ _ q]; exact Or.inl ⟨j, by omega, rfl⟩)
  exact ⟨none, M', rfl, rfl, _, _, h2.1, fun i hi => AL_out (by omega), h2.2.1, h2.2.2⟩
theorem HAt.addsS (h : HAt G W M A H) {v : Nat} (hlen : (hs H).length < 16) : JM l G 3 yJ4_addLast wJ4_addLast [.ref (A 4), .ref (W.2 v)] M (jr (fun x M' => x = none ∧ hTo G W M A H 1 3 (fun m => hsS H m (hs H ++ [v])) M')) := by
  refine (J4_addLast_m (l := l) (e := W.2 v) h.wf h.sen).imp ?_
  rintro r ⟨x, M', rfl, rfl, hL, hf⟩
  have hl1 : (hs H ++ [v]).length = (hs H).length + 1 := by rw [List.length_append]; rfl
  have hL2 : LL M' (A 4) (H.1 2 + 1) (va_up (fun j => A (60 + j)) (hs H).length M.2.1) (hlist (hs H ++ [v]) W.2) (hs H ++ [v]).length := by
    rw [hl1]
    exact hL.congr (fun j hj => hlist_snoc _ _ _ _ (by omega))
  have h2 := h.listS hL2 (by omega) hf (fun j hj => by
    by_cases q : j = (hs H).length
    · subst q; rw [va_up_self]; exact Or.inr (Nat.le_refl _)
    · rw [va_up_ne _ _ q]; exact Or.inl ⟨j, by omega, rfl⟩)
  exact ⟨none, M', rfl, rfl, _, _, h2.1, fun i hi => AS_out (by omega), h2.2.1, h2.2.2⟩
end HTk
theorem hb_a {H : HV} {j b k : Nat} {f : Nat → Int32} (h : j ≠ 2 + b) : hb (hsa H j f) b k = hb H b k := by
  show va_up H.2.1 j f (2 + b) k = _
  rw [va_up_ne _ _ (by omega)]
def hGoF (f : Nat → Int32) (how : Int32) : Nat → Int32 := va_up (va_up (va_up (va_up (va_up f 3 how) 4 (-15)) 8 (-15)) 6 0) 5 0
def hGoes (H : HV) (b c : Nat) (how m : Int32) : HV := hsa (hsS (hsa H 0 (va_up (H.2.1 0) c (-15))) m (hWo b (hs H))) (2 + b) (hGoF ((hsS (hsa H 0 (va_up (H.2.1 0) c (-15))) m (hWo b (hs H))).2.1 (2 + b)) how)
