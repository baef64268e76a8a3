/-! ===== a House whose line, or whose seniors, are others ===== -/
def hsL (H : HV) (m : Int32) (l : List Nat) : HV := (va_up H.1 1 m, H.2.1, hn H, l, hs H)
def AL (A nd : Nat → Nat) (i : Nat) : Nat := if 40 ≤ i ∧ i < 60 then nd (i - 40) else A i
section HLL
variable {G : j_G} {W : jWt} {M M' : j_M} {A : Nat → Nat} {H : HV}
theorem AL_in {A nd : Nat → Nat} {j : Nat} (hj : j < 20) : AL A nd (40 + j) = nd j := by
  unfold AL
  rw [if_pos (by omega), show 40 + j - 40 = j by omega]
theorem AL_out {A nd : Nat → Nat} {i : Nat} (hi : ¬ (40 ≤ i ∧ i < 60)) : AL A nd i = A i := if_neg hi
theorem HAt.listL (h : HAt G W M A H) {m : Int32} {nd : Nat → Nat} {l : List Nat} {N D : Nat} (hL : LL M' (A 3) m nd (hlist l W.2) l.length) (hl16 : l.length ≤ 16)
    (hf : jFr G (fun a => a = A 3 ∨ ∃ j, j < (hl H).length ∧ a = A (40 + j)) M M' N D) (hnd : ∀ j, j < l.length → (∃ i, i < (hl H).length ∧ nd j = A (40 + i)) ∨ M.2.1 ≤ nd j) :
    HAt G W M' (AL A nd) (hsL H m l) ∧ jFr G (hF A H) M M' N D ∧ ∀ a, hF (AL A nd) (hsL H m l) a → hF A H a ∨ M.2.1 ≤ a := by
  have hfH : jFr G (hF A H) M M' N D := hf.mono (fun a _ q => by
    rcases q with rfl | ⟨j, hj, rfl⟩
    · exact ⟨3, Or.inl (by decide), rfl⟩
    · exact ⟨40 + j, hdom_l hj, rfl⟩) (Nat.le_refl _) (Nat.le_refl _)
  have hB : ∀ j, j < l.length → jB G ≤ nd j := fun j hj => by
    rcases hnd j hj with ⟨i, hi, e⟩ | e
    · rw [e]; exact h.2.2.2.2 _ (hdom_l hi)
    · exact Nat.le_trans h.wf.1 e
  -- an index of the new house: a node, or an old index that is no node and not 3, or 3
  have hd : ∀ i, hdom (hsL H m l) i → ¬ (40 ≤ i ∧ i < 60) → hdom H i := fun i hi hno => by
    unfold hdom hn hl hs at hi ⊢
    rcases hi with c | c | c | c | c
    · exact Or.inl c
    · exact Or.inr (Or.inl c)
    · exact Or.inr (Or.inr (Or.inl c))
    · exact absurd ⟨c.1, by have : l.length ≤ 16 := hl16; have : i < 40 + l.length := c.2; omega⟩ hno
    · exact Or.inr (Or.inr (Or.inr (Or.inr c)))
  have h16 : hn H ≤ 16 ∧ (hl H).length ≤ 16 ∧ (hs H).length ≤ 16 := h.2.1
  have hnew : ∀ i, hdom (hsL H m l) i → (40 ≤ i ∧ i < 60) → ∃ j, j < l.length ∧ i = 40 + j := fun i hi c => by
    unfold hdom hn hl hs at hi
    unfold hn hl hs at h16
    have hi2 : i < 40 + l.length := by
      have h17 : hi = hi := rfl
      rcases hi with c2 | c2 | c2 | c2 | c2
      · omega
      · have : i < 7 + H.2.2.1 := c2.2; omega
      · have : i < 23 + H.2.2.1 := c2.2; omega
      · exact c2.2
      · omega
    exact ⟨i - 40, by omega, by omega⟩
  have hoff : ∀ i, hdom H i → i ≠ 3 → ¬ (40 ≤ i ∧ i < 60) → M'.1 (A i) = M.1 (A i) := fun i hi hq hn => by
    refine hf.2.2 _ (h.wf.2 _ _ (h.2.2.1 i hi)) (fun q => ?_)
    rcases q with e | ⟨j, hj, e⟩
    · exact hq (h.2.2.2.1 _ _ hi (Or.inl (by decide)) e)
    · have := h.2.2.2.1 _ _ hi (hdom_l hj) e
      have h4 : (hl H).length ≤ 16 := h16.2.1
      omega
  refine ⟨⟨h.1.keep hfH (fun a ha q => by have := h.hFB q; omega), ?_, fun i hi => ?_, fun i j hi hj e => ?_, fun i hi => ?_⟩, hfH, fun a ha => ?_⟩
  · exact ⟨h16.1, hl16, h16.2.2⟩
  · by_cases c : 40 ≤ i ∧ i < 60
    · obtain ⟨j, hj, rfl⟩ := hnew i hi c
      rw [AL_in (by omega), hL.2.1 j hj]
      have e1 : hcell (AL A nd) W.2 (hsL H m l) (40 + j) = lnode (fun j => AL A nd (40 + j)) (hlist l W.2) l.length j := hcell_l (by omega)
      rw [e1]
      unfold lnode
      have e2 : lk (fun j => AL A nd (40 + j)) l.length (j + 1) = lk nd l.length (j + 1) := by
        unfold lk
        by_cases q : j + 1 < l.length
        · rw [if_pos q, if_pos q]; exact congrArg some (AL_in (by omega))
        · rw [if_neg q, if_neg q]
      have e3 : lp (fun j => AL A nd (40 + j)) j = lp nd j := by
        unfold lp
        by_cases q : j = 0
        · rw [if_pos q, if_pos q]
        · rw [if_neg q, if_neg q]; exact congrArg some (AL_in (by omega))
      rw [e2, e3]
    · rw [AL_out c]
      by_cases hq : i = 3
      · subst hq
        rw [hL.1]
        have e1 : hcell (AL A nd) W.2 (hsL H m l) 3 = lhead (fun j => AL A nd (40 + j)) l.length ((hsL H m l).1 1) := rfl
        rw [e1, show (hsL H m l).1 1 = m from va_up_self H.1 1 m]
        unfold lhead
        have e2 : lk (fun j => AL A nd (40 + j)) l.length 0 = lk nd l.length 0 := by
          unfold lk
          by_cases q : 0 < l.length
          · rw [if_pos q, if_pos q]; exact congrArg some (AL_in (by omega))
          · rw [if_neg q, if_neg q]
        have e3 : lp (fun j => AL A nd (40 + j)) l.length = lp nd l.length := by
          unfold lp
          by_cases q : l.length = 0
          · rw [if_pos q, if_pos q]
          · rw [if_neg q, if_neg q]; exact congrArg some (AL_in (by omega))
        rw [e2, e3]
      · rw [hoff i (hd i hi c) hq c, h.2.2.1 i (hd i hi c)]
        congr 1
        have hx : ∀ k, k ≠ 1 → (hsL H m l).1 k = H.1 k := fun k hk => va_up_ne _ _ hk
        have hA : ∀ k, k < 40 → AL A nd k = A k := fun k hk => AL_out (by omega)
        have hdi := hd i hi c
        unfold hcell
        by_cases h0 : i = 0
        · rw [if_pos h0, if_pos h0]
          unfold hobj
          rw [hA 1 (by decide), hA 3 (by decide), hA 4 (by decide), hA 5 (by decide), hA 6 (by decide), hx 5 (by decide), hx 6 (by decide), hx 7 (by decide), hx 8 (by decide), hx 9 (by decide), hx 10 (by decide), hx 11 (by decide), hx 12 (by decide)]
        rw [if_neg h0, if_neg h0]
        by_cases h1 : i = 1
        · rw [if_pos h1, if_pos h1, hA 2 (by decide), hx 0 (by decide)]; rfl
        rw [if_neg h1, if_neg h1]
        by_cases h2 : i = 2
        · rw [if_pos h2, if_pos h2]
          congr 7
          funext k
          show (if k < hn H then some (A (7 + k)) else none) = (if k < hn H then some (AL A nd (7 + k)) else none)
          by_cases q : k < hn H
          · rw [if_pos q, if_pos q, hA (7 + k) (by have := h16.1; omega)]
          · rw [if_neg q, if_neg q]
        rw [if_neg h2, if_neg h2]
        rw [if_neg hq, if_neg hq]
        by_cases h4 : i = 4
        · rw [if_pos h4, if_pos h4, hx 2 (by decide)]
          show (lhead (fun j => A (60 + j)) (hs H).length (H.1 2) : va_E) = lhead (fun j => AL A nd (60 + j)) (hs H).length (H.1 2)
          rw [show (fun j => AL A nd (60 + j)) = (fun j => A (60 + j)) from funext fun j => AL_out (by omega)]
        rw [if_neg h4, if_neg h4]
        by_cases h5 : i = 5
        · rw [if_pos h5, if_pos h5]; rfl
        rw [if_neg h5, if_neg h5]
        by_cases h6 : i = 6
        · rw [if_pos h6, if_pos h6]; rfl
        rw [if_neg h6, if_neg h6]
        by_cases h7 : i < 23
        · rw [if_pos h7, if_pos h7]
          show (Sum.inr (3, bobj A H (i - 7)) : va_E) = Sum.inr (3, bobj (AL A nd) (hsL H m l) (i - 7))
          unfold bobj
          rw [hA (23 + (i - 7)) (by omega)]; rfl
        rw [if_neg h7, if_neg h7]
        by_cases h8 : i < 40
        · rw [if_pos h8, if_pos h8]; rfl
        rw [if_neg h8, if_neg h8]
        rw [if_neg (show ¬ i < 60 by omega), if_neg (show ¬ i < 60 by omega)]
        show (lnode (fun j => A (60 + j)) (hlist (hs H) W.2) (hs H).length (i - 60) : va_E) = lnode (fun j => AL A nd (60 + j)) (hlist (hs H) W.2) (hs H).length (i - 60)
        rw [show (fun j => AL A nd (60 + j)) = (fun j => A (60 + j)) from funext fun j => AL_out (by omega)]
  · by_cases c : 40 ≤ i ∧ i < 60
    · obtain ⟨x, hx, rfl⟩ := hnew i hi c
      by_cases c2 : 40 ≤ j ∧ j < 60
      · obtain ⟨y, hy, rfl⟩ := hnew j hj c2
        rw [AL_in (by omega), AL_in (by omega)] at e
        rw [hL.2.2 x y hx hy e]
      · rw [AL_in (by omega), AL_out c2] at e
        rcases hnd x hx with ⟨k, hk, e2⟩ | e2
        · rw [e2] at e
          have := h.2.2.2.1 _ _ (hdom_l hk) (hd j hj c2) e
          have h4 : (hl H).length ≤ 16 := h16.2.1
          omega
        · have := h.wf.2 _ _ (h.2.2.1 j (hd j hj c2))
          omega
    · by_cases c2 : 40 ≤ j ∧ j < 60
      · obtain ⟨y, hy, rfl⟩ := hnew j hj c2
        rw [AL_in (by omega), AL_out c] at e
        rcases hnd y hy with ⟨k, hk, e2⟩ | e2
        · rw [e2] at e
          have := h.2.2.2.1 _ _ (hd i hi c) (hdom_l hk) e
          have h4 : (hl H).length ≤ 16 := h16.2.1
          omega
        · have := h.wf.2 _ _ (h.2.2.1 i (hd i hi c))
          omega
      · rw [AL_out c, AL_out c2] at e
        exact h.2.2.2.1 i j (hd i hi c) (hd j hj c2) e
  · by_cases c : 40 ≤ i ∧ i < 60
    · obtain ⟨x, hx, rfl⟩ := hnew i hi c
      rw [AL_in (by omega)]; exact hB x hx
    · rw [AL_out c]; exact h.2.2.2.2 i (hd i hi c)
  · obtain ⟨i, hi, rfl⟩ := ha
    by_cases c : 40 ≤ i ∧ i < 60
    · obtain ⟨x, hx, rfl⟩ := hnew i hi c
      rw [AL_in (by omega)]
      rcases hnd x hx with ⟨k, hk, e2⟩ | e2
      · exact Or.inl ⟨40 + k, hdom_l hk, e2⟩
      · exact Or.inr e2
    · rw [AL_out c]; exact Or.inl ⟨i, hd i hi c, rfl⟩
end HLL

def hsS (H : HV) (m : Int32) (l : List Nat) : HV := (va_up H.1 2 m, H.2.1, hn H, hl H, l)
def AS (A nd : Nat → Nat) (i : Nat) : Nat := if 60 ≤ i ∧ i < 80 then nd (i - 60) else A i
section HLS
variable {G : j_G} {W : jWt} {M M' : j_M} {A : Nat → Nat} {H : HV}
theorem AS_in {A nd : Nat → Nat} {j : Nat} (hj : j < 20) : AS A nd (60 + j) = nd j := by
  unfold AS
  rw [if_pos (by omega), show 60 + j - 60 = j by omega]
theorem AS_out {A nd : Nat → Nat} {i : Nat} (hi : ¬ (60 ≤ i ∧ i < 80)) : AS A nd i = A i := if_neg hi
theorem HAt.listS (h : HAt G W M A H) {m : Int32} {nd : Nat → Nat} {l : List Nat} {N D : Nat} (hL : LL M' (A 4) m nd (hlist l W.2) l.length) (hl16 : l.length ≤ 16)
    (hf : jFr G (fun a => a = A 4 ∨ ∃ j, j < (hs H).length ∧ a = A (60 + j)) M M' N D) (hnd : ∀ j, j < l.length → (∃ i, i < (hs H).length ∧ nd j = A (60 + i)) ∨ M.2.1 ≤ nd j) :
    HAt G W M' (AS A nd) (hsS H m l) ∧ jFr G (hF A H) M M' N D ∧ ∀ a, hF (AS A nd) (hsS H m l) a → hF A H a ∨ M.2.1 ≤ a := by
  have hfH : jFr G (hF A H) M M' N D := hf.mono (fun a _ q => by
    rcases q with rfl | ⟨j, hj, rfl⟩
    · exact ⟨4, Or.inl (by decide), rfl⟩
    · exact ⟨60 + j, hdom_s hj, rfl⟩) (Nat.le_refl _) (Nat.le_refl _)
  have hB : ∀ j, j < l.length → jB G ≤ nd j := fun j hj => by
    rcases hnd j hj with ⟨i, hi, e⟩ | e
    · rw [e]; exact h.2.2.2.2 _ (hdom_s hi)
    · exact Nat.le_trans h.wf.1 e
  -- an index of the new house: a node, or an old index that is no node and not 4, or 4
  have hd : ∀ i, hdom (hsS H m l) i → ¬ (60 ≤ i ∧ i < 80) → hdom H i := fun i hi hno => by
    unfold hdom hn hl hs at hi ⊢
    rcases hi with c | c | c | c | c
    · exact Or.inl c
    · exact Or.inr (Or.inl c)
    · exact Or.inr (Or.inr (Or.inl c))
    · exact Or.inr (Or.inr (Or.inr (Or.inl c)))
    · exact absurd ⟨c.1, by have : l.length ≤ 16 := hl16; have : i < 60 + l.length := c.2; omega⟩ hno
  have h16 : hn H ≤ 16 ∧ (hl H).length ≤ 16 ∧ (hs H).length ≤ 16 := h.2.1
  have hnew : ∀ i, hdom (hsS H m l) i → (60 ≤ i ∧ i < 80) → ∃ j, j < l.length ∧ i = 60 + j := fun i hi c => by
    unfold hdom hn hl hs at hi
    unfold hn hl hs at h16
    have hi2 : i < 60 + l.length := by
      rcases hi with c2 | c2 | c2 | c2 | c2
      · omega
      · have : i < 7 + H.2.2.1 := c2.2; omega
      · have : i < 23 + H.2.2.1 := c2.2; omega
      · have : i < 40 + H.2.2.2.1.length := c2.2; omega
      · exact c2.2
    exact ⟨i - 60, by omega, by omega⟩
  have hoff : ∀ i, hdom H i → i ≠ 4 → ¬ (60 ≤ i ∧ i < 80) → M'.1 (A i) = M.1 (A i) := fun i hi hq hn => by
    refine hf.2.2 _ (h.wf.2 _ _ (h.2.2.1 i hi)) (fun q => ?_)
    rcases q with e | ⟨j, hj, e⟩
    · exact hq (h.2.2.2.1 _ _ hi (Or.inl (by decide)) e)
    · have := h.2.2.2.1 _ _ hi (hdom_s hj) e
      have h4 : (hs H).length ≤ 16 := h16.2.2
      omega
  refine ⟨⟨h.1.keep hfH (fun a ha q => by have := h.hFB q; omega), ?_, fun i hi => ?_, fun i j hi hj e => ?_, fun i hi => ?_⟩, hfH, fun a ha => ?_⟩
  · exact ⟨h16.1, h16.2.1, hl16⟩
  · by_cases c : 60 ≤ i ∧ i < 80
    · obtain ⟨j, hj, rfl⟩ := hnew i hi c
      rw [AS_in (by omega), hL.2.1 j hj]
      have e1 : hcell (AS A nd) W.2 (hsS H m l) (60 + j) = lnode (fun j => AS A nd (60 + j)) (hlist l W.2) l.length j := hcell_s
      rw [e1]
      unfold lnode
      have e2 : lk (fun j => AS A nd (60 + j)) l.length (j + 1) = lk nd l.length (j + 1) := by
        unfold lk
        by_cases q : j + 1 < l.length
        · rw [if_pos q, if_pos q]; exact congrArg some (AS_in (by omega))
        · rw [if_neg q, if_neg q]
      have e3 : lp (fun j => AS A nd (60 + j)) j = lp nd j := by
        unfold lp
        by_cases q : j = 0
        · rw [if_pos q, if_pos q]
        · rw [if_neg q, if_neg q]; exact congrArg some (AS_in (by omega))
      rw [e2, e3]
    · rw [AS_out c]
      by_cases hq : i = 4
      · subst hq
        rw [hL.1]
        have e1 : hcell (AS A nd) W.2 (hsS H m l) 4 = lhead (fun j => AS A nd (60 + j)) l.length ((hsS H m l).1 2) := rfl
        rw [e1, show (hsS H m l).1 2 = m from va_up_self H.1 2 m]
        unfold lhead
        have e2 : lk (fun j => AS A nd (60 + j)) l.length 0 = lk nd l.length 0 := by
          unfold lk
          by_cases q : 0 < l.length
          · rw [if_pos q, if_pos q]; exact congrArg some (AS_in (by omega))
          · rw [if_neg q, if_neg q]
        have e3 : lp (fun j => AS A nd (60 + j)) l.length = lp nd l.length := by
          unfold lp
          by_cases q : l.length = 0
          · rw [if_pos q, if_pos q]
          · rw [if_neg q, if_neg q]; exact congrArg some (AS_in (by omega))
        rw [e2, e3]
      · rw [hoff i (hd i hi c) hq c, h.2.2.1 i (hd i hi c)]
        congr 1
        have hx : ∀ k, k ≠ 2 → (hsS H m l).1 k = H.1 k := fun k hk => va_up_ne _ _ hk
        have hA : ∀ k, k < 40 → AS A nd k = A k := fun k hk => AS_out (by omega)
        have hdi := hd i hi c
        unfold hcell
        by_cases h0 : i = 0
        · rw [if_pos h0, if_pos h0]
          unfold hobj
          rw [hA 1 (by decide), hA 3 (by decide), hA 4 (by decide), hA 5 (by decide), hA 6 (by decide), hx 5 (by decide), hx 6 (by decide), hx 7 (by decide), hx 8 (by decide), hx 9 (by decide), hx 10 (by decide), hx 11 (by decide), hx 12 (by decide)]
        rw [if_neg h0, if_neg h0]
        by_cases h1 : i = 1
        · rw [if_pos h1, if_pos h1, hA 2 (by decide), hx 0 (by decide)]; rfl
        rw [if_neg h1, if_neg h1]
        by_cases h2 : i = 2
        · rw [if_pos h2, if_pos h2]
          congr 7
          funext k
          show (if k < hn H then some (A (7 + k)) else none) = (if k < hn H then some (AS A nd (7 + k)) else none)
          by_cases q : k < hn H
          · rw [if_pos q, if_pos q, hA (7 + k) (by have := h16.1; omega)]
          · rw [if_neg q, if_neg q]
        rw [if_neg h2, if_neg h2]
        by_cases h3 : i = 3
        · rw [if_pos h3, if_pos h3, hx 1 (by decide)]
          show (lhead (fun j => A (40 + j)) (hl H).length (H.1 1) : va_E) = lhead (fun j => AS A nd (40 + j)) (hl H).length (H.1 1)
          have h15 := h16.2.1
          unfold lhead
          have e2 : lk (fun j => AS A nd (40 + j)) (hl H).length 0 = lk (fun j => A (40 + j)) (hl H).length 0 := by
            unfold lk
            by_cases q : 0 < (hl H).length
            · rw [if_pos q, if_pos q]; exact congrArg some (AS_out (by omega))
            · rw [if_neg q, if_neg q]
          have e3 : lp (fun j => AS A nd (40 + j)) (hl H).length = lp (fun j => A (40 + j)) (hl H).length := by
            unfold lp
            by_cases q : (hl H).length = 0
            · rw [if_pos q, if_pos q]
            · rw [if_neg q, if_neg q]; exact congrArg some (AS_out (by omega))
          rw [e2, e3]
        rw [if_neg h3, if_neg h3, if_neg hq, if_neg hq]
        by_cases h5 : i = 5
        · rw [if_pos h5, if_pos h5]; rfl
        rw [if_neg h5, if_neg h5]
        by_cases h6 : i = 6
        · rw [if_pos h6, if_pos h6]; rfl
        rw [if_neg h6, if_neg h6]
        by_cases h7 : i < 23
        · rw [if_pos h7, if_pos h7]
          show (Sum.inr (3, bobj A H (i - 7)) : va_E) = Sum.inr (3, bobj (AS A nd) (hsS H m l) (i - 7))
          unfold bobj
          rw [hA (23 + (i - 7)) (by omega)]; rfl
        rw [if_neg h7, if_neg h7]
        by_cases h8 : i < 40
        · rw [if_pos h8, if_pos h8]; rfl
        rw [if_neg h8, if_neg h8]
        rw [if_pos (show i < 60 by unfold hdom at hdi; omega), if_pos (show i < 60 by unfold hdom at hdi; omega)]
        show (lnode (fun j => A (40 + j)) (hlist (hl H) W.2) (hl H).length (i - 40) : va_E) = lnode (fun j => AS A nd (40 + j)) (hlist (hl H) W.2) (hl H).length (i - 40)
        have h15 := h16.2.1
        have hi4 : i - 40 < (hl H).length := by
          unfold hdom at hdi
          omega
        unfold lnode
        have e2 : lk (fun j => AS A nd (40 + j)) (hl H).length (i - 40 + 1) = lk (fun j => A (40 + j)) (hl H).length (i - 40 + 1) := by
          unfold lk
          by_cases q : i - 40 + 1 < (hl H).length
          · rw [if_pos q, if_pos q]; exact congrArg some (AS_out (by omega))
          · rw [if_neg q, if_neg q]
        have e3 : lp (fun j => AS A nd (40 + j)) (i - 40) = lp (fun j => A (40 + j)) (i - 40) := by
          unfold lp
          by_cases q : i - 40 = 0
          · rw [if_pos q, if_pos q]
          · rw [if_neg q, if_neg q]; exact congrArg some (AS_out (by omega))
        rw [e2, e3]
  · by_cases c : 60 ≤ i ∧ i < 80
    · obtain ⟨x, hx, rfl⟩ := hnew i hi c
      by_cases c2 : 60 ≤ j ∧ j < 80
      · obtain ⟨y, hy, rfl⟩ := hnew j hj c2
        rw [AS_in (by omega), AS_in (by omega)] at e
        rw [hL.2.2 x y hx hy e]
      · rw [AS_in (by omega), AS_out c2] at e
        rcases hnd x hx with ⟨k, hk, e2⟩ | e2
        · rw [e2] at e
          have := h.2.2.2.1 _ _ (hdom_s hk) (hd j hj c2) e
          have h4 : (hs H).length ≤ 16 := h16.2.2
          omega
        · have := h.wf.2 _ _ (h.2.2.1 j (hd j hj c2))
          omega
    · by_cases c2 : 60 ≤ j ∧ j < 80
      · obtain ⟨y, hy, rfl⟩ := hnew j hj c2
        rw [AS_in (by omega), AS_out c] at e
        rcases hnd y hy with ⟨k, hk, e2⟩ | e2
        · rw [e2] at e
          have := h.2.2.2.1 _ _ (hd i hi c) (hdom_s hk) e
          have h4 : (hs H).length ≤ 16 := h16.2.2
          omega
        · have := h.wf.2 _ _ (h.2.2.1 i (hd i hi c))
          omega
      · rw [AS_out c, AS_out c2] at e
        exact h.2.2.2.1 i j (hd i hi c) (hd j hj c2) e
  · by_cases c : 60 ≤ i ∧ i < 80
    · obtain ⟨x, hx, rfl⟩ := hnew i hi c
      rw [AS_in (by omega)]; exact hB x hx
    · rw [AS_out c]; exact h.2.2.2.2 i (hd i hi c)
  · obtain ⟨i, hi, rfl⟩ := ha
    by_cases c : 60 ≤ i ∧ i < 80
    · obtain ⟨x, hx, rfl⟩ := hnew i hi c
      rw [AS_in (by omega)]
      rcases hnd x hx with ⟨k, hk, e2⟩ | e2
      · exact Or.inl ⟨60 + k, hdom_s hk, e2⟩
      · exact Or.inr e2
    · rw [AS_out c]; exact Or.inl ⟨i, hd i hi c, rfl⟩
end HLS

theorem LL.congr {M : j_M} {q len : Nat} {m : Int32} {nd it it' : Nat → Nat} (h : LL M q m nd it len) (e : ∀ j, j < len → it' j = it j) : LL M q m nd it' len :=
  ⟨h.1, fun j hj => by rw [h.2.1 j hj]; unfold lnode; rw [e j hj], h.2.2⟩
theorem hlist_mid (us vs : List Nat) (v : Nat) (ic : Nat → Nat) : hlist (us ++ v :: vs) ic us.length = ic v := by
  unfold hlist
  rw [List.getD_eq_getElem?_getD, List.getElem?_append_right (Nat.le_refl _)]
  simp
theorem hlist_del (us vs : List Nat) (v : Nat) (ic : Nat → Nat) (j : Nat) : hlist (us ++ vs) ic j = ldel (hlist (us ++ v :: vs) ic) us.length j := by
  unfold ldel hlist
  by_cases h : j < us.length
  · rw [if_pos h, List.getD_eq_getElem?_getD, List.getD_eq_getElem?_getD, List.getElem?_append_left h, List.getElem?_append_left h]
  · rw [if_neg h, List.getD_eq_getElem?_getD, List.getD_eq_getElem?_getD, List.getElem?_append_right (by omega), List.getElem?_append_right (by omega), show j + 1 - us.length = (j - us.length) + 1 by omega, List.getElem?_cons_succ]
