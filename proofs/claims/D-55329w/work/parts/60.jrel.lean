/-! ===== memories one after the other: what is new, what is kept ===== -/
def jFr (G : j_G) (F : Nat → Prop) (M M' : j_M) (N D : Nat) : Prop := j_wf G M' ∧ (M.2.1 ≤ M'.2.1 ∧ M'.2.1 ≤ M.2.1 + N ∧ M.2.2 ≤ M'.2.2 ∧ M'.2.2 ≤ M.2.2 + D) ∧ ∀ a, a < M.2.1 → ¬ F a → M'.1 a = M.1 a
abbrev jNo : Nat → Prop := fun _ => False
abbrev jEx (G : j_G) (M M' : j_M) (N D : Nat) : Prop := jFr G jNo M M' N D
theorem jFr.refl {G : j_G} {F : Nat → Prop} {M : j_M} (hW : j_wf G M) {N D : Nat} : jFr G F M M N D := ⟨hW, ⟨Nat.le_refl _, Nat.le_add_right _ _, Nat.le_refl _, Nat.le_add_right _ _⟩, fun _ _ _ => rfl⟩
theorem jFr.trans {G : j_G} {F1 F2 F : Nat → Prop} {M M1 M2 : j_M} {N1 D1 N2 D2 N D : Nat} (h1 : jFr G F1 M M1 N1 D1) (h2 : jFr G F2 M1 M2 N2 D2) (f1 : ∀ a, a < M.2.1 → F1 a → F a) (f2 : ∀ a, a < M.2.1 → F2 a → F a) (hN : N1 + N2 ≤ N) (hD : D1 + D2 ≤ D) : jFr G F M M2 N D := by
  obtain ⟨w1, ⟨a1, b1, c1, d1⟩, e1⟩ := h1
  obtain ⟨w2, ⟨a2, b2, c2, d2⟩, e2⟩ := h2
  refine ⟨w2, ⟨by omega, by omega, by omega, by omega⟩, fun a ha hf => ?_⟩
  rw [e2 a (by omega) (fun q => hf (f2 a ha q)), e1 a ha (fun q => hf (f1 a ha q))]
theorem jFr.mono {G : j_G} {F F' : Nat → Prop} {M M' : j_M} {N D N' D' : Nat} (h : jFr G F M M' N D) (f : ∀ a, a < M.2.1 → F a → F' a) (hN : N ≤ N') (hD : D ≤ D') : jFr G F' M M' N' D' := by
  obtain ⟨w1, ⟨a1, b1, c1, d1⟩, e1⟩ := h
  exact ⟨w1, ⟨by omega, by omega, by omega, by omega⟩, fun a ha hf => e1 a ha (fun q => hf (f a ha q))⟩
theorem jFr.wf {G : j_G} {F : Nat → Prop} {M M' : j_M} {N D : Nat} (h : jFr G F M M' N D) : j_wf G M' := h.1
theorem jFr.put {G : j_G} {F : Nat → Prop} {M : j_M} {a : Nat} {e e0 : va_E} (hW : j_wf G M) (h : M.1 a = some e0) (hf : F a) {N D : Nat} : jFr G F M (j_put M a e) N D :=
  ⟨hW.put h, ⟨Nat.le_refl _, Nat.le_add_right _ _, Nat.le_refl _, Nat.le_add_right _ _⟩, fun b _ hb => va_up_ne _ _ (fun q => hb (q ▸ hf))⟩
theorem jFr.new {G : j_G} {F : Nat → Prop} {M : j_M} {e : va_E} {n : Nat} (hW : j_wf G M) : jFr G F M (j_new M e n) 1 n :=
  ⟨hW.new, ⟨Nat.le_succ _, Nat.le_refl _, Nat.le_add_right _ _, Nat.le_refl _⟩, fun _ hb _ => va_up_ne _ _ (Nat.ne_of_lt hb)⟩
/-- a cell that is kept -/
theorem jFr.cell {G : j_G} {F : Nat → Prop} {M M' : j_M} {N D : Nat} (h : jFr G F M M' N D) (hW : j_wf G M) {a : Nat} {e : va_E} (ha : M.1 a = some e) (hf : ¬ F a) : M'.1 a = some e := (h.2.2 a (hW.2 a e ha) hf).trans ha
theorem jEx.cell {G : j_G} {M M' : j_M} {N D : Nat} (h : jEx G M M' N D) (hW : j_wf G M) {a : Nat} {e : va_E} (ha : M.1 a = some e) : M'.1 a = some e := jFr.cell h hW ha (fun q => q)
theorem j_newput {M : j_M} {e e' : va_E} {n : Nat} : j_put (j_new M e n) M.2.1 e' = j_new M e' n := by
  unfold j_put j_new
  refine Prod.ext (funext fun a => ?_) rfl
  by_cases h : a = M.2.1
  · subst h; simp [va_up]
  · simp [va_up, h]
theorem j_putc {M : j_M} {a b : Nat} {x y : va_E} (h : a ≠ b) : j_put (j_put M a x) b y = j_put (j_put M b y) a x := by
  unfold j_put
  refine Prod.ext (funext fun i => ?_) rfl
  by_cases h1 : i = a
  · subst h1; simp [va_up, h]
  · by_cases h2 : i = b <;> simp [va_up, h1, h2, Ne.symm h]
/-! lists of nodes -/
def lk (nd : Nat → Nat) (len j : Nat) : Option Nat := if j < len then some (nd j) else none
def lp (nd : Nat → Nat) (j : Nat) : Option Nat := if j = 0 then none else some (nd (j - 1))
theorem lk_in {nd : Nat → Nat} {len j : Nat} (h : j < len) : lk nd len j = some (nd j) := if_pos h
theorem lk_out {nd : Nat → Nat} {len j : Nat} (h : len ≤ j) : lk nd len j = none := if_neg (Nat.not_lt.mpr h)
theorem lp_0 {nd : Nat → Nat} : lp nd 0 = none := rfl
theorem lp_s {nd : Nat → Nat} {j : Nat} : lp nd (j + 1) = some (nd j) := rfl
abbrev lnode (nd it : Nat → Nat) (len j : Nat) : va_E := .inr (19, [.ref (it j), va_rf (lk nd len (j + 1)), va_rf (lp nd j)])
abbrev lhead (nd : Nat → Nat) (len : Nat) (m : Int32) : va_E := .inr (12, [.int m, .int (nI len), va_rf (lk nd len 0), va_rf (lp nd len)])
def LL (M : j_M) (q : Nat) (m : Int32) (nd it : Nat → Nat) (len : Nat) : Prop := M.1 q = some (lhead nd len m) ∧ (∀ j, j < len → M.1 (nd j) = some (lnode nd it len j)) ∧ ∀ i j, i < len → j < len → nd i = nd j → i = j
theorem shr1 : ∀ n, n < 200 → nI n >>> (1 &&& 31) = nI (n / 2) := by decide +kernel
theorem jFr.stepp {G : j_G} {F : Nat → Prop} {M M1 : j_M} {N D : Nat} {a : Nat} {e e0 : va_E} (h : jFr G F M M1 N D) (h0 : M1.1 a = some e0) (hf : a < M.2.1 → F a) : jFr G F M (j_put M1 a e) N D := by
  obtain ⟨w1, b1, e1⟩ := h
  refine ⟨w1.put h0, b1, fun b hb hn => ?_⟩
  rw [show (j_put M1 a e).1 b = M1.1 b from va_up_ne _ _ (fun q => hn (by subst q; exact hf hb))]
  exact e1 b hb hn
theorem jFr.stepn {G : j_G} {F : Nat → Prop} {M M1 : j_M} {N D n : Nat} {e : va_E} (h : jFr G F M M1 N D) : jFr G F M (j_new M1 e n) (N + 1) (D + n) := by
  obtain ⟨w1, ⟨a1, b1, c1, d1⟩, e1⟩ := h
  refine ⟨w1.new, ⟨Nat.le_trans a1 (Nat.le_succ _), by show M1.2.1 + 1 ≤ _; omega, by show M.2.2 ≤ M1.2.2 + n; omega, by show M1.2.2 + n ≤ _; omega⟩, fun b hb hn => ?_⟩
  rw [show (j_new M1 e n).1 b = M1.1 b from va_up_ne _ _ (by omega)]
  exact e1 b hb hn
theorem rf_in {nd : Nat → Nat} {len j : Nat} (h : j < len) : va_rf (lk nd len j) = .ref (nd j) := by rw [lk_in h]; rfl
theorem rf_out {nd : Nat → Nat} {len j : Nat} (h : len ≤ j) : va_rf (lk nd len j) = .null := by rw [lk_out h]; rfl
theorem rp_p {nd : Nat → Nat} {j : Nat} (h : 0 < j) : va_rf (lp nd j) = .ref (nd (j - 1)) := by
  unfold lp
  rw [if_neg (by omega)]; rfl
theorem rp_0 {nd : Nat → Nat} : va_rf (lp nd 0) = .null := rfl
def ldel (f : Nat → Nat) (i j : Nat) : Nat := if j < i then f j else f (j + 1)
theorem lk_del {nd : Nat → Nat} {len i j : Nat} (hj : j < i) : lk (ldel nd i) (len - 1) j = if j < len - 1 then some (nd j) else none := by
  unfold lk ldel
  rw [if_pos hj]
theorem LL.rem {M M' : j_M} {q i len : Nat} {m : Int32} {nd it : Nat → Nat} (hL : LL M q m nd it len) (hi : i < len)
    (hq : M'.1 q = some (.inr (12, [.int (m + 1), .int (nI (len - 1)), va_rf (if i = 0 then lk nd len 1 else lk nd len 0), va_rf (if i + 1 = len then lp nd i else lp nd len)])))
    (hp : 0 < i → M'.1 (nd (i - 1)) = some (.inr (19, [.ref (it (i - 1)), va_rf (lk nd len (i + 1)), va_rf (lp nd (i - 1))])))
    (hn : i + 1 < len → M'.1 (nd (i + 1)) = some (.inr (19, [.ref (it (i + 1)), va_rf (lk nd len (i + 2)), va_rf (lp nd i)])))
    (hfr : ∀ j, j < len → j ≠ i → j + 1 ≠ i → j ≠ i + 1 → M'.1 (nd j) = M.1 (nd j)) : LL M' q (m + 1) (ldel nd i) (ldel it i) (len - 1) := by
  refine ⟨?_, fun j hj => ?_, fun a b ha hb hab => ?_⟩
  · rw [hq]
    have e1 : (if i = 0 then lk nd len 1 else lk nd len 0) = lk (ldel nd i) (len - 1) 0 := by
      unfold lk ldel
      by_cases h : i = 0
      · subst h
        by_cases h2 : 1 < len
        · simp [h2, show 0 < len - 1 by omega]
        · simp [h2, show ¬ 0 < len - 1 by omega]
      · simp [h, show 0 < len by omega, show 0 < len - 1 by omega, show 0 < i by omega]
    have e2 : (if i + 1 = len then lp nd i else lp nd len) = lp (ldel nd i) (len - 1) := by
      unfold lp ldel
      by_cases h : i + 1 = len
      · by_cases h2 : i = 0
        · subst h2; simp [h, show len - 1 = 0 by omega]
        · simp only [if_pos h, if_neg h2, if_neg (show ¬ len - 1 = 0 by omega)]
          rw [if_pos (by omega)]
          rw [show len - 1 - 1 = i - 1 by omega]
      · simp only [if_neg h, if_neg (show ¬ len = 0 by omega), if_neg (show ¬ len - 1 = 0 by omega)]
        rw [if_neg (by omega), show len - 1 - 1 + 1 = len - 1 by omega]
    rw [e1, e2]
  · by_cases h1 : j + 1 = i
    · have e := hp (by omega)
      rw [show i - 1 = j by omega] at e
      have e3 : ldel nd i j = nd j := if_pos (by omega)
      rw [e3, e]
      have e4 : ldel it i j = it j := if_pos (by omega)
      have e5 : lk (ldel nd i) (len - 1) (j + 1) = lk nd len (i + 1) := by
        unfold lk ldel
        rw [if_neg (show ¬ j + 1 < i by omega), show j + 1 + 1 = i + 1 by omega]
        by_cases h2 : i + 1 < len
        · rw [if_pos h2, if_pos (by omega)]
        · rw [if_neg h2, if_neg (by omega)]
      have e6 : lp (ldel nd i) j = lp nd j := by
        unfold lp ldel
        by_cases h2 : j = 0
        · simp [h2]
        · rw [if_neg h2, if_neg h2, if_pos (by omega)]
      show _ = some (Sum.inr (19, [.ref (ldel it i j), va_rf (lk (ldel nd i) (len - 1) (j + 1)), va_rf (lp (ldel nd i) j)]))
      rw [e4, e5, e6]
    · by_cases h2 : j = i
      · subst h2
        have e := hn (by omega)
        have e3 : ldel nd j j = nd (j + 1) := if_neg (by omega)
        rw [e3, e]
        have e4 : ldel it j j = it (j + 1) := if_neg (by omega)
        have e5 : lk (ldel nd j) (len - 1) (j + 1) = lk nd len (j + 2) := by
          unfold lk ldel
          rw [if_neg (show ¬ j + 1 < j by omega)]
          by_cases h2 : j + 2 < len
          · rw [if_pos h2, if_pos (by omega)]
          · rw [if_neg h2, if_neg (by omega)]
        have e6 : lp (ldel nd j) j = lp nd j := by
          unfold lp ldel
          by_cases h2 : j = 0
          · simp [h2]
          · rw [if_neg h2, if_neg h2, if_pos (by omega)]
        show _ = some (Sum.inr (19, [.ref (ldel it j j), va_rf (lk (ldel nd j) (len - 1) (j + 1)), va_rf (lp (ldel nd j) j)]))
        rw [e4, e5, e6]
      · by_cases h3 : j < i
        · have e3 : ldel nd i j = nd j := if_pos h3
          rw [e3, hfr j (by omega) (by omega) h1 (by omega), hL.2.1 j (by omega)]
          have e4 : ldel it i j = it j := if_pos h3
          have e5 : lk (ldel nd i) (len - 1) (j + 1) = lk nd len (j + 1) := by
            unfold lk ldel
            rw [if_pos (show j + 1 < i by omega), if_pos (by omega), if_pos (by omega)]
          have e6 : lp (ldel nd i) j = lp nd j := by
            unfold lp ldel
            by_cases h2 : j = 0
            · simp [h2]
            · rw [if_neg h2, if_neg h2, if_pos (by omega)]
          show _ = some (Sum.inr (19, [.ref (ldel it i j), va_rf (lk (ldel nd i) (len - 1) (j + 1)), va_rf (lp (ldel nd i) j)]))
          rw [e4, e5, e6]
        · have e3 : ldel nd i j = nd (j + 1) := if_neg h3
          rw [e3, hfr (j + 1) (by omega) (by omega) (by omega) (by omega), hL.2.1 (j + 1) (by omega)]
          have e4 : ldel it i j = it (j + 1) := if_neg h3
          have e5 : lk (ldel nd i) (len - 1) (j + 1) = lk nd len (j + 1 + 1) := by
            unfold lk ldel
            rw [if_neg (show ¬ j + 1 < i by omega)]
            by_cases h2 : j + 1 + 1 < len
            · rw [if_pos h2, if_pos (by omega)]
            · rw [if_neg h2, if_neg (by omega)]
          have e6 : lp (ldel nd i) j = lp nd (j + 1) := by
            unfold lp ldel
            rw [if_neg (by omega), if_neg (by omega), if_neg (by omega), show j - 1 + 1 = j + 1 - 1 by omega]
          show _ = some (Sum.inr (19, [.ref (ldel it i j), va_rf (lk (ldel nd i) (len - 1) (j + 1)), va_rf (lp (ldel nd i) j)]))
          rw [e4, e5, e6]
  · unfold ldel at hab
    by_cases h1 : a < i <;> by_cases h2 : b < i
    · rw [if_pos h1, if_pos h2] at hab; exact hL.2.2 a b (by omega) (by omega) hab
    · rw [if_pos h1, if_neg h2] at hab; have := hL.2.2 a (b + 1) (by omega) (by omega) hab; omega
    · rw [if_neg h1, if_pos h2] at hab; have := hL.2.2 (a + 1) b (by omega) (by omega) hab; omega
    · rw [if_neg h1, if_neg h2] at hab; have := hL.2.2 (a + 1) (b + 1) (by omega) (by omega) hab; omega
theorem LL.add {M M' : j_M} {q e b len : Nat} {m : Int32} {nd it : Nat → Nat} (hL : LL M q m nd it len) (hb : ∀ j, j < len → nd j ≠ b)
    (hq : M'.1 q = some (.inr (12, [.int (m + 1), .int (nI (len + 1)), .ref (if len = 0 then b else nd 0), .ref b])))
    (hnew : M'.1 b = some (.inr (19, [.ref e, .null, va_rf (lp nd len)])))
    (hp : 0 < len → M'.1 (nd (len - 1)) = some (.inr (19, [.ref (it (len - 1)), .ref b, va_rf (lp nd (len - 1))])))
    (hfr : ∀ j, j + 1 < len → M'.1 (nd j) = M.1 (nd j)) : LL M' q (m + 1) (va_up nd len b) (va_up it len e) (len + 1) := by
  have hup : ∀ j, j < len → va_up nd len b j = nd j := fun j hj => va_up_ne _ _ (by omega)
  refine ⟨?_, fun j hj => ?_, fun x y hx hy hxy => ?_⟩
  · rw [hq]
    have e1 : va_rf (lk (va_up nd len b) (len + 1) 0) = .ref (if len = 0 then b else nd 0) := by
      rw [rf_in (by omega)]
      by_cases h : len = 0
      · subst h; simp [va_up]
      · rw [hup 0 (by omega), if_neg h]
    have e2 : va_rf (lp (va_up nd len b) (len + 1)) = .ref b := by
      rw [rp_p (by omega)]
      simp [va_up]
    show _ = some (Sum.inr (12, [.int (m + 1), .int (nI (len + 1)), va_rf (lk (va_up nd len b) (len + 1) 0), va_rf (lp (va_up nd len b) (len + 1))]))
    rw [e1, e2]
  · by_cases h : j = len
    · subst h
      have e0 : va_up nd j b j = b := va_up_self _ _ _
      rw [e0, hnew]
      have e1 : va_up it j e j = e := va_up_self _ _ _
      have e2 : lk (va_up nd j b) (j + 1) (j + 1) = none := lk_out (Nat.le_refl _)
      have e3 : lp (va_up nd j b) j = lp nd j := by
        unfold lp
        by_cases h2 : j = 0
        · simp [h2]
        · rw [if_neg h2, if_neg h2, va_up_ne _ _ (by omega)]
      show _ = some (Sum.inr (19, [.ref (va_up it j e j), va_rf (lk (va_up nd j b) (j + 1) (j + 1)), va_rf (lp (va_up nd j b) j)]))
      rw [e1, e2, e3]; rfl
    · have hjl : j < len := by omega
      rw [hup j hjl]
      have e1 : va_up it len e j = it j := va_up_ne _ _ h
      have e3 : lp (va_up nd len b) j = lp nd j := by
        unfold lp
        by_cases h2 : j = 0
        · simp [h2]
        · rw [if_neg h2, if_neg h2, va_up_ne _ _ (by omega)]
      show _ = some (Sum.inr (19, [.ref (va_up it len e j), va_rf (lk (va_up nd len b) (len + 1) (j + 1)), va_rf (lp (va_up nd len b) j)]))
      rw [e1, e3]
      by_cases h2 : j + 1 = len
      · have e := hp (by omega)
        rw [show len - 1 = j by omega] at e
        rw [e, rf_in (by omega), show j + 1 = len from h2, va_up_self]
      · rw [hfr j (by omega), hL.2.1 j hjl, rf_in (nd := va_up nd len b) (by omega), hup (j + 1) (by omega)]
        show some (Sum.inr (19, [.ref (it j), va_rf (lk nd len (j + 1)), va_rf (lp nd j)])) = _
        rw [rf_in (nd := nd) (show j + 1 < len by omega)]
  · by_cases h1 : x = len <;> by_cases h2 : y = len
    · omega
    · subst h1; rw [va_up_self, hup y (by omega)] at hxy; exact absurd hxy.symm (hb y (by omega))
    · subst h2; rw [va_up_self, hup x (by omega)] at hxy; exact absurd hxy (hb x (by omega))
    · rw [hup x (by omega), hup y (by omega)] at hxy; exact hL.2.2 x y (by omega) (by omega) hxy
theorem nar_rf {n : String} (r : Option Nat) : narrow (.object n) (va_rf r) = va_rf r := by cases r <;> rfl
theorem fit_rf {n : String} (r : Option Nat) : fits (.object n) (va_rf r) = true := by cases r <;> rfl
theorem j_puts {M : j_M} {a : Nat} {e : va_E} (h : M.1 a = some e) : j_put M a e = M := by
  unfold j_put
  refine Prod.ext (funext fun i => ?_) rfl
  by_cases q : i = a
  · subst q; simp [va_up, h]
  · simp [va_up, q]
theorem jn_same {M : j_M} {a : Nat} {e e' : va_E} (h : M.1 a = some e) (he : e' = e) : jn M (.inl none, j_put M a e') := by
  subst he; rw [j_puts h]; rfl
theorem lk_ldel {nd : Nat → Nat} {len i : Nat} : lk (ldel nd i) (len - 1) i = lk nd len (i + 1) := by
  unfold lk ldel
  rw [if_neg (Nat.lt_irrefl i)]
  by_cases h : i + 1 < len
  · rw [if_pos h, if_pos (by omega)]
  · rw [if_neg h, if_neg (by omega)]
theorem nI_dec {n : Nat} (h : 0 < n) : nI n - 1 = nI (n - 1) := by
  obtain ⟨k, rfl⟩ : ∃ k, n = k + 1 := ⟨n - 1, by omega⟩
  rw [nI_pred]; rfl
/-- the post of a throw: the address, and the memory -/
def jq (q : Nat) (M : j_M) : j_Res → Prop := fun r => r = (.inr q, M)
