/-! ===== the text: reading and writing, as pure functions ===== -/
section PT
variable (inp : Nat → Int32) (len : Nat)
def pAt (a : Nat) (c : Int32) : Bool := decide (a < len) && decide (inp a = c)
def pDig (a : Nat) : Bool := decide (a < len) && mIn (inp a) 48 57
def pDigs : Nat → Nat → Int32 → Nat × Int32
  | 0, a, v => (a, v)
  | d + 1, a, v => if pDig inp len a then pDigs d (a + 1) (10 * v + inp a - 48) else (a, v)
/-- a blank and a number of at most d digits, into place k -/
def pNum (k d a : Nat) (g : Nat → Int32) : Bool × Nat × (Nat → Int32) :=
  if pAt inp len a 32 then if pDig inp len (a + 1) then (true, (pDigs inp len d (a + 1) 0).1, va_up g k (pDigs inp len d (a + 1) 0).2) else (false, a + 1, g) else (false, a, g)
def pTwo (d1 d2 a : Nat) (g : Nat → Int32) : Bool × Nat × (Nat → Int32) :=
  if (pNum inp len 0 d1 a g).1 then if d2 = 0 then pNum inp len 0 d1 a g else pNum inp len 1 d2 (pNum inp len 0 d1 a g).2.1 (pNum inp len 0 d1 a g).2.2 else pNum inp len 0 d1 a g
def pWord : List Int32 → Nat → Bool × Nat
  | [], a => (true, a)
  | c :: cs, a => if pAt inp len a c then pWord cs (a + 1) else (false, a)
abbrev pRes : Type := Bool × Nat × Int32 × (Nat → Int32)
def pThen (cs : List Int32) (it : Int32) (d1 d2 a : Nat) (q : Int32) (g : Nat → Int32) : pRes :=
  if (pWord inp len cs a).1 then ((pTwo inp len d1 d2 (pWord inp len cs a).2 g).1, (pTwo inp len d1 d2 (pWord inp len cs a).2 g).2.1, it, (pTwo inp len d1 d2 (pWord inp len cs a).2 g).2.2) else (false, (pWord inp len cs a).2, q, g)
def pOrder (a : Nat) (q : Int32) (g : Nat → Int32) : pRes :=
  if pAt inp len a 118 then pThen inp len [111, 105, 99, 101] 0 2 2 (a + 1) q g
  else if pAt inp len a 99 then pThen inp len [104, 111, 111, 115, 101] 1 1 0 (a + 1) q g
  else if pAt inp len a 108 then pThen inp len [101, 97, 118, 101] 2 1 0 (a + 1) q g
  else if pAt inp len a 98 then pThen inp len [114, 101, 97, 99, 104] 3 2 1 (a + 1) q g
  else if pAt inp len a 112 then pThen inp len [97, 114, 100, 111, 110] 4 2 0 (a + 1) q g
  else if pAt inp len a 102 then pThen inp len [101, 97, 115, 116] 5 2 1 (a + 1) q g
  else if pAt inp len a 103 then pThen inp len [105, 102, 116] 6 3 0 (a + 1) q g
  else pThen inp len [119, 101, 101, 107, 115] 7 2 0 a q g
def pAll : Nat → Nat → Int32 → (Nat → Int32) → pRes
  | 0, a, q, g => (false, a, q, g)
  | f + 1, a, q, g =>
    if (pOrder inp len a q g).1 then
      if pAt inp len (pOrder inp len a q g).2.1 59 then pAll f ((pOrder inp len a q g).2.1 + 1) (pOrder inp len a q g).2.2.1 (pOrder inp len a q g).2.2.2
      else (decide ((pOrder inp len a q g).2.1 = len), (pOrder inp len a q g).2)
    else pOrder inp len a q g
end PT
theorem pAt_lt {inp : Nat → Int32} {len a : Nat} {c : Int32} (h : pAt inp len a c = true) : a + 1 ≤ len := by
  have := (Bool.and_eq_true _ _).mp h
  exact of_decide_eq_true this.1
theorem pDig_lt {inp : Nat → Int32} {len a : Nat} (h : pDig inp len a = true) : a + 1 ≤ len := by
  have := (Bool.and_eq_true _ _).mp h
  exact of_decide_eq_true this.1
theorem pDigs_le {inp : Nat → Int32} {len : Nat} : ∀ (d a : Nat) (v : Int32), a ≤ len → a ≤ (pDigs inp len d a v).1 ∧ (pDigs inp len d a v).1 ≤ len
  | 0, a, v, h => ⟨Nat.le_refl _, h⟩
  | d + 1, a, v, h => by
    unfold pDigs
    split
    · next q =>
      have := pDigs_le (inp := inp) d (a + 1) (10 * v + inp a - 48) (pDig_lt q)
      exact ⟨by omega, this.2⟩
    · exact ⟨Nat.le_refl _, h⟩
theorem pNum_le {inp : Nat → Int32} {len : Nat} (k d a : Nat) (g : Nat → Int32) (h : a ≤ len) : a ≤ (pNum inp len k d a g).2.1 ∧ (pNum inp len k d a g).2.1 ≤ len := by
  unfold pNum
  split
  · next q =>
    split
    · have := pDigs_le (inp := inp) (len := len) d (a + 1) 0 (pAt_lt q)
      show a ≤ (pDigs inp len d (a + 1) 0).1 ∧ (pDigs inp len d (a + 1) 0).1 ≤ len
      exact ⟨by omega, this.2⟩
    · exact ⟨Nat.le_succ _, pAt_lt q⟩
  · exact ⟨Nat.le_refl _, h⟩
theorem pTwo_le {inp : Nat → Int32} {len : Nat} (d1 d2 a : Nat) (g : Nat → Int32) (h : a ≤ len) : a ≤ (pTwo inp len d1 d2 a g).2.1 ∧ (pTwo inp len d1 d2 a g).2.1 ≤ len := by
  have h1 := pNum_le (inp := inp) (len := len) 0 d1 a g h
  unfold pTwo
  split
  · split
    · exact h1
    · have h2 := pNum_le (inp := inp) (len := len) 1 d2 (pNum inp len 0 d1 a g).2.1 (pNum inp len 0 d1 a g).2.2 h1.2
      exact ⟨Nat.le_trans h1.1 h2.1, h2.2⟩
  · exact h1
theorem pWord_le {inp : Nat → Int32} {len : Nat} : ∀ (cs : List Int32) (a : Nat), a ≤ len → a ≤ (pWord inp len cs a).2 ∧ (pWord inp len cs a).2 ≤ len
  | [], a, h => ⟨Nat.le_refl _, h⟩
  | c :: cs, a, h => by
    unfold pWord
    split
    · next q =>
      have := pWord_le (inp := inp) cs (a + 1) (pAt_lt q)
      exact ⟨by omega, this.2⟩
    · exact ⟨Nat.le_refl _, h⟩
theorem pThen_le {inp : Nat → Int32} {len : Nat} (cs : List Int32) (it : Int32) (d1 d2 a : Nat) (q : Int32) (g : Nat → Int32) (h : a ≤ len) : a ≤ (pThen inp len cs it d1 d2 a q g).2.1 ∧ (pThen inp len cs it d1 d2 a q g).2.1 ≤ len := by
  have h1 := pWord_le (inp := inp) cs a h
  unfold pThen
  split
  · have h2 := pTwo_le (inp := inp) d1 d2 (pWord inp len cs a).2 g h1.2
    exact ⟨Nat.le_trans h1.1 h2.1, h2.2⟩
  · exact h1
theorem pOrder_le {inp : Nat → Int32} {len a : Nat} (q : Int32) (g : Nat → Int32) (h : a ≤ len) : a ≤ (pOrder inp len a q g).2.1 ∧ (pOrder inp len a q g).2.1 ≤ len := by
  unfold pOrder
  repeat' split
  all_goals first
    | exact pThen_le _ _ _ _ _ _ _ h
    | (have h3 := pThen_le (inp := inp) (len := len) [111, 105, 99, 101] 0 2 2 (a + 1) q g (pAt_lt (by assumption)); exact ⟨by omega, h3.2⟩)
    | (have h3 := pThen_le (inp := inp) (len := len) [104, 111, 111, 115, 101] 1 1 0 (a + 1) q g (pAt_lt (by assumption)); exact ⟨by omega, h3.2⟩)
    | (have h3 := pThen_le (inp := inp) (len := len) [101, 97, 118, 101] 2 1 0 (a + 1) q g (pAt_lt (by assumption)); exact ⟨by omega, h3.2⟩)
    | (have h3 := pThen_le (inp := inp) (len := len) [114, 101, 97, 99, 104] 3 2 1 (a + 1) q g (pAt_lt (by assumption)); exact ⟨by omega, h3.2⟩)
    | (have h3 := pThen_le (inp := inp) (len := len) [97, 114, 100, 111, 110] 4 2 0 (a + 1) q g (pAt_lt (by assumption)); exact ⟨by omega, h3.2⟩)
    | (have h3 := pThen_le (inp := inp) (len := len) [101, 97, 115, 116] 5 2 1 (a + 1) q g (pAt_lt (by assumption)); exact ⟨by omega, h3.2⟩)
    | (have h3 := pThen_le (inp := inp) (len := len) [105, 102, 116] 6 3 0 (a + 1) q g (pAt_lt (by assumption)); exact ⟨by omega, h3.2⟩)
theorem pWord_le1 {inp : Nat → Int32} {len : Nat} {c : Int32} {cs : List Int32} {a : Nat} (h : (pWord inp len (c :: cs) a).1 = true) (hl : a ≤ len) : a < (pWord inp len (c :: cs) a).2 := by
  unfold pWord at h ⊢
  split at h
  · next q =>
    rw [if_pos q]
    have := (pWord_le (inp := inp) cs (a + 1) (pAt_lt q)).1
    omega
  · cases h
theorem pThen_it {inp : Nat → Int32} {len : Nat} {cs : List Int32} {it : Int32} {d1 d2 a : Nat} {q : Int32} {g : Nat → Int32} (h : (pThen inp len cs it d1 d2 a q g).1 = true) : (pThen inp len cs it d1 d2 a q g).2.2.1 = it := by
  unfold pThen at h ⊢
  split at h
  · next w => rw [if_pos w]
  · cases h
theorem pOrder_it {inp : Nat → Int32} {len a : Nat} {q : Int32} {g : Nat → Int32} (h : (pOrder inp len a q g).1 = true) : ∃ k, k ≤ 7 ∧ (pOrder inp len a q g).2.2.1 = nI k := by
  unfold pOrder at h ⊢
  repeat' split
  all_goals simp only [*, if_true, if_false, Bool.false_eq_true] at h
  · exact ⟨0, by decide, pThen_it h⟩
  · exact ⟨1, by decide, pThen_it h⟩
  · exact ⟨2, by decide, pThen_it h⟩
  · exact ⟨3, by decide, pThen_it h⟩
  · exact ⟨4, by decide, pThen_it h⟩
  · exact ⟨5, by decide, pThen_it h⟩
  · exact ⟨6, by decide, pThen_it h⟩
  · exact ⟨7, by decide, pThen_it h⟩
theorem pOrder_lt {inp : Nat → Int32} {len a : Nat} {q : Int32} {g : Nat → Int32} (hl : a ≤ len) (h : (pOrder inp len a q g).1 = true) : a < (pOrder inp len a q g).2.1 := by
  unfold pOrder at h ⊢
  repeat' split
  all_goals simp only [*, if_true, if_false, Bool.false_eq_true] at h
  · have := (pThen_le (inp := inp) (len := len) [111, 105, 99, 101] 0 2 2 (a + 1) q g (pAt_lt (by assumption))).1; omega
  · have := (pThen_le (inp := inp) (len := len) [104, 111, 111, 115, 101] 1 1 0 (a + 1) q g (pAt_lt (by assumption))).1; omega
  · have := (pThen_le (inp := inp) (len := len) [101, 97, 118, 101] 2 1 0 (a + 1) q g (pAt_lt (by assumption))).1; omega
  · have := (pThen_le (inp := inp) (len := len) [114, 101, 97, 99, 104] 3 2 1 (a + 1) q g (pAt_lt (by assumption))).1; omega
  · have := (pThen_le (inp := inp) (len := len) [97, 114, 100, 111, 110] 4 2 0 (a + 1) q g (pAt_lt (by assumption))).1; omega
  · have := (pThen_le (inp := inp) (len := len) [101, 97, 115, 116] 5 2 1 (a + 1) q g (pAt_lt (by assumption))).1; omega
  · have := (pThen_le (inp := inp) (len := len) [105, 102, 116] 6 3 0 (a + 1) q g (pAt_lt (by assumption))).1; omega
  · unfold pThen at h ⊢
    split at h
    · next w =>
      rw [if_pos w]
      have h1 := pWord_le1 w hl
      have h2 := (pWord_le (inp := inp) [119, 101, 101, 107, 115] a hl).2
      have h3 := (pTwo_le (inp := inp) (len := len) 2 0 (pWord inp len [119, 101, 101, 107, 115] a).2 g h2).1
      show a < (pTwo inp len 2 0 _ g).2.1
      omega
    · cases h
/-! the reference's state while it reads -/
def msP (s : MS) (a : Nat) (q : Int32) (g : Nat → Int32) : MS := ms_a (ms_z (ms_z s 14 (nI a)) 16 q) 6 g
theorem ms_zz (s : MS) (k : Nat) (v w : Int32) : ms_z (ms_z s k v) k w = ms_z s k w := by
  unfold ms_z
  refine Prod.ext (funext fun i => ?_) rfl
  by_cases h : i = k <;> simp [va_up, h]
theorem ms_zc (s : MS) {k j : Nat} (v w : Int32) (h : k ≠ j) : ms_z (ms_z s k v) j w = ms_z (ms_z s j w) k v := by
  unfold ms_z
  refine Prod.ext (funext fun i => ?_) rfl
  by_cases h1 : i = k
  · subst h1; simp [va_up, h]
  · by_cases h2 : i = j <;> simp [va_up, h1, h2, Ne.symm h]
theorem msP_self (s : MS) {a : Nat} (h : s.1 14 = nI a) : msP s a (s.1 16) (s.2 6) = s := by
  unfold msP
  rw [ms_z_self s h, ms_z_self s rfl, ms_a_self s rfl]
theorem msP_at (s : MS) (a b : Nat) (q : Int32) (g : Nat → Int32) : ms_z (msP s a q g) 14 (nI b) = msP s b q g := by
  show ms_a (ms_z (ms_z (ms_z s 14 (nI a)) 16 q) 14 (nI b)) 6 g = _
  rw [ms_zc _ _ _ (by decide), ms_zz]; rfl
theorem msP_it (s : MS) (a : Nat) (q p : Int32) (g : Nat → Int32) : ms_z (msP s a q g) 16 p = msP s a p g := by
  show ms_a (ms_z (ms_z (ms_z s 14 (nI a)) 16 q) 16 p) 6 g = _
  rw [ms_zz]; rfl
theorem msP_num (s : MS) (a : Nat) (q : Int32) (g f : Nat → Int32) : ms_a (msP s a q g) 6 f = msP s a q f := ms_aa _ _ _ _
theorem msP_6 (s : MS) (a : Nat) (q : Int32) (g : Nat → Int32) : (msP s a q g).2 6 = g := ms_at _ _ _
theorem msP_2 (s : MS) (a : Nat) (q : Int32) (g : Nat → Int32) : (msP s a q g).2 0 2 = s.2 0 2 := congrFun (ms_ne _ g (by decide)) 2
theorem va_upup {α : Type} (f : Nat → α) (k : Nat) (x y : α) : va_up (va_up f k x) k y = va_up f k y := by
  funext i
  by_cases h : i = k <;> simp [va_up, h]
