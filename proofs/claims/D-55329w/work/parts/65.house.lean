/-! ===== a House in memory: its value, its addresses ===== -/
/-- house numbers (0 1 2 = modCounts of brethren, line, seniors; 5.. = fields), arrays (0 cells, 1 feasts, 2+b a brother's fields, 18+b what he broke), how many, line, seniors -/
abbrev HV : Type := (Nat → Int32) × (Nat → Nat → Int32) × Nat × List Nat × List Nat
abbrev hn (H : HV) : Nat := H.2.2.1
abbrev hl (H : HV) : List Nat := H.2.2.2.1
abbrev hs (H : HV) : List Nat := H.2.2.2.2
abbrev hb (H : HV) (b k : Nat) : Int32 := H.2.1 (2 + b) k
def hsz (H : HV) (k : Nat) (v : Int32) : HV := (va_up H.1 k v, H.2)
def hsa (H : HV) (j : Nat) (f : Nat → Int32) : HV := (H.1, va_up H.2.1 j f, H.2.2)
def hsb (H : HV) (b k : Nat) (v : Int32) : HV := hsa H (2 + b) (va_up (H.2.1 (2 + b)) k v)
abbrev hobj (A : Nat → Nat) (H : HV) : List Value := [.ref (A 1), .ref (A 3), .ref (A 4), .ref (A 5), .ref (A 6), .int (H.1 5), .int (H.1 6), .int (H.1 7), .int (H.1 8), .int (H.1 9), .int (H.1 10), .int (H.1 11), .int (H.1 12)]
abbrev bobj (A : Nat → Nat) (H : HV) (b : Nat) : List Value := [.int (hb H b 0), .int (hb H b 1), .int (hb H b 2), .int (hb H b 3), .int (hb H b 4), .int (hb H b 5), .int (hb H b 6), .int (hb H b 7), .int (hb H b 8), .ref (A (23 + b))]
def hlist (l : List Nat) (ic : Nat → Nat) (j : Nat) : Nat := ic (l.getD j 0)
def hcell (A ic : Nat → Nat) (H : HV) (i : Nat) : va_E :=
  if i = 0 then .inr (1, hobj A H)
  else if i = 1 then .inr (11, [.int (H.1 0), .ref (A 2), .int (nI (hn H))])
  else if i = 2 then .inl (5, 16, .inr (.inr (.inr (.inr (fun k => if k < hn H then some (A (7 + k)) else none)))))
  else if i = 3 then lhead (fun j => A (40 + j)) (hl H).length (H.1 1)
  else if i = 4 then lhead (fun j => A (60 + j)) (hs H).length (H.1 2)
  else if i = 5 then .inl (0, 8, .inl (H.2.1 0))
  else if i = 6 then .inl (0, 52, .inl (H.2.1 1))
  else if i < 23 then .inr (3, bobj A H (i - 7))
  else if i < 40 then .inl (0, 5, .inl (H.2.1 (18 + (i - 23))))
  else if i < 60 then lnode (fun j => A (40 + j)) (hlist (hl H) ic) (hl H).length (i - 40)
  else lnode (fun j => A (60 + j)) (hlist (hs H) ic) (hs H).length (i - 60)
def hdom (H : HV) (i : Nat) : Prop := i < 7 ∨ (7 ≤ i ∧ i < 7 + hn H) ∨ (23 ≤ i ∧ i < 23 + hn H) ∨ (40 ≤ i ∧ i < 40 + (hl H).length) ∨ (60 ≤ i ∧ i < 60 + (hs H).length)
def hF (A : Nat → Nat) (H : HV) (a : Nat) : Prop := ∃ i, hdom H i ∧ a = A i
/-- the world: what was there at the start stays; W.1: that memory, W.2: the Integers of 0 .. 15 -/
abbrev jWt : Type := (Nat → Option va_E) × (Nat → Nat)
def jWd (G : j_G) (W : jWt) (M : j_M) : Prop := j_wf G M ∧ ∀ a, a < jB G → M.1 a = W.1 a
/-- what is known of the start: the Integers and their cache, two statics of Throwable -/
def jGd (G : j_G) (W : jWt) : Prop := (∀ k, k < 16 → W.2 k < jB G ∧ W.1 (W.2 k) = some (.inr (18, [.int (nI k)]))) ∧ jSv G 5 = .int 127 ∧ (∃ ca f, jSv G 6 = .ref ca ∧ ca < jB G ∧ W.1 ca = some (.inl (18, 256, .inr (.inr (.inr (.inr f))))) ∧ ∀ k, k < 16 → f (128 + k) = some (W.2 k)) ∧ (∃ a, jSv G 3 = .ref a) ∧ ∃ a, jSv G 4 = .ref a
def HAt (G : j_G) (W : jWt) (M : j_M) (A : Nat → Nat) (H : HV) : Prop :=
  jWd G W M ∧ (hn H ≤ 16 ∧ (hl H).length ≤ 16 ∧ (hs H).length ≤ 16) ∧ (∀ i, hdom H i → M.1 (A i) = some (hcell A W.2 H i)) ∧ (∀ i j, hdom H i → hdom H j → A i = A j → i = j) ∧ ∀ i, hdom H i → jB G ≤ A i
theorem jWd.keep {G : j_G} {W : jWt} {M M' : j_M} {F : Nat → Prop} {N D : Nat} (h : jWd G W M) (hf : jFr G F M M' N D) (hF : ∀ a, a < jB G → ¬ F a) : jWd G W M' :=
  ⟨hf.1, fun a ha => (hf.2.2 a (Nat.lt_of_lt_of_le ha h.1.1) (hF a ha)).trans (h.2 a ha)⟩
theorem jWd.ex {G : j_G} {W : jWt} {M M' : j_M} {N D : Nat} (h : jWd G W M) (hf : jEx G M M' N D) : jWd G W M' := h.keep hf (fun _ _ q => q)
theorem jWd.int {G : j_G} {W : jWt} {M : j_M} (h : jWd G W M) (hG : jGd G W) {k : Nat} (hk : k < 16) : M.1 (W.2 k) = some (.inr (18, [.int (nI k)])) := (h.2 _ (hG.1 k hk).1).trans (hG.1 k hk).2
section HAt1
variable {G : j_G} {W : jWt} {ic : Nat → Nat} {M M' : j_M} {A : Nat → Nat} {H H' : HV}
theorem HAt.wf (h : HAt G W M A H) : j_wf G M := h.1.1
theorem hdom_b {b : Nat} (h : b < hn H) : hdom H (7 + b) := Or.inr (Or.inl ⟨by omega, by omega⟩)
theorem hdom_k {b : Nat} (h : b < hn H) : hdom H (23 + b) := Or.inr (Or.inr (Or.inl ⟨by omega, by omega⟩))
theorem hdom_l {j : Nat} (h : j < (hl H).length) : hdom H (40 + j) := Or.inr (Or.inr (Or.inr (Or.inl ⟨by omega, by omega⟩)))
theorem hdom_s {j : Nat} (h : j < (hs H).length) : hdom H (60 + j) := Or.inr (Or.inr (Or.inr (Or.inr ⟨by omega, by omega⟩)))
theorem hcell_b {b : Nat} (hb16 : b < 16) : hcell A ic H (7 + b) = .inr (3, bobj A H b) := by
  unfold hcell
  rw [if_neg (by omega), if_neg (by omega), if_neg (by omega), if_neg (by omega), if_neg (by omega), if_neg (by omega), if_neg (by omega), if_pos (by omega), show 7 + b - 7 = b by omega]
theorem hcell_k {b : Nat} (hb16 : b < 16) : hcell A ic H (23 + b) = .inl (0, 5, .inl (H.2.1 (18 + b))) := by
  unfold hcell
  rw [if_neg (by omega), if_neg (by omega), if_neg (by omega), if_neg (by omega), if_neg (by omega), if_neg (by omega), if_neg (by omega), if_neg (by omega), if_pos (by omega), show 23 + b - 23 = b by omega]
theorem hcell_l {j : Nat} (hj : j < 20) : hcell A ic H (40 + j) = lnode (fun j => A (40 + j)) (hlist (hl H) ic) (hl H).length j := by
  unfold hcell
  rw [if_neg (by omega), if_neg (by omega), if_neg (by omega), if_neg (by omega), if_neg (by omega), if_neg (by omega), if_neg (by omega), if_neg (by omega), if_neg (by omega), if_pos (by omega), show 40 + j - 40 = j by omega]
theorem hcell_s {j : Nat} : hcell A ic H (60 + j) = lnode (fun j => A (60 + j)) (hlist (hs H) ic) (hs H).length j := by
  unfold hcell
  rw [if_neg (by omega), if_neg (by omega), if_neg (by omega), if_neg (by omega), if_neg (by omega), if_neg (by omega), if_neg (by omega), if_neg (by omega), if_neg (by omega), if_neg (by omega), show 60 + j - 60 = j by omega]
theorem HAt.house (h : HAt G W M A H) : M.1 (A 0) = some (.inr (1, hobj A H)) := h.2.2.1 0 (Or.inl (by decide))
theorem HAt.al (h : HAt G W M A H) : M.1 (A 1) = some (.inr (11, [.int (H.1 0), .ref (A 2), .int (nI (hn H))])) := h.2.2.1 1 (Or.inl (by decide))
theorem HAt.el (h : HAt G W M A H) : M.1 (A 2) = some (.inl (5, 16, .inr (.inr (.inr (.inr (fun k => if k < hn H then some (A (7 + k)) else none)))))) := h.2.2.1 2 (Or.inl (by decide))
theorem HAt.cells (h : HAt G W M A H) : M.1 (A 5) = some (.inl (0, 8, .inl (H.2.1 0))) := h.2.2.1 5 (Or.inl (by decide))
theorem HAt.feasts (h : HAt G W M A H) : M.1 (A 6) = some (.inl (0, 52, .inl (H.2.1 1))) := h.2.2.1 6 (Or.inl (by decide))
theorem HAt.bro (h : HAt G W M A H) {b : Nat} (hb : b < hn H) : M.1 (A (7 + b)) = some (.inr (3, bobj A H b)) := (h.2.2.1 _ (hdom_b hb)).trans (congrArg some (hcell_b (Nat.lt_of_lt_of_le hb h.2.1.1)))
theorem HAt.brk (h : HAt G W M A H) {b : Nat} (hb : b < hn H) : M.1 (A (23 + b)) = some (.inl (0, 5, .inl (H.2.1 (18 + b)))) := (h.2.2.1 _ (hdom_k hb)).trans (congrArg some (hcell_k (Nat.lt_of_lt_of_le hb h.2.1.1)))
theorem HAt.line (h : HAt G W M A H) : LL M (A 3) (H.1 1) (fun j => A (40 + j)) (hlist (hl H) W.2) (hl H).length :=
  ⟨h.2.2.1 3 (Or.inl (by decide)), fun j hj => (h.2.2.1 _ (hdom_l hj)).trans (congrArg some (hcell_l (Nat.lt_of_lt_of_le hj (Nat.le_trans h.2.1.2.1 (by decide))))), fun i j hi hj e => by
    have := h.2.2.2.1 _ _ (hdom_l hi) (hdom_l hj) e
    omega⟩
theorem HAt.sen (h : HAt G W M A H) : LL M (A 4) (H.1 2) (fun j => A (60 + j)) (hlist (hs H) W.2) (hs H).length :=
  ⟨h.2.2.1 4 (Or.inl (by decide)), fun j hj => (h.2.2.1 _ (hdom_s hj)).trans (congrArg some hcell_s), fun i j hi hj e => by
    have := h.2.2.2.1 _ _ (hdom_s hi) (hdom_s hj) e
    omega⟩
/-- a house's own kinds of cell -/
def hkd (e : va_E) : Bool := match e with
  | .inl (k, n, _) => (k == 0 && (n == 8 || n == 52 || n == 5)) || (k == 5 && n == 16)
  | .inr (ci, _) => ci == 1 || ci == 11 || ci == 12 || ci == 3 || ci == 19
theorem hcell_kd (i : Nat) : hkd (hcell A ic H i) = true := by
  unfold hcell
  repeat' split
  all_goals rfl
/-- a cell of another kind is none of the house's -/
theorem HAt.off (h : HAt G W M A H) {a : Nat} {e : va_E} (ha : M.1 a = some e) (he : hkd e = false) : ¬ hF A H a := by
  rintro ⟨i, hi, rfl⟩
  have := (h.2.2.1 i hi).symm.trans ha
  cases this
  rw [hcell_kd] at he
  cases he
theorem HAt.hFB (h : HAt G W M A H) {a : Nat} (ha : hF A H a) : jB G ≤ a := by
  obtain ⟨i, hi, rfl⟩ := ha
  exact h.2.2.2.2 i hi
/-- the house stays where nothing of it changes -/
theorem HAt.keep (h : HAt G W M A H) {F : Nat → Prop} {N D : Nat} (hf : jFr G F M M' N D) (hF0 : ∀ a, hF A H a → ¬ F a) (hi : ∀ a, a < jB G → ¬ F a) : HAt G W M' A H :=
  ⟨h.1.keep hf hi, h.2.1, fun i hi2 => hf.cell h.wf (h.2.2.1 i hi2) (hF0 _ ⟨i, hi2, rfl⟩), h.2.2.2⟩
theorem HAt.ex (h : HAt G W M A H) {N D : Nat} (hf : jEx G M M' N D) : HAt G W M' A H := h.keep hf (fun _ _ q => q) (fun _ _ q => q)
theorem HAt.putE (h : HAt G W M A H) {a : Nat} {e e0 : va_E} (ha : M.1 a = some e0) (he : hkd e0 = false) (hB : jB G ≤ a) : HAt G W (j_put M a e) A H := by
  have h1 : ¬ hF A H a := h.off ha he
  exact h.keep (F := fun b => b = a) (jFr.put (F := fun b => b = a) (N := 0) (D := 0) h.wf ha rfl) (fun b hb q => h1 (by rw [← q]; exact hb)) (fun k hk q => by omega)
theorem HAt.newE (h : HAt G W M A H) {e : va_E} {n : Nat} : HAt G W (j_new M e n) A H := h.ex (jFr.new h.wf)
/-- one cell of the house is written -/
theorem HAt.set (h : HAt G W M A H) {i : Nat} {e : va_E} (hi : hdom H i) (hs2 : H'.2.2 = H.2.2) (he : e = hcell A W.2 H' i) (hc : ∀ j, hdom H j → j ≠ i → hcell A W.2 H' j = hcell A W.2 H j) : HAt G W (j_put M (A i) e) A H' ∧ jFr G (hF A H) M (j_put M (A i) e) 0 0 := by
  have h0 := h.2.2.1 i hi
  have hd : ∀ j, hdom H' j → hdom H j := fun j hj => by
    unfold hdom hn hl hs at hj ⊢
    rw [hs2] at hj
    exact hj
  refine ⟨⟨⟨h.wf.put h0, fun k hk => ?_⟩, ?_, fun j hj => ?_, fun j k hj hk => h.2.2.2.1 j k (hd j hj) (hd k hk), fun j hj => h.2.2.2.2 j (hd j hj)⟩, jFr.put h.wf h0 ⟨i, hi, rfl⟩⟩
  · exact j_pne (fun q => by have := h.2.2.2.2 i hi; omega) (h.1.2 k hk)
  · unfold hn hl hs
    rw [hs2]
    exact h.2.1
  · by_cases q : j = i
    · subst q; rw [← he]; exact j_peq
    · rw [hc j (hd j hj) q]
      exact j_pne (fun w => q (h.2.2.2.1 j i (hd j hj) hi w)) (h.2.2.1 j (hd j hj))
theorem hcell_z {k : Nat} {v : Int32} (hk : 5 ≤ k) {j : Nat} (hj : j ≠ 0) : hcell A ic (hsz H k v) j = hcell A ic H j := by
  have e : ∀ i, i < 5 → (hsz H k v).1 i = H.1 i := fun i hi => va_up_ne _ _ (by omega)
  unfold hcell
  rw [if_neg hj, if_neg hj, e 0 (by decide), e 1 (by decide), e 2 (by decide)]
  rfl
theorem HAt.setz (h : HAt G W M A H) {k : Nat} {v : Int32} {e : va_E} (hk : 5 ≤ k) (he : e = .inr (1, hobj A (hsz H k v))) : HAt G W (j_put M (A 0) e) A (hsz H k v) ∧ jFr G (hF A H) M (j_put M (A 0) e) 0 0 :=
  h.set (Or.inl (by decide)) rfl he (fun _ _ hj => hcell_z hk hj)
theorem hcell_a {q : Nat} {f : Nat → Int32} {j i : Nat} (hq : (q = 0 ∧ i = 5) ∨ (q = 1 ∧ i = 6) ∨ (∃ b, b < 16 ∧ q = 2 + b ∧ i = 7 + b) ∨ (∃ b, b < 16 ∧ q = 18 + b ∧ i = 23 + b)) (hj : j ≠ i) (hd : hdom H j) (h16 : hn H ≤ 16) : hcell A ic (hsa H q f) j = hcell A ic H j := by
  have e : ∀ x, x ≠ q → (hsa H q f).2.1 x = H.2.1 x := fun x hx => va_up_ne _ _ hx
  unfold hcell
  by_cases h0 : j = 0
  · rw [if_pos h0, if_pos h0]; rfl
  rw [if_neg h0, if_neg h0]
  by_cases h1 : j = 1
  · rw [if_pos h1, if_pos h1]; rfl
  rw [if_neg h1, if_neg h1]
  by_cases h2 : j = 2
  · rw [if_pos h2, if_pos h2]; rfl
  rw [if_neg h2, if_neg h2]
  by_cases h3 : j = 3
  · rw [if_pos h3, if_pos h3]; rfl
  rw [if_neg h3, if_neg h3]
  by_cases h4 : j = 4
  · rw [if_pos h4, if_pos h4]; rfl
  rw [if_neg h4, if_neg h4]
  by_cases h5 : j = 5
  · rw [if_pos h5, if_pos h5, e 0 (by rcases hq with ⟨a, b⟩ | ⟨a, b⟩ | ⟨b, _, a, c⟩ | ⟨b, _, a, c⟩ <;> omega)]
  rw [if_neg h5, if_neg h5]
  by_cases h6 : j = 6
  · rw [if_pos h6, if_pos h6, e 1 (by rcases hq with ⟨a, b⟩ | ⟨a, b⟩ | ⟨b, _, a, c⟩ | ⟨b, _, a, c⟩ <;> omega)]
  rw [if_neg h6, if_neg h6]
  by_cases h7 : j < 23
  · rw [if_pos h7, if_pos h7]
    have e1 : (hsa H q f).2.1 (2 + (j - 7)) = H.2.1 (2 + (j - 7)) := e _ (by rcases hq with ⟨a, b⟩ | ⟨a, b⟩ | ⟨b, _, a, c⟩ | ⟨b, _, a, c⟩ <;> omega)
    show (Sum.inr (3, bobj A (hsa H q f) (j - 7)) : va_E) = _
    unfold bobj hb
    rw [e1]
  rw [if_neg h7, if_neg h7]
  by_cases h8 : j < 40
  · rw [if_pos h8, if_pos h8, e (18 + (j - 23)) (by
      unfold hdom at hd
      rcases hq with ⟨a, b⟩ | ⟨a, b⟩ | ⟨b, _, a, c⟩ | ⟨b, _, a, c⟩ <;> omega)]
  rw [if_neg h8, if_neg h8]
  rfl
theorem HAt.setc (h : HAt G W M A H) {f : Nat → Int32} {e : va_E} (he : e = .inl (0, 8, .inl f)) : HAt G W (j_put M (A 5) e) A (hsa H 0 f) ∧ jFr G (hF A H) M (j_put M (A 5) e) 0 0 :=
  h.set (i := 5) (Or.inl (by decide)) rfl he (fun _ hd hj => hcell_a (Or.inl ⟨rfl, rfl⟩) hj hd h.2.1.1)
theorem HAt.setf (h : HAt G W M A H) {f : Nat → Int32} {e : va_E} (he : e = .inl (0, 52, .inl f)) : HAt G W (j_put M (A 6) e) A (hsa H 1 f) ∧ jFr G (hF A H) M (j_put M (A 6) e) 0 0 :=
  h.set (i := 6) (Or.inl (by decide)) rfl he (fun _ hd hj => hcell_a (Or.inr (Or.inl ⟨rfl, rfl⟩)) hj hd h.2.1.1)
theorem HAt.setb (h : HAt G W M A H) {b : Nat} {f : Nat → Int32} {e : va_E} (hb : b < hn H) (he : e = .inr (3, bobj A (hsa H (2 + b) f) b)) : HAt G W (j_put M (A (7 + b)) e) A (hsa H (2 + b) f) ∧ jFr G (hF A H) M (j_put M (A (7 + b)) e) 0 0 :=
  h.set (i := 7 + b) (hdom_b hb) rfl (he.trans (hcell_b (Nat.lt_of_lt_of_le hb h.2.1.1)).symm) (fun _ hd hj => hcell_a (Or.inr (Or.inr (Or.inl ⟨b, Nat.lt_of_lt_of_le hb h.2.1.1, rfl, rfl⟩))) hj hd h.2.1.1)
theorem HAt.setk (h : HAt G W M A H) {b : Nat} {f : Nat → Int32} {e : va_E} (hb : b < hn H) (he : e = .inl (0, 5, .inl f)) : HAt G W (j_put M (A (23 + b)) e) A (hsa H (18 + b) f) ∧ jFr G (hF A H) M (j_put M (A (23 + b)) e) 0 0 :=
  h.set (i := 23 + b) (hdom_k hb) rfl (he.trans ((hcell_k (Nat.lt_of_lt_of_le hb h.2.1.1)).trans (by rw [show (hsa H (18 + b) f).2.1 (18 + b) = f from va_up_self _ _ _])).symm) (fun _ hd hj => hcell_a (Or.inr (Or.inr (Or.inr ⟨b, Nat.lt_of_lt_of_le hb h.2.1.1, rfl, rfl⟩))) hj hd h.2.1.1)
end HAt1
section HAt3
variable {G : j_G} {W : jWt} {M M' : j_M} {A : Nat → Nat} {H H' : HV}
theorem hF_of (h : H'.2.2 = H.2.2) {a : Nat} (q : hF A H' a) : hF A H a := by
  obtain ⟨i, hi, rfl⟩ := q
  refine ⟨i, ?_, rfl⟩
  unfold hdom hn hl hs at hi ⊢
  rw [h] at hi
  exact hi
theorem HAt.setb' (h : HAt G W M A H) {b : Nat} {f : Nat → Int32} {e : va_E} (hb : b < hn H) (he : e = .inr (3, [.int (f 0), .int (f 1), .int (f 2), .int (f 3), .int (f 4), .int (f 5), .int (f 6), .int (f 7), .int (f 8), .ref (A (23 + b))])) : HAt G W (j_put M (A (7 + b)) e) A (hsa H (2 + b) f) ∧ jFr G (hF A H) M (j_put M (A (7 + b)) e) 0 0 :=
  h.setb hb (he.trans (by
    have e1 : (hsa H (2 + b) f).2.1 (2 + b) = f := va_up_self _ _ _
    unfold bobj
    show _ = (Sum.inr (3, [.int ((hsa H (2 + b) f).2.1 (2 + b) 0), .int ((hsa H (2 + b) f).2.1 (2 + b) 1), .int ((hsa H (2 + b) f).2.1 (2 + b) 2), .int ((hsa H (2 + b) f).2.1 (2 + b) 3), .int ((hsa H (2 + b) f).2.1 (2 + b) 4), .int ((hsa H (2 + b) f).2.1 (2 + b) 5), .int ((hsa H (2 + b) f).2.1 (2 + b) 6), .int ((hsa H (2 + b) f).2.1 (2 + b) 7), .int ((hsa H (2 + b) f).2.1 (2 + b) 8), .ref (A (23 + b))]) : va_E)
    rw [e1]))
end HAt3
theorem HAt.cast {G : j_G} {W : jWt} {M : j_M} {A : Nat → Nat} {H H' : HV} (h : HAt G W M A H) (e : H = H') : HAt G W M A H' := e ▸ h
