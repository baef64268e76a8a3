/-! ===== a brother breaks a rule ===== -/
def hTM (H : HV) (b r : Nat) : HV :=
  hsa (hsa H (18 + b) (va_up (H.2.1 (18 + b)) r (H.2.1 (18 + b) r + 1))) (2 + b) (va_up ((hsa H (18 + b) (va_up (H.2.1 (18 + b)) r (H.2.1 (18 + b) r + 1))).2.1 (2 + b)) 6 (hb H b 6 + (H.2.1 (18 + b) r + 1)))
section HTM
variable {l : Launch} {G : j_G} {W : jWt} {M : j_M} {A : Nat → Nat} {H : HV}
theorem HAt.tooMuch (h : HAt G W M A H) {b r : Nat} (hbn : b < hn H) (hr : r < 5) : JM l G 0 yX3_isTooMuch wX3_isTooMuch [.ref (A (7 + b)), .int (nI r)] M (jr (fun v M' => v = some (.int (jb (decide (H.2.1 (18 + b) r + 1 = 3)))) ∧ HAt G W M' A (hTM H b r) ∧ jFr G (hF A H) M M' 0 0)) := by
  refine (X3_isTooMuch_m (l := l) h.wf (h.bro hbn) (h.brk hbn) hr).imp ?_
  rintro q rfl
  have hb16 : b < 16 := Nat.lt_of_lt_of_le hbn h.2.1.1
  have h1 := h.setk (b := b) (f := va_up (H.2.1 (18 + b)) r (H.2.1 (18 + b) r + 1)) hbn rfl
  have e : ∀ k, hb (hsa H (18 + b) (va_up (H.2.1 (18 + b)) r (H.2.1 (18 + b) r + 1))) b k = hb H b k := fun k => hb_a (by omega)
  have h2 := h1.1.setb' (b := b) (f := va_up ((hsa H (18 + b) (va_up (H.2.1 (18 + b)) r (H.2.1 (18 + b) r + 1))).2.1 (2 + b)) 6 (hb H b 6 + (H.2.1 (18 + b) r + 1))) (e := .inr (3, [.int (hb H b 0), .int (hb H b 1), .int (hb H b 2), .int (hb H b 3), .int (hb H b 4), .int (hb H b 5), .int (hb H b 6 + (H.2.1 (18 + b) r + 1)), .int (hb H b 7), .int (hb H b 8), .ref (A (23 + b))])) hbn (by
    rw [← e 0, ← e 1, ← e 2, ← e 3, ← e 4, ← e 5, ← e 7, ← e 8]; rfl)
  exact ⟨_, _, rfl, rfl, h2.1, h1.2.trans h2.2 (fun _ _ h => h) (fun _ _ h => h) (Nat.le_refl _) (Nat.le_refl _)⟩
end HTM
def hLeaveNot (H : HV) (c : Nat) : Option (Int32 × Int32) := if H.2.1 0 c = -15 then some (7, nI c) else none
/-- who is in a cell knows it -/
def hCB (H : HV) : Prop := ∀ c b, c < 8 → b < hn H → H.2.1 0 c = nI b → hb H b 4 = nI c
