/-! ===== a call that throws for certain ===== -/
section JThrown
variable {l : Launch} {G : j_G} {h : Nat} {Y : j_Y} {Q : j_Res → Prop} {pc : Nat} {ls : List (Nat × Value)} {M1 : j_M} {q : Nat}
theorem jk_q {pc2 : Nat} {rest : List Value} : ∀ v M', jq q M1 (.inl v, M') → JW l G h Y Q pc2 ls (v.toList ++ rest) M' := by
  intro v M' e
  cases e
theorem jx_q (k : JX l G h Y Q pc ls q M1) : ∀ q' M', jq q M1 (.inr q', M') → JX l G h Y Q pc ls q' M' := by
  intro q' M' e
  cases e
  exact k
end JThrown
abbrev rfd (r d : Int32) : va_E := .inr (4, [.null, .null, .null, .null, .null, .int 0, .int r, .int d])
/-- a method that may refuse: who is refused, and why; else what it leaves -/
def hQ (not : Option (Int32 × Int32)) (M : j_M) (OK : Option Value → j_M → Prop) : j_Res → Prop := fun r => (∃ a d, not = some (a, d) ∧ r = (.inr M.2.1, j_new M (rfd a d) 8)) ∨ (not = none ∧ jr OK r)
section HQ
variable {l : Launch} {G : j_G} {h : Nat} {Y : j_Y} {Q : j_Res → Prop} {pc : Nat} {ls : List (Nat × Value)} {M M' : j_M} {not : Option (Int32 × Int32)} {OK : Option Value → j_M → Prop}
theorem hQ_no {a d : Int32} (e : not = some (a, d)) : hQ not M OK (.inr M.2.1, j_new M (rfd a d) 8) := Or.inl ⟨a, d, e, rfl⟩
theorem hQ_ok {v : Option Value} (e : not = none) (hv : OK v M') : hQ not M OK (.inl v, M') := Or.inr ⟨e, v, M', rfl, hv⟩
theorem jk_hq {pc2 : Nat} {rest : List Value} (k : ∀ v M', not = none → OK v M' → JW l G h Y Q pc2 ls (v.toList ++ rest) M') : ∀ v M', hQ not M OK (.inl v, M') → JW l G h Y Q pc2 ls (v.toList ++ rest) M' := by
  rintro v M' (⟨a, d, e, e2⟩ | ⟨e, v1, M1, e2, hv⟩)
  · cases e2
  · cases e2
    exact k v M' e hv
theorem jx_hq (k : ∀ a d, not = some (a, d) → JX l G h Y Q pc ls M.2.1 (j_new M (rfd a d) 8)) : ∀ q' M', hQ not M OK (.inr q', M') → JX l G h Y Q pc ls q' M' := by
  rintro q' M' (⟨a, d, e, e2⟩ | ⟨e, v1, M1, e2, hv⟩)
  · cases e2
    exact k a d e
  · cases e2
end HQ
def hGivesNot (H : HV) (b w : Nat) : Option (Int32 × Int32) := if hb H b 3 = 1 then (if 0 < hb H b 6 then some (4, hb H b 6) else if hb H w 3 = 0 then none else some (2, hb H w 3)) else some (3, hb H b 3)
def hGives (H : HV) (b w : Nat) : HV := hsa H (2 + b) (va_up (H.2.1 (2 + b)) 8 (nI w))
def hPardonNot (H : HV) (b : Nat) : Option (Int32 × Int32) := if hb H b 3 = 1 then (if hb H b 6 = 0 then some (10, nI b) else if H.1 12 = 2 then some (9, 2) else none) else some (3, hb H b 3)
def hPardon (H : HV) (b : Nat) : HV := hsz (hsa H (2 + b) (va_up (H.2.1 (2 + b)) 6 0)) 12 ((hsa H (2 + b) (va_up (H.2.1 (2 + b)) 6 0)).1 12 + 1)
def hFeastNot (H : HV) (w : Nat) : Option (Int32 × Int32) := if H.2.1 1 w = 0 ∧ hFeasts H = 6 then some (8, 6) else none
def hTellsF (H : HV) (w : Nat) (p : Int32) : HV := hsa H 1 (va_up (H.2.1 1) w p)
