/-! ===== a call that throws for certain ===== -/
section JThrown
variable {l : Launch} {G : j_G} {h : Nat} {Y : j_Y} {Q : j_Res → Prop} {pc : Nat} {ls : List (Nat × Value)} {M1 : j_M} {q : Nat}
theorem jk_q {pc2 : Nat} {rest : List Value} : ∀ v M', jq q M1 (.inl v, M') → JW l G h Y Q pc2 ls (v.toList ++ rest) M' := by
  intro v M' e
  cases e
theorem jx_q (k : JX l G h Y Q pc ls q M1) : ∀ q' M', jq q M1 (.inr q', M') → JX l G h Y Q pc ls q' M' := by
  intro q' M' e
  cases e
  exact k
end JThrown
abbrev rfd (r d : Int32) : va_E := .inr (4, [.null, .null, .null, .null, .null, .int 0, .int r, .int d])
/-- a method that may refuse: who is refused, and why; else what it leaves -/
def hQ (not : Option (Int32 × Int32)) (M : j_M) (OK : Option Value → j_M → Prop) : j_Res → Prop := fun r => (∃ a d, not = some (a, d) ∧ r = (.inr M.2.1, j_new M (rfd a d) 8)) ∨ (not = none ∧ jr OK r)
section HQ
variable {l : Launch} {G : j_G} {h : Nat} {Y : j_Y} {Q : j_Res → Prop} {pc : Nat} {ls : List (Nat × Value)} {M M' : j_M} {not : Option (Int32 × Int32)} {OK : Option Value → j_M → Prop}
theorem hQ_no {a d : Int32} (e : not = some (a, d)) : hQ not M OK (.inr M.2.1, j_new M (rfd a d) 8) := Or.inl ⟨a, d, e, rfl⟩
theorem hQ_ok {v : Option Value} (e : not = none) (hv : OK v M') : hQ not M OK (.inl v, M') := Or.inr ⟨e, v, M', rfl, hv⟩
theorem jk_hq {pc2 : Nat} {rest : List Value} (k : ∀ v M', not = none → OK v M' → JW l G h Y Q pc2 ls (v.toList ++ rest) M') : ∀ v M', hQ not M OK (.inl v, M') → JW l G h Y Q pc2 ls (v.toList ++ rest) M' := by
  rintro v M' (⟨a, d, e, e2⟩ | ⟨e, v1, M1, e2, hv⟩)
  · cases e2
  · cases e2
    exact k v M' e hv
theorem jx_hq (k : ∀ a d, not = some (a, d) → JX l G h Y Q pc ls M.2.1 (j_new M (rfd a d) 8)) : ∀ q' M', hQ not M OK (.inr q', M') → JX l G h Y Q pc ls q' M' := by
  rintro q' M' (⟨a, d, e, e2⟩ | ⟨e, v1, M1, e2, hv⟩)
  · cases e2
    exact k a d e
  · cases e2
end HQ
