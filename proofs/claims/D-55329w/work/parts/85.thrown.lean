/-! ===== a call that throws for certain ===== -/
section JThrown
variable {l : Launch} {G : j_G} {h : Nat} {Y : j_Y} {Q : j_Res → Prop} {pc : Nat} {ls : List (Nat × Value)} {M1 : j_M} {q : Nat}
theorem jk_q {pc2 : Nat} {rest : List Value} : ∀ v M', jq q M1 (.inl v, M') → JW l G h Y Q pc2 ls (v.toList ++ rest) M' := by
  intro v M' e
  cases e
theorem jx_q (k : JX l G h Y Q pc ls q M1) : ∀ q' M', jq q M1 (.inr q', M') → JX l G h Y Q pc ls q' M' := by
  intro q' M' e
  cases e
  exact k
end JThrown
abbrev rfd (r d : Int32) : va_E := .inr (4, [.null, .null, .null, .null, .null, .int 0, .int r, .int d])
