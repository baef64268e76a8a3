/-! ===== comparing: the two made classes, and who stands at a place ===== -/
def jAh (i : Nat) (x y : Int32) : Bool := if i = 0 then decide (1 ≤ x - y) else decide (1 ≤ y - x)
/-- a comparison's object -/
abbrev aobj (i : Nat) : va_E := .inr (100 + i, [.int 1])
section JAhead
variable {l : Launch} {G : j_G} {h : Nat} {Y : j_Y} {Q : j_Res → Prop} {pc : Nat} {ls : List (Nat × Value)} {st : List Value} {M : j_M}
theorem j_ahead {z i index : Nat} {x y : Int32} (hdg : decode Y.2.1 pc = .ok (.invokeinterface index 3, 5)) (hlink : Cond.methodLink Y.1.cls index ⟨"PittanceHouse$Ahead", "is", "(II)Z"⟩ ∈ lw_all) (hM : M.1 z = some (aobj i)) (hi : i < 2) (hh : 4 ≤ h) (hst : (st.map fun v => v.category).sum ≤ 8) (kk : JW l G h Y Q (pc + 5) ls (.int (jb (jAh i x y)) :: st) M) : JW l G h Y Q pc ls (.int y :: .int x :: .ref z :: st) M := by
  sorry
end JAhead
def hMeets (i : Nat) (kf : Nat → Int32) (own : Nat) (s : Bool × Int32) (o : Nat) : Bool × Int32 :=
  (s.1 || decide (o = own), s.2 + jb (jAh i (kf o) (kf own) || (!s.1 && (!decide (o = own) && !jAh i (kf own) (kf o)))))
def hCount (i : Nat) (kf : Nat → Int32) (xs : List Nat) (own : Nat) : Int32 := (xs.foldl (hMeets i kf own) (false, 0)).2
def hPlaced (i : Nat) (xs : List Nat) (kf : Nat → Int32) (place : Int32) : Int32 := mres (xs.find? (fun one => decide (hCount i kf xs one = place))) (-11)
theorem LL.ex {G : j_G} {M M' : j_M} {q len N D : Nat} {m : Int32} {nd it : Nat → Nat} (h : LL M q m nd it len) (hW : j_wf G M) (hf : jEx G M M' N D) : LL M' q m nd it len :=
  ⟨hf.cell hW h.1, fun j hj => hf.cell hW (h.2.1 j hj), h.2.2⟩
theorem jb_or (a b : Bool) : jb a ||| jb b = jb (a || b) := by cases a <;> cases b <;> rfl
