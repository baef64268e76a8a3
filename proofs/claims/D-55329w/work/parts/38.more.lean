/-! ===== J: other locals, a value under another name, Math.min; the reference's lens ===== -/
def jsubs : List (Nat × Value) → List (Nat × Value) → Prop
  | [], _ => True
  | (i, v) :: l, ls => jget ls i = some v ∧ jsubs l ls
theorem jsubs_get : ∀ {l ls : List (Nat × Value)}, jsubs l ls → ∀ (i : Nat) (v : Value), jget l i = some v → jget ls i = some v
  | [], _, _, _, _, h => by cases h
  | (j, w) :: l, ls, hs, i, v, h => by
    by_cases hij : i = j
    · subst hij
      rw [jget_eq] at h
      cases h
      exact hs.1
    · rw [jget_ne hij] at h
      exact jsubs_get hs.2 i v h
section JMore
variable {l : Launch} {G : j_G} {h : Nat} {Y : j_Y} {Q : j_Res → Prop} {pc : Nat} {ls : List (Nat × Value)} {st : List Value} {M : j_M}
theorem j_locs {ls2 : List (Nat × Value)} (hs : jsubs ls2 ls) (k : JW l G h Y Q pc ls2 st M) : JW l G h Y Q pc ls st M :=
  JW.lift k (fun p e R s m args below meth c H locs cells slots Qs arr hC hA kk => kk arr ⟨hA.1, hA.2.1, fun i v hv => hA.2.2 i v (jsubs_get hs i v hv)⟩)
theorem j_st {st' : List Value} (e : st' = st) (k : JW l G h Y Q pc ls st' M) : JW l G h Y Q pc ls st M := e ▸ k
theorem j_mem {M' : j_M} (e : M' = M) (k : JW l G h Y Q pc ls st M') : JW l G h Y Q pc ls st M := e ▸ k
theorem j_mmin {x y : Int32} {index : Nat} (hdg : decode Y.2.1 pc = .ok (.invokestatic index, 3)) (hlink : Cond.methodLink Y.1.cls index Lib.Math.min.name ∈ lw_all) (hstat : Cond.static Lib.Math.min.name ∈ lw_all) (hini : Cond.initialized "java/lang/Math" ∈ lw_all) (hcode : Cond.code Lib.Math.min.name Lib.Math.min.code 2 (some .int) ∈ lw_all) (hh : 1 ≤ h) (hst : (st.map fun v => v.category).sum ≤ 8) (kk : JW l G h Y Q (pc + 3) ls (.int (if y < x then y else x) :: st) M) : JW l G h Y Q pc ls (.int y :: .int x :: st) M := by
  obtain ⟨r, ⟨h1, h2, k⟩, hQ⟩ := kk
  refine ⟨r, ⟨h1, h2, fun p e s m args below meth c hC H locs arr s0 hR hS hA h0 => ?_⟩, hQ⟩
  have k9 := k p e s m args below meth c hC H locs arr s0 hR hS hA h0
  obtain ⟨hx, hb, hml, -, -, hown, hts, hK, -⟩ := hC
  exact va_mmin hx hb (hml.trans hA.1.symm) hown (hts _ hlink) (hts _ hstat) (hts _ hini) (hts _ hcode) hh (by show _ + 13 ≤ 10154 + 40 * h; omega) (by show M.2.1 - s.heap.size ≤ r.2.2.1 - s.heap.size; omega) (by show M.2.2 - s0 ≤ r.2.2.2 - s0; omega) hdg k9
end JMore
/-! the reference: its object at L 0, its eight arrays at L 1 .. L 8; a state: scalars by field, arrays by number -/
abbrev MS : Type := (Nat → Int32) × (Nat → Nat → Int32)
def ms_z (s : MS) (k : Nat) (v : Int32) : MS := (va_up s.1 k v, s.2)
def ms_a (s : MS) (j : Nat) (f : Nat → Int32) : MS := (s.1, va_up s.2 j f)
abbrev mobj (L : Nat → Nat) (z : Nat → Int32) : List Value := [.int (z 0), .int (z 1), .int (z 2), .int (z 3), .ref (L 1), .ref (L 2), .ref (L 3), .ref (L 4), .int (z 8), .int (z 9), .int (z 10), .ref (L 5), .ref (L 6), .int (z 13), .int (z 14), .ref (L 7), .int (z 16), .int (z 17), .ref (L 8), .int (z 19)]
def mkind : Nat → Nat | 5 => 2 | 7 => 2 | _ => 0
def msize : Nat → Nat | 0 => 320 | 1 => 2560 | 2 => 320 | 3 => 320 | 4 => 16 | 5 => 60 | 6 => 2 | _ => 160
def mcell (L : Nat → Nat) (s : MS) : Nat → va_E
  | 0 => .inr (2, mobj L s.1)
  | j + 1 => .inl (mkind j, msize j, .inl (s.2 j))
def mput (M : j_M) (L : Nat → Nat) (s : MS) : j_M := (fun a => if a = L 0 then some (mcell L s 0) else if a = L 1 then some (mcell L s 1) else if a = L 2 then some (mcell L s 2) else if a = L 3 then some (mcell L s 3) else if a = L 4 then some (mcell L s 4) else if a = L 5 then some (mcell L s 5) else if a = L 6 then some (mcell L s 6) else if a = L 7 then some (mcell L s 7) else if a = L 8 then some (mcell L s 8) else M.1 a, M.2)
/-- the nine addresses are apart and in the heap -/
def mOK (G : j_G) (M : j_M) (L : Nat → Nat) : Prop := j_wf G M ∧ (∀ i, i < 9 → L i < M.2.1) ∧ (∀ i j, i < 9 → j < 9 → L i = L j → i = j)
theorem mOK.at {G : j_G} {M : j_M} {L : Nat → Nat} (hO : mOK G M L) (s : MS) {i : Nat} (hi : i < 9) : (mput M L s).1 (L i) = some (mcell L s i) := by
  have hne : ∀ j, j < 9 → j ≠ i → ¬ L i = L j := fun j hj hji e => hji (hO.2.2 i j hi hj e).symm
  show (if L i = L 0 then some (mcell L s 0) else if L i = L 1 then some (mcell L s 1) else if L i = L 2 then some (mcell L s 2) else if L i = L 3 then some (mcell L s 3) else if L i = L 4 then some (mcell L s 4) else if L i = L 5 then some (mcell L s 5) else if L i = L 6 then some (mcell L s 6) else if L i = L 7 then some (mcell L s 7) else if L i = L 8 then some (mcell L s 8) else M.1 (L i)) = _
  rcases (show i = 0 ∨ i = 1 ∨ i = 2 ∨ i = 3 ∨ i = 4 ∨ i = 5 ∨ i = 6 ∨ i = 7 ∨ i = 8 by omega) with rfl | rfl | rfl | rfl | rfl | rfl | rfl | rfl | rfl <;> simp [hne]
theorem mput_off {M : j_M} {L : Nat → Nat} {s : MS} {a : Nat} (h : ∀ i, i < 9 → a ≠ L i) : (mput M L s).1 a = M.1 a := by
  show (if a = L 0 then some (mcell L s 0) else if a = L 1 then some (mcell L s 1) else if a = L 2 then some (mcell L s 2) else if a = L 3 then some (mcell L s 3) else if a = L 4 then some (mcell L s 4) else if a = L 5 then some (mcell L s 5) else if a = L 6 then some (mcell L s 6) else if a = L 7 then some (mcell L s 7) else if a = L 8 then some (mcell L s 8) else M.1 a) = _
  simp [h]
theorem mOK.put {G : j_G} {M : j_M} {L : Nat → Nat} (hO : mOK G M L) {s s' : MS} {i : Nat} (hi : i < 9) (h : ∀ j, j < 9 → j ≠ i → mcell L s' j = mcell L s j) : j_put (mput M L s) (L i) (mcell L s' i) = mput M L s' := by
  unfold j_put
  refine Prod.ext ?_ rfl
  funext a
  show va_up (mput M L s).1 (L i) (some (mcell L s' i)) a = (mput M L s').1 a
  by_cases ha : a = L i
  · subst ha
    rw [va_up_self, hO.at s' hi]
  · rw [va_up_ne _ _ ha]
    by_cases hj : ∃ j, j < 9 ∧ a = L j
    · obtain ⟨j, hj, rfl⟩ := hj
      rw [hO.at s hj, hO.at s' hj, h j hj (fun e => ha (by rw [e]))]
    · have h9 : ∀ i, i < 9 → a ≠ L i := fun i hi e => hj ⟨i, hi, e⟩
      rw [mput_off h9, mput_off h9]
theorem mOK.wf {G : j_G} {M : j_M} {L : Nat → Nat} (hO : mOK G M L) (s : MS) : j_wf G (mput M L s) := by
  refine ⟨hO.1.1, fun a e ha => ?_⟩
  by_cases hj : ∃ j, j < 9 ∧ a = L j
  · obtain ⟨j, hj, rfl⟩ := hj
    exact hO.2.1 j hj
  · have h9 : ∀ i, i < 9 → a ≠ L i := fun i hi e => hj ⟨i, hi, e⟩
    rw [mput_off h9] at ha
    exact hO.1.2 a e ha
section MJ
variable {l : Launch} {G : j_G} {h : Nat} {Y : j_Y} {Q : j_Res → Prop} {pc : Nat} {ls : List (Nat × Value)} {st : List Value} {M : j_M} {L : Nat → Nat} {s : MS}
theorem mj_get {index k : Nat} {v : Value} (hO : mOK G M L) (hdg : decode Y.2.1 pc = .ok (.getfield index, 3)) (hF : j_Fd Y.1.cls index 2 k) (hv : (mobj L s.1)[k]? = some v) (kk : JW l G h Y Q (pc + 3) ls (v :: st) (mput M L s)) : JW l G h Y Q pc ls (.ref (L 0) :: st) (mput M L s) :=
  j_get hdg hF (hO.at s (i := 0) (by decide)) hv kk
/-- a scalar field -/
def m_sc (k : Nat) : Bool := k < 4 || k == 8 || k == 9 || k == 10 || k == 13 || k == 14 || k == 16 || k == 17 || k == 19
theorem mobj_set {z : Nat → Int32} {k : Nat} {v : Int32} (hk : m_sc k = true) : (mobj L z).set k (.int v) = mobj L (va_up z k v) := by
  have h : k = 0 ∨ k = 1 ∨ k = 2 ∨ k = 3 ∨ k = 8 ∨ k = 9 ∨ k = 10 ∨ k = 13 ∨ k = 14 ∨ k = 16 ∨ k = 17 ∨ k = 19 := by
    simp only [m_sc, Bool.or_eq_true, decide_eq_true_eq, beq_iff_eq] at hk
    omega
  rcases h with rfl | rfl | rfl | rfl | rfl | rfl | rfl | rfl | rfl | rfl | rfl | rfl <;> simp [mobj, va_up]
theorem mj_put {index k : Nat} {v : Int32} {ty : FieldType} (hO : mOK G M L) (hdg : decode Y.2.1 pc = .ok (.putfield index, 3)) (hF : j_Fd Y.1.cls index 2 k) (hk : m_sc k = true) (hty : ∀ r : vw_C, jcl[(2 : Nat)]? = some r → parseFieldDescriptor (r.2.1 k).2.2.1 = some ty ∧ (r.2.1 k).2.2.2 = false) (hn : narrow ty (.int v) = .int v) (hfit : fits ty (.int v) = true) (kk : JW l G h Y Q (pc + 3) ls st (mput M L (ms_z s k v))) : JW l G h Y Q pc ls (.int v :: .ref (L 0) :: st) (mput M L s) := by
  refine j_put_ hdg hF cl_2 (fun r hr => ⟨(hty r hr).1, Or.inl (hty r hr).2⟩) (hO.at s (i := 0) (by decide)) (Or.inr (by decide)) hn hfit ?_ ?_
  · have h : k < 20 := by
      simp only [m_sc, Bool.or_eq_true, decide_eq_true_eq, beq_iff_eq] at hk
      omega
    exact h
  · have e : j_put (mput M L s) (L 0) (.inr (2, (mobj L s.1).set k (.int v))) = mput M L (ms_z s k v) := by
      rw [mobj_set hk]
      exact hO.put (s' := ms_z s k v) (i := 0) (by decide) (fun j hj hne => by cases j with | zero => exact absurd rfl hne | succ j => rfl)
    rw [e]
    exact kk
theorem mj_iald {j i : Nat} {x : Int32} (hO : mOK G M L) (hdg : decode Y.2.1 pc = .ok (.iaload, 1)) (hj : mkind j = 0 ∧ j < 8 ∧ msize j < 2 ^ 31) (hx : x = nI i) (hi : i < msize j) (kk : JW l G h Y Q (pc + 1) ls (.int (s.2 j i) :: st) (mput M L s)) : JW l G h Y Q pc ls (.int x :: .ref (L (j + 1)) :: st) (mput M L s) := by
  have h9 := hO.at s (i := j + 1) (by omega)
  exact j_iald hdg h9 (by rw [hj.1]; decide) hx hi hj.2.2 kk
theorem mj_cald {j i : Nat} {x : Int32} (hO : mOK G M L) (hdg : decode Y.2.1 pc = .ok (.caload, 1)) (hj : mkind j = 2 ∧ j < 8 ∧ msize j < 2 ^ 31) (hx : x = nI i) (hi : i < msize j) (kk : JW l G h Y Q (pc + 1) ls (.int (s.2 j i) :: st) (mput M L s)) : JW l G h Y Q pc ls (.int x :: .ref (L (j + 1)) :: st) (mput M L s) := by
  have h9 := hO.at s (i := j + 1) (by omega)
  exact j_cald hdg h9 (by rw [hj.1]; decide) hx hi hj.2.2 kk
theorem m_puta (hO : mOK G M L) {j : Nat} (hj : j < 8) (f : Nat → Int32) : j_put (mput M L s) (L (j + 1)) (.inl (mkind j, msize j, .inl f)) = mput M L (ms_a s j f) := by
  have h9 := hO.put (s := s) (s' := ms_a s j f) (i := j + 1) (by omega) (fun q hq hne => by
    cases q with
    | zero => rfl
    | succ q =>
      show (Sum.inl (mkind q, msize q, .inl (va_up s.2 j f q)) : va_E) = _
      rw [va_up_ne _ _ (fun e => hne (by rw [e]))]
      rfl)
  have e : mcell L (ms_a s j f) (j + 1) = .inl (mkind j, msize j, .inl f) := by
    show (Sum.inl (mkind j, msize j, .inl (va_up s.2 j f j)) : va_E) = _
    rw [va_up_self]
  rw [e] at h9
  exact h9
theorem mj_iast {j i : Nat} {x v : Int32} (hO : mOK G M L) (hdg : decode Y.2.1 pc = .ok (.iastore, 1)) (hj : mkind j = 0 ∧ j < 8 ∧ msize j < 2 ^ 31) (hx : x = nI i) (hi : i < msize j) (kk : JW l G h Y Q (pc + 1) ls st (mput M L (ms_a s j (va_up (s.2 j) i v)))) : JW l G h Y Q pc ls (.int v :: .int x :: .ref (L (j + 1)) :: st) (mput M L s) := by
  have h9 := hO.at s (i := j + 1) (by omega)
  have h8 : (mput M L s).1 (L (j + 1)) = some (.inl (0, msize j, .inl (s.2 j))) := by rw [h9]; show some (Sum.inl (mkind j, _)) = _; rw [hj.1]
  refine j_iast hdg h8 hx hi hj.2.2 ?_
  have e := m_puta (s := s) hO hj.2.1 (va_up (s.2 j) i v)
  rw [hj.1] at e
  rw [e]
  exact kk
theorem mj_cast {j i : Nat} {x v : Int32} (hO : mOK G M L) (hdg : decode Y.2.1 pc = .ok (.castore, 1)) (hj : mkind j = 2 ∧ j < 8 ∧ msize j < 2 ^ 31) (hx : x = nI i) (hi : i < msize j) (kk : JW l G h Y Q (pc + 1) ls st (mput M L (ms_a s j (va_up (s.2 j) i (vp_nar .char v))))) : JW l G h Y Q pc ls (.int v :: .int x :: .ref (L (j + 1)) :: st) (mput M L s) := by
  have h9 := hO.at s (i := j + 1) (by omega)
  have h8 : (mput M L s).1 (L (j + 1)) = some (.inl (2, msize j, .inl (s.2 j))) := by rw [h9]; show some (Sum.inl (mkind j, _)) = _; rw [hj.1]
  refine j_cast hdg h8 hx hi hj.2.2 ?_
  have e := m_puta (s := s) hO hj.2.1 (va_up (s.2 j) i (vp_nar .char v))
  rw [hj.1] at e
  rw [e]
  exact kk
end MJ
