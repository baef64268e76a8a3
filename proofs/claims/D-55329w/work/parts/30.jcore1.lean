/-! ===== J, part 1: abstract memories, results, the contract of a method, its payment at a call ===== -/
abbrev j_G : Type := va_G × (Nat → ClassId) × Nat × (Nat → Nat) × (Nat → Value)
abbrev jD (G : j_G) : va_G := G.1
abbrev jA (G : j_G) : Nat → ClassId := G.2.1
abbrev jB (G : j_G) : Nat := G.2.2.1
abbrev jKa (G : j_G) : Nat → Nat := G.2.2.2.1
abbrev jSv (G : j_G) : Nat → Value := G.2.2.2.2
/-- cells by address; the heap's size; slots made so far -/
abbrev j_M : Type := (Nat → Option va_E) × Nat × Nat
abbrev j_X : Type := (Nat → Int32) ⊕ (Nat → Int64) ⊕ (Nat → UInt32) ⊕ (Nat → UInt64) ⊕ (Nat → Option Nat)
def j_el (x : j_X) (j : Nat) : Value := match x with
  | .inl f => .int (f j)
  | .inr (.inl f) => .long (f j)
  | .inr (.inr (.inl f)) => .float (f j)
  | .inr (.inr (.inr (.inl f))) => .double (f j)
  | .inr (.inr (.inr (.inr f))) => va_rf (f j)
theorem j_cell_el (cA : ClassId) (n : Nat) (x : j_X) : vp_cell cA (n, x) = arrV cA n (j_el x) := by
  rcases x with f | f | f | f | f <;> rfl
/-- a cell of an array that was there at the start: it is only read -/
def j_oldA (cA : ClassId) (n : Nat) (x : j_X) (cell : Cell) : Prop := cell.vm.isStatics = false ∧ cell.vm ≠ .unknown ∧ cell.cls = cA ∧ n ≤ cell.slots.size ∧ cell.slots.size.toInt32 = Int32.ofNat n ∧ ∀ j : Nat, j < n → cell.slots[j]? = some (j_el x j)
def j_oldO (cC : ClassId) (N : Nat) (iS : Nat → Nat) (fs : List Value) (cell : Cell) : Prop := cell.vm.isStatics = false ∧ cell.vm ≠ .unknown ∧ cell.cls = cC ∧ ∀ k : Nat, k < N → cell.slots[iS k]? = some (vp_V fs k)
/-- kinds 0.. of arrays are ours (they may be written), kinds 10.. were there at the start (the same classes) -/
def j_at (G : j_G) (a : Nat) (e : va_E) (H : Heap) : Prop := match e with
  | .inl (k, x) => (k < 10 ∧ jB G ≤ a ∧ H[a]? = some (vp_cell (jA G k) x)) ∨ (10 ≤ k ∧ a < jB G ∧ ∃ cell : Cell, H[a]? = some cell ∧ j_oldA (jA G (k - 10)) x.1 x.2 cell)
  | .inr (ci, fs) => (ci < 100 ∧ ∃ r : vw_C, jcl[ci]? = some r ∧ ((jB G ≤ a ∧ t_OB a ((jD G).1 ci) r.2.2 ((jD G).2 ci) H (vp_V fs)) ∨ ((ci = 15 ∨ ci = 18) ∧ a < jB G ∧ ∃ cell : Cell, H[a]? = some cell ∧ j_oldO ((jD G).1 ci) r.2.2 ((jD G).2 ci) fs cell))) ∨ (100 ≤ ci ∧ jB G ≤ a ∧ H[a]? = some { cls := (jD G).1 ci, slots := fs.toArray, vm := .none })
theorem j_at.kept {G : j_G} {a : Nat} {e : va_E} {H H1 : Heap} (h : j_at G a e H) (hq : H1[a]? = H[a]?) : j_at G a e H1 := by
  rcases e with ⟨k, x⟩ | ⟨ci, fs⟩
  · rcases h with ⟨h0, h1, h2⟩ | ⟨h0, h1, cell, h2, h3⟩
    · exact Or.inl ⟨h0, h1, by rw [hq]; exact h2⟩
    · exact Or.inr ⟨h0, h1, cell, by rw [hq]; exact h2, h3⟩
  · rcases h with ⟨h0, r, hr, ⟨h1, h2⟩ | ⟨h9, h1, cell, h2, h3⟩⟩ | ⟨h0, h1, h2⟩
    · exact Or.inl ⟨h0, r, hr, Or.inl ⟨h1, h2.kept hq⟩⟩
    · exact Or.inl ⟨h0, r, hr, Or.inr ⟨h9, h1, cell, by rw [hq]; exact h2, h3⟩⟩
    · exact Or.inr ⟨h0, h1, by rw [hq]; exact h2⟩
theorem j_some_lt {H : Heap} {a : Nat} {c : Cell} (h : H[a]? = some c) : a < H.size := (Array.getElem?_eq_some_iff.mp h).1
theorem j_at.lt {G : j_G} {a : Nat} {e : va_E} {H : Heap} (h : j_at G a e H) : a < H.size := by
  rcases e with ⟨k, x⟩ | ⟨ci, fs⟩
  · rcases h with ⟨h0, h1, h2⟩ | ⟨h0, h1, cell, h2, h3⟩
    · exact j_some_lt h2
    · exact j_some_lt h2
  · rcases h with ⟨h0, r, hr, ⟨h1, cell, h2, -⟩ | ⟨-, h1, cell, h2, h3⟩⟩ | ⟨h0, h1, h2⟩
    · exact j_some_lt h2
    · exact j_some_lt h2
    · exact j_some_lt h2
theorem j_at.arr {G : j_G} {a k n : Nat} {x : j_X} {H : Heap} (h : j_at G a (.inl (k, n, x)) H) (hk : k < 20) : ∃ cell : Cell, H[a]? = some cell ∧ j_oldA (jA G (k % 10)) n x cell := by
  rcases h with ⟨h0, h1, h2⟩ | ⟨h0, h1, h2⟩
  · refine ⟨_, h2, ?_⟩
    rw [j_cell_el, Nat.mod_eq_of_lt h0]
    exact ⟨rfl, (fun h => by cases h), rfl, (by rw [arrV_size]; exact Nat.le_refl _), (by rw [arrV_size]), fun j hj => arrV_read _ _ hj⟩
  · have h0 : 10 ≤ k := h0
    have e : k % 10 = k - 10 := by omega
    rw [e]
    exact h2
theorem j_at.arrN {G : j_G} {a k n : Nat} {x : j_X} {H : Heap} (h : j_at G a (.inl (k, n, x)) H) (hk : k < 10) : jB G ≤ a ∧ H[a]? = some (arrV (jA G k) n (j_el x)) := by
  rcases h with ⟨h0, h1, h2⟩ | ⟨h0, h1, h2⟩
  · rw [j_cell_el] at h2
    exact ⟨h1, h2⟩
  · have h0 : 10 ≤ k := h0
    omega
theorem j_at.obj {G : j_G} {a ci : Nat} {fs : List Value} {H : Heap} {r : vw_C} (hr : jcl[ci]? = some r) (h0 : ci < 100) (h : j_at G a (.inr (ci, fs)) H) : ∃ cell : Cell, H[a]? = some cell ∧ j_oldO ((jD G).1 ci) r.2.2 ((jD G).2 ci) fs cell := by
  rcases h with ⟨-, r', hr', ⟨h1, cell, h2, h3, h4, h5⟩ | ⟨-, h1, h2⟩⟩ | ⟨h, -⟩
  · cases hr.symm.trans hr'
    exact ⟨cell, h2, (by rw [h4]; rfl), (by rw [h4]; exact fun h => (by cases h)), h3, h5⟩
  · cases hr.symm.trans hr'
    exact h2
  · omega
theorem j_at.objN {G : j_G} {a ci : Nat} {fs : List Value} {H : Heap} {r : vw_C} (hr : jcl[ci]? = some r) (h0 : ci < 100) (hw : jB G ≤ a ∨ (ci ≠ 15 ∧ ci ≠ 18)) (h : j_at G a (.inr (ci, fs)) H) : jB G ≤ a ∧ t_OB a ((jD G).1 ci) r.2.2 ((jD G).2 ci) H (vp_V fs) := by
  rcases h with ⟨-, r', hr', ⟨h1, h2⟩ | ⟨h9, h1, h2⟩⟩ | ⟨h, -⟩
  · cases hr.symm.trans hr'
    exact ⟨h1, h2⟩
  · omega
  · omega
/-- the abstract memory is of this heap -/
def j_R (G : j_G) (M : j_M) (H : Heap) : Prop := H.size = M.2.1 ∧ jB G ≤ M.2.1 ∧ ∀ (a : Nat) (e : va_E), M.1 a = some e → j_at G a e H
def j_put (M : j_M) (a : Nat) (e : va_E) : j_M := (va_up M.1 a (some e), M.2)
def j_new (M : j_M) (e : va_E) (n : Nat) : j_M := (va_up M.1 M.2.1 (some e), M.2.1 + 1, M.2.2 + n)
theorem j_R.put {G : j_G} {M : j_M} {H H1 : Heap} {a : Nat} {e : va_E} (h : j_R G M H) (hz : H1.size = H.size) (ho : ∀ q : Nat, q ≠ a → H1[q]? = H[q]?) (ha : j_at G a e H1) : j_R G (j_put M a e) H1 := by
  refine ⟨hz.trans h.1, h.2.1, fun b e' hb => ?_⟩
  by_cases hab : b = a
  · subst hab
    have h1 : (va_up M.1 b (some e)) b = some e' := hb
    rw [va_up_self] at h1
    cases h1
    exact ha
  · have h1 : (va_up M.1 a (some e)) b = some e' := hb
    rw [va_up_ne _ _ hab] at h1
    exact (h.2.2 b e' h1).kept (ho b hab)
theorem j_R.new {G : j_G} {M : j_M} {H H1 : Heap} {e : va_E} {n : Nat} (h : j_R G M H) (hz : H1.size = M.2.1 + 1) (ho : ∀ q : Nat, q < M.2.1 → H1[q]? = H[q]?) (ha : j_at G M.2.1 e H1) : j_R G (j_new M e n) H1 := by
  refine ⟨hz, Nat.le_succ_of_le h.2.1, fun b e' hb => ?_⟩
  by_cases hab : b = M.2.1
  · subst hab
    have h1 : (va_up M.1 M.2.1 (some e)) M.2.1 = some e' := hb
    rw [va_up_self] at h1
    cases h1
    exact ha
  · have h1 : (va_up M.1 M.2.1 (some e)) b = some e' := hb
    rw [va_up_ne _ _ hab] at h1
    have h2 := h.2.2 b e' h1
    exact h2.kept (ho b (by have := h2.lt; rw [h.1] at this; exact this))
/-- the tables' words beside lw_all, that are carried as facts -/
def j_nw : Cond → Bool
  | .fieldLinkNest .. => true
  | .methodLinkNest .. => true
  | .castable .. => true
  | .declares .. => true
  | _ => false
theorem j_nw_moved {w : Cond} (hk : j_nw w = true) {s U : State} (hW : s.WarmedH U.vm) (h : va_Nw w s) : va_Nw w U := by
  cases w <;> first | exact va_Nw.warmF hW h | exact va_Nw.warmM hW h | exact va_Nw.warmC hW h | exact va_Nw.warmD hW h | cases hk
abbrev j_tys (G : j_G) : List (ClassId × FieldType) := [(jA G 0, .int), (jA G 1, .byte), (jA G 2, .char), (jA G 3, .boolean), (jA G 4, .long), (jA G 5, .object "java/lang/Object"), (jA G 6, .object "java/lang/String"), (jA G 7, .object "PittanceHouse$Ahead"), (jA G 8, .object "java/lang/Integer")]
def jL (G : j_G) (U : State) : Prop := jL1 ((jD G).1 100) U 59 42 j_sh0 ∧ jL1 ((jD G).1 101) U 71 46 j_sh1
theorem jL.moved {G : j_G} {s U : State} (hW : s.WarmedH U.vm) (h : jL G s) : jL G U := ⟨h.1.moved hW, h.2.moved hW⟩
/-- what the tables say, all through a run -/
def jK (G : j_G) (U : State) : Prop := va_K (jD G) jcl (j_tys G) U ∧ (∀ w ∈ lw_tbl, j_nw w = true → va_Nw w U) ∧ (∀ t ∈ j_faces, va_Fw t.1 t.2.1 t.2.2 U) ∧ (∀ C ∈ j_aos, va_AO C U) ∧ (∀ (i : Nat) (t : String × Nat × String), j_strs[i]? = some t → vk_R t.1 t.2.1 t.2.2 (jKa G i) U) ∧ (∀ t ∈ j_ncs, va_Nc t.1 t.2 U) ∧ jL G U
theorem jK.moved {G : j_G} {s U : State} (hW : s.WarmedH U.vm) (h : jK G s) : jK G U :=
  ⟨va_K.moved hW.alike h.1, fun w hw hk => j_nw_moved hk hW (h.2.1 w hw hk), fun t ht => va_Fw.moved (j_faces_ok t ht) hW.alike (h.2.2.1 t ht), fun C hC => va_AO.moved hW.alike (h.2.2.2.1 C hC), fun i t ht => vk_R.warm hW (h.2.2.2.2.1 i t ht), fun t ht => va_Nc.moved hW.alike (h.2.2.2.2.2.1 t ht), jL.moved hW h.2.2.2.2.2.2⟩
theorem jK.same {G : j_G} {s U : State} (hv : s.vm = U.vm) (h : jK G s) : jK G U := jK.moved (by rw [← hv]; exact State.WarmedH.refl s) h
def j_fr (G : j_G) : Addr → Prop := fun q => jB G ≤ q
/-- static fields that nobody writes -/
def jZ (G : j_G) (U : State) (H : Heap) : Prop := ∀ (i : Nat) (t : String × String × String), j_stats[i]? = some t → va_Z t.1 t.2.1 t.2.2 (jSv G i) (j_fr G) U H
theorem jZ.moved {G : j_G} {u U : State} {H : Heap} (hvm : u.vm.Alike U.vm) (h : jZ G u H) : jZ G U H := fun i t ht => (h i t ht).moved hvm
theorem jZ.kept {G : j_G} {U : State} {H H1 : Heap} (hq : ∀ a : Nat, a < H.size → ¬ j_fr G a → H1[a]? = H[a]?) (h : jZ G U H) : jZ G U H1 := fun i t ht => (h i t ht).kept hq
/-- a result: returned (with a value), or thrown (an address); and the memory -/
abbrev j_Res : Type := (Option Value ⊕ Nat) × j_M
def j_rm (h c n : Nat) : Room := { frames := h, cells := c, slots := n, locals := 10154 + 40 * h }
def j_Pc (G : j_G) (As : List Value) (M : j_M) : Array Value → State → Prop := va_Pc As (fun U => jK G U ∧ jZ G U U.heap ∧ j_R G M U.heap)
def j_Qr (G : j_G) (r : j_Res) (st : State) (v : Option Value) (t : State) : Prop := (∃ M' : j_M, r = (.inl v, M') ∧ j_R G M' t.heap) ∧ va_F (j_fr G) st t
def j_Qx (G : j_G) (r : j_Res) (st : State) (q : Nat) (t : State) : Prop := (∃ (M' : j_M) (ci : Nat) (fs : List Value), r = (.inr q, M') ∧ j_R G M' t.heap ∧ M'.1 q = some (.inr (ci, fs)) ∧ ci < 100 ∧ jB G ≤ q) ∧ va_F (j_fr G) st t
def j_Q (G : j_G) (r : j_Res) (mc ms : Nat) : Array Value → State → Outcome → State → Prop := fun _ st o t =>
  (∃ v : Option Value, o = .returned v ∧ j_Qr G r st v t ∧ ∃ L, FrameEnd st o t L mc ms ∧ ∀ q ∈ L, j_fr G q.base) ∨
  (∃ q : Nat, o = .threw q ∧ j_Qx G r st q t ∧ ∃ L, st.WarmedH t.vm ∧ st.sameButNew ({ t with vm := st.vm } : State) L mc ms ∧ ∀ z ∈ L, j_fr G z.base)
/-- THE CONTRACT: at memory M, with these arguments, the method ends with the result r -/
def J (l : Launch) (G : j_G) (h : Nat) (y : MethodName) (ws : List Cond) (As : List Value) (M : j_M) (r : j_Res) : Prop :=
  M.2.1 ≤ r.2.2.1 ∧ M.2.2 ≤ r.2.2.2 ∧ MetFree l y (headSpec ws (j_rm h (r.2.2.1 - M.2.1) (r.2.2.2 - M.2.2))) (j_Pc G As M) (fun _ _ _ _ _ => True) (j_Q G r (r.2.2.1 - M.2.1) (r.2.2.2 - M.2.2))
theorem j_Pc_blind (G : j_G) (As : List Value) (M : j_M) : FrameBlind (j_Pc G As M) := fun a U g mk hq => by
  obtain ⟨h1, h2, h3, h4⟩ := hq
  exact ⟨h1, jK.same (s := U) (U := U.calling g mk a) rfl h2, jZ.moved (u := U) (U := U.calling g mk a) (Vm.Alike.refl U.vm) h3, h4⟩
def j_Post (G : j_G) (r : j_Res) (mc ms : Nat) : Pt → Array Value → Option Value → Pt → Prop := fun A a v B =>
  ∃ (g : JFrame) (mk : MethodId) (t : State) (L : List Loc), B.U.heap = t.heap ∧ B.U.vm = t.vm ∧ j_Qr G r (A.U.calling g mk a) v t ∧ B.locs = A.locs ++ L ∧ (∀ q ∈ L, j_fr G q.base) ∧ B.cells = A.cells + mc ∧ B.slots = A.slots + ms
def j_PostX (G : j_G) (r : j_Res) (mc ms : Nat) : Pt → Array Value → Addr → Pt → Prop := fun A a q B =>
  ∃ (g : JFrame) (mk : MethodId) (t : State) (L : List Loc), B.U.heap = t.heap ∧ B.U.vm = t.vm ∧ j_Qx G r (A.U.calling g mk a) q t ∧ B.locs = A.locs ++ L ∧ (∀ z ∈ L, j_fr G z.base) ∧ B.cells = A.cells + mc ∧ B.slots = A.slots + ms
section JPay
variable {l : Launch} {R : Room} {p : Program} {e : Env} {below : List Frame} {s : State} {sargs : Array Value} {y : MethodName} {len W9 : Nat}
set_option maxHeartbeats 4000000 in
theorem j_back {G : j_G} {h' : Nat} {ws : List Cond} {As : List Value} {M : j_M} {r : j_Res} {maxL : Nat}
    (hJ : J l G h' y ws As M r) (hframes : h' + 1 ≤ R.frames) (hlocals : W9 + (maxL + 11) + (10154 + 40 * h') ≤ R.locals)
    (hws : ∀ w ∈ ws, ∀ a' U, s.WarmedH U.vm → w.before a' U = true)
    (hcode : ∀ (a' : Array Value) (U : State) (mk : MethodId), s.WarmedH U.vm → U.methodNamed? y = some mk → ∃ methY cY, U.vm.method? mk = some methY ∧ methY.code = some cY ∧ cY.maxLocals = maxL)
    (hinit : ∀ a' U, s.WarmedH U.vm → (Cond.initialized y.cls).before a' U = true) :
    vx_Back l R p e below s sargs y len W9 (PreOf R (r.2.2.1 - M.2.1) (r.2.2.2 - M.2.2) (j_Pc G As M)) (j_Post G r (r.2.2.1 - M.2.1) (r.2.2.2 - M.2.2)) (j_PostX G r (r.2.2.1 - M.2.1) (r.2.2.2 - M.2.2)) := by
  obtain ⟨-, -, hM⟩ := hJ
  generalize r.2.2.1 - M.2.1 = mc at hM ⊢
  generalize r.2.2.2 - M.2.2 = ms at hM ⊢
  intro m meth c A g ig mk a X hg hsize hdg hW hn hp
  have h1 : (headSpec ws (j_rm h' mc ms)).pre.before a A.U = true := atoms_intro fun w hw => hws w hw _ _ X.warmed
  have h3 : (Cond.initialized y.cls).before a A.U = true := hinit _ _ X.warmed
  have h4 : A.cells + (headSpec ws (j_rm h' mc ms)).room.cells ≤ R.cells := hp.1
  have h5 : A.slots + (headSpec ws (j_rm h' mc ms)).room.slots ≤ R.slots := hp.2.1
  have hPc : j_Pc G As M a (A.U.calling g mk a) := j_Pc_blind G As M _ _ _ _ hp.2.2
  obtain ⟨methY, cY, hmY, hcY, hlY⟩ := hcode a A.U mk X.warmed hn
  obtain ⟨U, Ls, c0, s0⟩ := A
  dsimp only [Pt.U, Pt.locs, Pt.cells, Pt.slots] at h1 h3 h4 h5 X hn hPc hmY ⊢
  obtain ⟨kY, hkY, -⟩ := className_of_methodNamed hn
  have hinitY : kY.init = .initialized := Cond.initialized_spec (findClass_of_methodNamed hn) hkY h3
  have h : At U g.method c below := by rw [hg]; exact X.here
  have hlocals9 : W9 + (maxL + 11) + (headSpec ws (j_rm h' mc ms)).room.locals ≤ R.locals := hlocals
  have hfr9 : (headSpec ws (j_rm h' mc ms)).room.frames + 1 ≤ R.frames := hframes
  have happ : (headSpec ws (j_rm h' mc ms)).appliesLoose y e.platform (U.calling g mk a) = true :=
    Spec.appliesLoose_calling (g := g) h hdg hn hkY hinitY
      (X.room_calling (g := g) (R' := (headSpec ws (j_rm h' mc ms)).room) hsize hmY hcY hfr9 (by rw [hlY]; omega) h4 h5) h1
  obtain ⟨mid, hmid⟩ := h.above
  have hfr : (U.setTop g).frames = (.java g :: mid) ++ below := by rw [State.frames_setTop' g h.top, hmid]; rfl
  obtain ⟨o, s₂, hsteps, -, hend, hq⟩ := Steps.callFree hM p X.admits X.cas X.clock (acts := []) hfr happ hPc trivial
  have hq' : j_Q G r mc ms a (U.calling g mk a) o s₂ := hq
  rw [State.frames_setTop' g h.top] at hend
  obtain ⟨g₀, hg0⟩ := Option.isSome_iff_exists.mp h.top
  obtain ⟨rr, hr⟩ := State.topJava?_eq_some.mp hg0
  have hr' : (({ U with heap := s₂.heap, slotsUsed := s₂.slotsUsed } : State).setVm s₂.vm).frames = .java g₀ :: rr := hr
  rcases hq' with ⟨v0, rfl, hqc, L, hfe, hL⟩ | ⟨q, rfl, hx, L, hW₂, hsm, hL⟩
  · obtain ⟨⟨v, hv9⟩, hW₂, e2, q2, q3, q4, q5, q6⟩ := id hfe
    cases hv9
    have e3 : s₂ = ({ (U.calling g mk a).setFrames s₂.frames with heap := s₂.heap, slotsUsed := s₂.slotsUsed } : State).setVm s₂.vm := by
      have : s₂ = ({ s₂ with vm := (U.calling g mk a).vm } : State).setVm s₂.vm := rfl
      rw [e2] at this
      exact this
    obtain ⟨c₂, i₂, len₂, hc₂, hd₂, hf₂⟩ := hend
    have hW' : U.WarmedH s₂.vm := hW₂
    have hcc : c₂ = c := by
      have h1 : s₂.code? g.method = U.code? g.method := by
        rw [State.code?_eq, State.code?_eq, hW'.alike.method?]
      exact Option.some.inj (hc₂.symm.trans (h1.trans h.code))
    subst hcc
    have hlen : len₂ = len := by rw [hdg] at hd₂; cases hd₂; rfl
    subst hlen
    have hs₂ : s₂ = (({ U with heap := s₂.heap, slotsUsed := s₂.slotsUsed } : State).setVm s₂.vm).setTop { g with pc := g.pc + len₂, stack := v0.toList ++ g.stack } := by
      refine e3.trans ?_
      rw [hf₂, State.calling_eq h.top, State.setFrames_setFrames, State.setTop_of_frames _ hr', hr]
      rfl
    have hsame : U.sameButNew ({ U with heap := s₂.heap, slotsUsed := s₂.slotsUsed } : State) L mc ms := by
      refine ⟨?_, q2, q3, q4, q5, q6⟩
      obtain ⟨t, ht, -⟩ := State.frames_cons hr
      show ({ U with heap := s₂.heap, slotsUsed := s₂.slotsUsed } : State) = { U.setFrames U.frames with heap := s₂.heap, slotsUsed := s₂.slotsUsed }
      rw [State.setFrames_self ht]
    subst hg
    refine Or.inl ⟨v0, ⟨(({ U with heap := s₂.heap, slotsUsed := s₂.slotsUsed } : State).setVm s₂.vm), Ls ++ L, c0 + mc, s0 + ms⟩,
      ⟨X.admits, X.cas, X.clock, X.frames, X.room, X.hears, X.method, X.code, (X.here.setHeapUsed s₂.heap s₂.slotsUsed).setVm hW'.alike, X.tail, State.WarmedH.trans X.warmed hW', X.limits, X.bytes, X.same.trans (hsame.setVm s.vm)⟩,
      ⟨g, mk, s₂, L, rfl, rfl, hqc, rfl, hL, rfl, rfl⟩, ?_⟩
    show Steps p.tables e below _ ((({ U with heap := s₂.heap, slotsUsed := s₂.slotsUsed } : State).setVm s₂.vm).setTop { g with pc := g.pc + len₂, stack := v0.toList ++ g.stack })
    rw [← hs₂]
    exact hsteps
  · obtain ⟨e2, q2, q3, q4, q5, q6⟩ := id hsm
    have e3 : s₂ = ({ (U.calling g mk a).setFrames s₂.frames with heap := s₂.heap, slotsUsed := s₂.slotsUsed } : State).setVm s₂.vm := by
      have : s₂ = ({ s₂ with vm := (U.calling g mk a).vm } : State).setVm s₂.vm := rfl
      rw [e2] at this
      exact this
    have hf₂ : s₂.frames = .throwing q :: .java g :: U.frames.tail := hend
    have hW' : U.WarmedH s₂.vm := hW₂
    have hs₂ : s₂ = ((({ U with heap := s₂.heap, slotsUsed := s₂.slotsUsed } : State).setVm s₂.vm).setTop g).pushFrame (.throwing q) := by
      refine e3.trans ?_
      rw [hf₂, State.calling_eq h.top, State.setFrames_setFrames, State.pushFrame, State.frames_setTop _ hr', State.setTop_of_frames _ hr', State.setFrames_setFrames, hr]
      rfl
    have hsame : U.sameButNew ({ U with heap := s₂.heap, slotsUsed := s₂.slotsUsed } : State) L mc ms := by
      refine ⟨?_, q2, q3, q4, q5, q6⟩
      obtain ⟨t, ht, -⟩ := State.frames_cons hr
      show ({ U with heap := s₂.heap, slotsUsed := s₂.slotsUsed } : State) = { U.setFrames U.frames with heap := s₂.heap, slotsUsed := s₂.slotsUsed }
      rw [State.setFrames_self ht]
    subst hg
    refine Or.inr ⟨q, ⟨(({ U with heap := s₂.heap, slotsUsed := s₂.slotsUsed } : State).setVm s₂.vm), Ls ++ L, c0 + mc, s0 + ms⟩,
      ⟨X.admits, X.cas, X.clock, X.frames, X.room, X.hears, X.method, X.code, (X.here.setHeapUsed s₂.heap s₂.slotsUsed).setVm hW'.alike, X.tail, State.WarmedH.trans X.warmed hW', X.limits, X.bytes, X.same.trans (hsame.setVm s.vm)⟩,
      ⟨g, mk, s₂, L, rfl, rfl, hx, rfl, hL, rfl, rfl⟩, ?_⟩
    show Steps p.tables e below _ (((({ U with heap := s₂.heap, slotsUsed := s₂.slotsUsed } : State).setVm s₂.vm).setTop g).pushFrame (.throwing q))
    rw [← hs₂]
    exact hsteps
end JPay
