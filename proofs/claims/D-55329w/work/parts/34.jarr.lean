/-! ===== J, part 5: arrays (printed in part by tools/gen_arr.py) ===== -/
section JArr
variable {l : Launch} {G : j_G} {h : Nat} {Y : j_Y} {Q : j_Res → Prop} {pc : Nat} {ls : List (Nat × Value)} {st : List Value} {M : j_M}
theorem j_isArr {s : State} {cA : ClassId} {ty : FieldType} {n : Nat} {x : j_X} {cell : Cell} (hK : ArrOfT s cA ty) (h : j_oldA cA n x cell) : s.isArrayOf cell ty := by
  obtain ⟨h1, -, h3, -⟩ := h
  refine ⟨fun k q => ?_, ?_⟩
  · rw [q] at h1; cases h1
  · rw [h3]; exact (hK 0 (fun _ => .null)).2
theorem j_tyAt {G : j_G} {s : State} (hK : jK G s) {t0 : Nat} {cA : ClassId} {ty : FieldType} (ht : (j_tys G)[t0]? = some (cA, ty)) : ArrOfT s cA ty ∧ va_RA s cA ty := hK.1.2 t0 _ ht
theorem j_inN {j n : Nat} {x : j_X} {cA : ClassId} {cell : Cell} (hj : j < n) (hn : n < 2 ^ 31) (h : j_oldA cA n x cell) : ¬ (nI j < 0 ∨ cell.slots.size ≤ (nI j).toNatClampNeg) := by
  have h4 := h.2.2.2.1
  rw [nI_clamp (by omega)]
  rintro (q | q)
  · exact nI_pos (by omega) q
  · omega
theorem j_inA {j n : Nat} (cA : ClassId) (F : Nat → Value) (hj : j < n) (hn : n < 2 ^ 31) : ¬ (nI j < 0 ∨ (arrV cA n F).slots.size ≤ (nI j).toNatClampNeg) := by
  rw [nI_clamp (by omega), arrV_size]
  rintro (q | q)
  · exact nI_pos (by omega) q
  · omega
theorem j_iald {a k n j : Nat} {f : Nat → Int32} {i : Int32} (hdg : decode Y.2.1 pc = .ok (.iaload, 1)) (hM : M.1 a = some (.inl (k, n, .inl f))) (hk : k % 10 = 0 ∧ k < 20) (hi : i = nI j) (hj : j < n) (hn : n < 2 ^ 31) (kk : JW l G h Y Q (pc + 1) ls (.int (f j) :: st) M) : JW l G h Y Q pc ls (.int i :: .ref a :: st) M := by
  subst hi
  refine JW.liftP kk rfl (fun p e R s m args below meth c H locs cells slots Qs arr hC hRf hRl hR hS hA k0 => ?_)
  obtain ⟨hx, hb, -, -, -, hown, hts, hK, -⟩ := hC
  obtain ⟨cell, q1, q2⟩ := (hR.2.2 a _ hM).arr hk.2
  rw [hk.1] at q2
  refine W.iald (v := .int (f j)) hx hb q1 (j_isArr (j_tyAt hK (t0 := 0) rfl).1 q2) q2.2.1 (j_inN hj hn q2) ?_ rfl rfl hdg (k0 H locs hR hS arr hA)
  rw [nI_clamp (by omega)]
  exact q2.2.2.2.2.2 j hj
theorem j_bald {a k n j : Nat} {f : Nat → Int32} {i : Int32} (hdg : decode Y.2.1 pc = .ok (.baload, 1)) (hM : M.1 a = some (.inl (k, n, .inl f))) (hk : k % 10 = 1 ∧ k < 20) (hi : i = nI j) (hj : j < n) (hn : n < 2 ^ 31) (kk : JW l G h Y Q (pc + 1) ls (.int (f j) :: st) M) : JW l G h Y Q pc ls (.int i :: .ref a :: st) M := by
  subst hi
  refine JW.liftP kk rfl (fun p e R s m args below meth c H locs cells slots Qs arr hC hRf hRl hR hS hA k0 => ?_)
  obtain ⟨hx, hb, -, -, -, hown, hts, hK, -⟩ := hC
  obtain ⟨cell, q1, q2⟩ := (hR.2.2 a _ hM).arr hk.2
  rw [hk.1] at q2
  refine W.bald (v := .int (f j)) hx hb q1 (j_isArr (j_tyAt hK (t0 := 1) rfl).1 q2) q2.2.1 (j_inN hj hn q2) ?_ rfl rfl hdg (k0 H locs hR hS arr hA)
  rw [nI_clamp (by omega)]
  exact q2.2.2.2.2.2 j hj
theorem j_cald {a k n j : Nat} {f : Nat → Int32} {i : Int32} (hdg : decode Y.2.1 pc = .ok (.caload, 1)) (hM : M.1 a = some (.inl (k, n, .inl f))) (hk : k % 10 = 2 ∧ k < 20) (hi : i = nI j) (hj : j < n) (hn : n < 2 ^ 31) (kk : JW l G h Y Q (pc + 1) ls (.int (f j) :: st) M) : JW l G h Y Q pc ls (.int i :: .ref a :: st) M := by
  subst hi
  refine JW.liftP kk rfl (fun p e R s m args below meth c H locs cells slots Qs arr hC hRf hRl hR hS hA k0 => ?_)
  obtain ⟨hx, hb, -, -, -, hown, hts, hK, -⟩ := hC
  obtain ⟨cell, q1, q2⟩ := (hR.2.2 a _ hM).arr hk.2
  rw [hk.1] at q2
  refine W.cald (v := .int (f j)) hx hb q1 (j_isArr (j_tyAt hK (t0 := 2) rfl).1 q2) q2.2.1 (j_inN hj hn q2) ?_ rfl rfl hdg (k0 H locs hR hS arr hA)
  rw [nI_clamp (by omega)]
  exact q2.2.2.2.2.2 j hj
theorem j_lald {a k n j : Nat} {f : Nat → Int64} {i : Int32} (hdg : decode Y.2.1 pc = .ok (.laload, 1)) (hM : M.1 a = some (.inl (k, n, .inr (.inl f)))) (hk : k % 10 = 4 ∧ k < 20) (hi : i = nI j) (hj : j < n) (hn : n < 2 ^ 31) (kk : JW l G h Y Q (pc + 1) ls (.long (f j) :: st) M) : JW l G h Y Q pc ls (.int i :: .ref a :: st) M := by
  subst hi
  refine JW.liftP kk rfl (fun p e R s m args below meth c H locs cells slots Qs arr hC hRf hRl hR hS hA k0 => ?_)
  obtain ⟨hx, hb, -, -, -, hown, hts, hK, -⟩ := hC
  obtain ⟨cell, q1, q2⟩ := (hR.2.2 a _ hM).arr hk.2
  rw [hk.1] at q2
  refine W.lald (v := .long (f j)) hx hb q1 (j_isArr (j_tyAt hK (t0 := 4) rfl).1 q2) q2.2.1 (j_inN hj hn q2) ?_ rfl rfl hdg (k0 H locs hR hS arr hA)
  rw [nI_clamp (by omega)]
  exact q2.2.2.2.2.2 j hj
theorem j_aald {a k n j : Nat} {f : Nat → Option Nat} {i : Int32} (hdg : decode Y.2.1 pc = .ok (.aaload, 1)) (hM : M.1 a = some (.inl (k, n, .inr (.inr (.inr (.inr f)))))) (hk : (k % 10 = 5 ∨ k % 10 = 6 ∨ k % 10 = 7 ∨ k % 10 = 8) ∧ k < 20) (hi : i = nI j) (hj : j < n) (hn : n < 2 ^ 31) (kk : JW l G h Y Q (pc + 1) ls (va_rf (f j) :: st) M) : JW l G h Y Q pc ls (.int i :: .ref a :: st) M := by
  subst hi
  refine JW.liftP kk rfl (fun p e R s m args below meth c H locs cells slots Qs arr hC hRf hRl hR hS hA k0 => ?_)
  obtain ⟨hx, hb, -, -, -, hown, hts, hK, -⟩ := hC
  obtain ⟨cell, q1, q2⟩ := (hR.2.2 a _ hM).arr hk.2
  have hv : cell.slots[(nI j).toNatClampNeg]? = some (va_rf (f j)) := by
    rw [nI_clamp (by omega)]
    exact q2.2.2.2.2.2 j hj
  have hz := q2.2.1
  have hw := j_inN hj hn q2
  rcases hk.1 with e | e | e | e
  · rw [e] at q2
    exact W.aald hx hb q1 (j_isArr (j_tyAt hK (t0 := 5) rfl).1 q2) rfl hz hw hv rfl rfl hdg (k0 H locs hR hS arr hA)
  · rw [e] at q2
    exact W.aald hx hb q1 (j_isArr (j_tyAt hK (t0 := 6) rfl).1 q2) rfl hz hw hv rfl rfl hdg (k0 H locs hR hS arr hA)
  · rw [e] at q2
    exact W.aald hx hb q1 (j_isArr (j_tyAt hK (t0 := 7) rfl).1 q2) rfl hz hw hv rfl rfl hdg (k0 H locs hR hS arr hA)
  · rw [e] at q2
    exact W.aald hx hb q1 (j_isArr (j_tyAt hK (t0 := 8) rfl).1 q2) rfl hz hw hv rfl rfl hdg (k0 H locs hR hS arr hA)
theorem j_alen {a k n : Nat} {x : j_X} (hdg : decode Y.2.1 pc = .ok (.arraylength, 1)) (hM : M.1 a = some (.inl (k, n, x))) (hk : k % 10 < 9 ∧ k < 20) (kk : JW l G h Y Q (pc + 1) ls (.int (nI n) :: st) M) : JW l G h Y Q pc ls (.ref a :: st) M := by
  refine JW.liftP kk rfl (fun p e R s m args below meth c H locs cells slots Qs arr hC hRf hRl hR hS hA k0 => ?_)
  obtain ⟨hx, hb, -, -, -, hown, hts, hK, -⟩ := hC
  obtain ⟨cell, q1, q2⟩ := (hR.2.2 a _ hM).arr hk.2
  have ht : ∃ ty, (j_tys G)[k % 10]? = some (jA G (k % 10), ty) := by
    have h9 := hk.1
    generalize k % 10 = t at h9 ⊢
    match t, h9 with
    | 0, _ => exact ⟨_, rfl⟩
    | 1, _ => exact ⟨_, rfl⟩
    | 2, _ => exact ⟨_, rfl⟩
    | 3, _ => exact ⟨_, rfl⟩
    | 4, _ => exact ⟨_, rfl⟩
    | 5, _ => exact ⟨_, rfl⟩
    | 6, _ => exact ⟨_, rfl⟩
    | 7, _ => exact ⟨_, rfl⟩
    | 8, _ => exact ⟨_, rfl⟩
    | t + 9, h => exact absurd h (by omega)
  obtain ⟨ty, ht⟩ := ht
  exact W.alen hx hb q1 (j_isArr (j_tyAt hK ht).1 q2) q2.2.2.2.2.1 rfl rfl hdg (k0 H locs hR hS arr hA)
theorem j_iast {a n j : Nat} {f : Nat → Int32} {i : Int32} {x : Int32} (hdg : decode Y.2.1 pc = .ok (.iastore, 1)) (hM : M.1 a = some (.inl (0, n, .inl f))) (hi : i = nI j) (hj : j < n) (hn : n < 2 ^ 31) (kk : JW l G h Y Q (pc + 1) ls st (j_put M a (.inl (0, n, .inl (va_up f j x))))) : JW l G h Y Q pc ls (.int x :: .int i :: .ref a :: st) M := by
  subst hi
  refine JW.liftP kk rfl (fun p e R s m args below meth c H locs cells slots Qs arr hC hRf hRl hR hS hA k0 => ?_)
  obtain ⟨hx, hb, -, -, -, hown, hts, hK, -⟩ := hC
  obtain ⟨q0, q1⟩ := (hR.2.2 a _ hM).arrN (by decide)
  refine W.iast hx hb q1 ((j_tyAt hK (t0 := 0) rfl).1 n _) (fun q => by cases q) (j_inA _ _ hj hn) rfl rfl hdg fun H1 e1 z oq => ?_
  refine k0 H1 _ (hR.put z oq (Or.inl ⟨by decide, q0, ?_⟩)) (hS.put z oq q0) arr hA
  rw [e1, j_cell_el, nI_clamp (by omega), arrV_store]
  congr 2
  funext q
  by_cases hq : q = j
  · subst hq
    simp [updV, va_up, j_el]
    try rfl
  · simp [updV, va_up, hq, j_el]
theorem j_bast {a n j : Nat} {f : Nat → Int32} {i : Int32} {x : Int32} (hdg : decode Y.2.1 pc = .ok (.bastore, 1)) (hM : M.1 a = some (.inl (1, n, .inl f))) (hi : i = nI j) (hj : j < n) (hn : n < 2 ^ 31) (kk : JW l G h Y Q (pc + 1) ls st (j_put M a (.inl (1, n, .inl (va_up f j (vp_nar .byte x)))))) : JW l G h Y Q pc ls (.int x :: .int i :: .ref a :: st) M := by
  subst hi
  refine JW.liftP kk rfl (fun p e R s m args below meth c H locs cells slots Qs arr hC hRf hRl hR hS hA k0 => ?_)
  obtain ⟨hx, hb, -, -, -, hown, hts, hK, -⟩ := hC
  obtain ⟨q0, q1⟩ := (hR.2.2 a _ hM).arrN (by decide)
  refine W.bast hx hb q1 ((j_tyAt hK (t0 := 1) rfl).1 n _) (fun q => by cases q) (j_inA _ _ hj hn) rfl rfl hdg fun H1 e1 z oq => ?_
  refine k0 H1 _ (hR.put z oq (Or.inl ⟨by decide, q0, ?_⟩)) (hS.put z oq q0) arr hA
  rw [e1, j_cell_el, nI_clamp (by omega), arrV_store]
  congr 2
  funext q
  by_cases hq : q = j
  · subst hq
    simp [updV, va_up, j_el, vp_nar]
    try rfl
  · simp [updV, va_up, hq, j_el]
theorem j_cast {a n j : Nat} {f : Nat → Int32} {i : Int32} {x : Int32} (hdg : decode Y.2.1 pc = .ok (.castore, 1)) (hM : M.1 a = some (.inl (2, n, .inl f))) (hi : i = nI j) (hj : j < n) (hn : n < 2 ^ 31) (kk : JW l G h Y Q (pc + 1) ls st (j_put M a (.inl (2, n, .inl (va_up f j (vp_nar .char x)))))) : JW l G h Y Q pc ls (.int x :: .int i :: .ref a :: st) M := by
  subst hi
  refine JW.liftP kk rfl (fun p e R s m args below meth c H locs cells slots Qs arr hC hRf hRl hR hS hA k0 => ?_)
  obtain ⟨hx, hb, -, -, -, hown, hts, hK, -⟩ := hC
  obtain ⟨q0, q1⟩ := (hR.2.2 a _ hM).arrN (by decide)
  refine W.cast hx hb q1 ((j_tyAt hK (t0 := 2) rfl).1 n _) (fun q => by cases q) (j_inA _ _ hj hn) rfl rfl hdg fun H1 e1 z oq => ?_
  refine k0 H1 _ (hR.put z oq (Or.inl ⟨by decide, q0, ?_⟩)) (hS.put z oq q0) arr hA
  rw [e1, j_cell_el, nI_clamp (by omega), arrV_store]
  congr 2
  funext q
  by_cases hq : q = j
  · subst hq
    simp [updV, va_up, j_el, vp_nar]
    try rfl
  · simp [updV, va_up, hq, j_el]
theorem j_last {a n j : Nat} {f : Nat → Int64} {i : Int32} {x : Int64} (hdg : decode Y.2.1 pc = .ok (.lastore, 1)) (hM : M.1 a = some (.inl (4, n, .inr (.inl f)))) (hi : i = nI j) (hj : j < n) (hn : n < 2 ^ 31) (kk : JW l G h Y Q (pc + 1) ls st (j_put M a (.inl (4, n, .inr (.inl (va_up f j x)))))) : JW l G h Y Q pc ls (.long x :: .int i :: .ref a :: st) M := by
  subst hi
  refine JW.liftP kk rfl (fun p e R s m args below meth c H locs cells slots Qs arr hC hRf hRl hR hS hA k0 => ?_)
  obtain ⟨hx, hb, -, -, -, hown, hts, hK, -⟩ := hC
  obtain ⟨q0, q1⟩ := (hR.2.2 a _ hM).arrN (by decide)
  refine W.last hx hb q1 ((j_tyAt hK (t0 := 4) rfl).1 n _) (fun q => by cases q) (j_inA _ _ hj hn) rfl rfl hdg fun H1 e1 z oq => ?_
  refine k0 H1 _ (hR.put z oq (Or.inl ⟨by decide, q0, ?_⟩)) (hS.put z oq q0) arr hA
  rw [e1, j_cell_el, nI_clamp (by omega), arrV_store]
  congr 2
  funext q
  by_cases hq : q = j
  · subst hq
    simp [updV, va_up, j_el]
    try rfl
  · simp [updV, va_up, hq, j_el]
theorem j_aastN {a k n j : Nat} {f : Nat → Option Nat} {i : Int32} (hdg : decode Y.2.1 pc = .ok (.aastore, 1)) (hM : M.1 a = some (.inl (k, n, .inr (.inr (.inr (.inr f)))))) (hk : k = 5 ∨ k = 6 ∨ k = 7) (hi : i = nI j) (hj : j < n) (hn : n < 2 ^ 31) (kk : JW l G h Y Q (pc + 1) ls st (j_put M a (.inl (k, n, .inr (.inr (.inr (.inr (va_up f j none)))))))) : JW l G h Y Q pc ls (.null :: .int i :: .ref a :: st) M := by
  subst hi
  refine JW.liftP kk rfl (fun p e R s m args below meth c H locs cells slots Qs arr hC hRf hRl hR hS hA k0 => ?_)
  obtain ⟨hx, hb, -, -, -, hown, hts, hK, -⟩ := hC
  obtain ⟨q0, q1⟩ := (hR.2.2 a _ hM).arrN (by omega)
  have ht : ∃ C, (j_tys G)[k]? = some (jA G k, .object C) := by rcases hk with rfl | rfl | rfl <;> exact ⟨_, rfl⟩
  obtain ⟨C, ht⟩ := ht
  refine va_WaastN (C := C) hx hb q1 ((j_tyAt hK ht).1 n _) (fun h => by cases h) (j_inA _ _ hj hn) rfl rfl hdg fun H1 e1 z oq => ?_
  have hk9 : k < 10 := by omega
  refine k0 H1 _ (hR.put z oq (Or.inl ⟨hk9, q0, ?_⟩)) (hS.put z oq q0) arr hA
  rw [e1, j_cell_el, nI_clamp (by omega), arrV_store]
  congr 2
  funext q
  by_cases hq : q = j
  · subst hq
    simp [updV, va_up, j_el, va_rf]
  · simp [updV, va_up, hq, j_el]
/-- an object of class ci may lie in an array of kind k -/
def j_As (ci k : Nat) : Prop := (100 ≤ ci ∧ k = 7) ∨ ∃ (r : vw_C) (E : String), ci < 100 ∧ jcl[ci]? = some r ∧ (∀ G : j_G, (j_tys G)[k]? = some (jA G k, .object E)) ∧ (r.1 = E ∨ Cond.castable r.1 E ∈ lw_tbl)
theorem j_anyO {s : State} {ci a : Nat} {fs : List Value} {H : Heap} {r : vw_C} {E : String} (hK : jK G s) (hat : j_at G a (.inr (ci, fs)) H) (hci : ci < 100) (hc : jcl[ci]? = some r) (hE : r.1 = E ∨ Cond.castable r.1 E ∈ lw_tbl) : va_Any E s H a := by
  obtain ⟨cell, q1, q2, q3, q4, -⟩ := hat.obj hc hci
  obtain ⟨-, hfc, kC, hkC, hkind⟩ := hK.1.1 ci _ hc
  refine ⟨cell, q1, q2, ⟨kC, by rw [q4]; exact hkC⟩, fun comp hcomp => ?_⟩
  rcases hE with rfl | hE
  · cases hfc.symm.trans hcomp
    rw [q4]
    exact va_asg _ _
  · obtain ⟨c0, t0, f1, f2, f3⟩ := Cond.castable_spec (va_Nw.use (A := #[]) rfl (hK.2.1 _ hE rfl))
    cases hfc.symm.trans f1
    cases hcomp.symm.trans f2
    rw [q4]
    exact f3
theorem j_made {s : State} {cK : ClassId} {pc0 index : Nat} {σ : Lambda.Shape} (h : jL1 cK s pc0 index σ) : ∃ (k : Class) (i : ClassId), s.vm.classes[cK]? = some k ∧ s.vm.findClass σ.iface = some i ∧ s.vm.assignable cK i = true := by
  obtain ⟨m, k, cf, i0, p0, hm, hk, hcf, hsh, hin, hfind, hmade, hcall⟩ := h
  obtain ⟨dk, k1, ok, tk, file, cf1, object, iface, t, lay, methods, target, found, -, h2, -⟩ := Lambda.isMade_spec hmade
  obtain ⟨i, hi, hasg, -⟩ := State.lambdaCallable_spec hcall
  exact ⟨k1, i, h2, hi, hasg⟩
theorem j_anyL {s : State} {ci a : Nat} {fs : List Value} {H : Heap} (hK : jK G s) (hat : j_at G a (.inr (ci, fs)) H) (hci : ci = 100 ∨ ci = 101) : va_Any "PittanceHouse$Ahead" s H a := by
  have hL := hK.2.2.2.2.2.2
  rcases hat with ⟨h0, -⟩ | ⟨h0, h1, h2⟩
  · rcases hci with rfl | rfl <;> exact absurd h0 (by decide)
  · have hm : ∃ (k : Class) (i : ClassId), s.vm.classes[(jD G).1 ci]? = some k ∧ s.vm.findClass "PittanceHouse$Ahead" = some i ∧ s.vm.assignable ((jD G).1 ci) i = true := by
      rcases hci with rfl | rfl
      · exact j_made hL.1
      · exact j_made hL.2
    obtain ⟨k, i, e1, e2, e3⟩ := hm
    exact ⟨_, h2, rfl, ⟨k, e1⟩, fun comp hc => by cases e2.symm.trans hc; exact e3⟩
theorem j_aast_ {a k n j v : Nat} {f : Nat → Option Nat} {i : Int32} {E : String} (hdg : decode Y.2.1 pc = .ok (.aastore, 1)) (hM : M.1 a = some (.inl (k, n, .inr (.inr (.inr (.inr f)))))) (hk : k < 10) (hE : ∀ G : j_G, (j_tys G)[k]? = some (jA G k, .object E)) (hany : ∀ (s : State) (H : Heap), jK G s → j_R G M H → va_Any E s H v) (hi : i = nI j) (hj : j < n) (hn : n < 2 ^ 31) (kk : JW l G h Y Q (pc + 1) ls st (j_put M a (.inl (k, n, .inr (.inr (.inr (.inr (va_up f j (some v))))))))) : JW l G h Y Q pc ls (.ref v :: .int i :: .ref a :: st) M := by
  subst hi
  refine JW.liftP kk rfl (fun p e R s m args below meth c H locs cells slots Qs arr hC hRf hRl hR hS hA k0 => ?_)
  obtain ⟨hx, hb, -, -, -, hown, hts, hK, -⟩ := hC
  obtain ⟨q0, q1⟩ := (hR.2.2 a _ hM).arrN hk
  obtain ⟨cellV, g1, g3, ⟨kC, hkC⟩, hasg⟩ := hany s H hK hR
  obtain ⟨kA, comp, k1, k2, k3, -⟩ := (j_tyAt hK (hE G)).2
  obtain ⟨kE, hkE, -⟩ := Vm.findClass_spec k3
  have hin := j_inA (jA G k) (j_el (.inr (.inr (.inr (.inr f))))) hj hn
  refine W.aast hx hb q1 (fun q h => by cases h) (fun h => by cases h) k1 k2 rfl hkE ⟨fun q => hin (Or.inl q), Nat.not_le.mp fun q => hin (Or.inr q)⟩ g1 (fun q h => by rw [h] at g3; cases g3) hkC (hasg _ k3) rfl rfl hdg fun H1 e1 z oq => ?_
  refine k0 H1 _ (hR.put z oq (Or.inl ⟨hk, q0, ?_⟩)) (hS.put z oq q0) arr hA
  rw [e1, j_cell_el, nI_clamp (by omega), arrV_store]
  congr 2
  funext q
  by_cases hq : q = j
  · subst hq
    simp [updV, va_up, j_el, va_rf]
  · simp [updV, va_up, hq, j_el]
/-- Object[] takes every object -/
theorem j_aastO {a n j v ci : Nat} {f : Nat → Option Nat} {i : Int32} {fs : List Value} {r : vw_C} (hdg : decode Y.2.1 pc = .ok (.aastore, 1)) (hM : M.1 a = some (.inl (5, n, .inr (.inr (.inr (.inr f)))))) (hv : M.1 v = some (.inr (ci, fs))) (hci : ci < 100) (hc : jcl[ci]? = some r) (hw : Cond.castable r.1 "java/lang/Object" ∈ lw_tbl) (hi : i = nI j) (hj : j < n) (hn : n < 2 ^ 31) (kk : JW l G h Y Q (pc + 1) ls st (j_put M a (.inl (5, n, .inr (.inr (.inr (.inr (va_up f j (some v))))))))) : JW l G h Y Q pc ls (.ref v :: .int i :: .ref a :: st) M :=
  j_aast_ (E := "java/lang/Object") hdg hM (by decide) (fun _ => rfl) (fun s H hK hR => j_anyO hK (hR.2.2 v _ hv) hci hc (Or.inr hw)) hi hj hn kk
theorem j_aastS {a n j v : Nat} {f : Nat → Option Nat} {i : Int32} {fs : List Value} (hdg : decode Y.2.1 pc = .ok (.aastore, 1)) (hM : M.1 a = some (.inl (6, n, .inr (.inr (.inr (.inr f)))))) (hv : M.1 v = some (.inr (15, fs))) (hi : i = nI j) (hj : j < n) (hn : n < 2 ^ 31) (kk : JW l G h Y Q (pc + 1) ls st (j_put M a (.inl (6, n, .inr (.inr (.inr (.inr (va_up f j (some v))))))))) : JW l G h Y Q pc ls (.ref v :: .int i :: .ref a :: st) M :=
  j_aast_ (E := "java/lang/String") hdg hM (by decide) (fun _ => rfl) (fun s H hK hR => j_anyO (r := (RJ8, TJ8, 4)) hK (hR.2.2 v _ hv) (by decide) rfl (Or.inl rfl)) hi hj hn kk
theorem j_aastL {a n j v ci : Nat} {f : Nat → Option Nat} {i : Int32} {fs : List Value} (hdg : decode Y.2.1 pc = .ok (.aastore, 1)) (hM : M.1 a = some (.inl (7, n, .inr (.inr (.inr (.inr f)))))) (hv : M.1 v = some (.inr (ci, fs))) (hci : ci = 100 ∨ ci = 101) (hi : i = nI j) (hj : j < n) (hn : n < 2 ^ 31) (kk : JW l G h Y Q (pc + 1) ls st (j_put M a (.inl (7, n, .inr (.inr (.inr (.inr (va_up f j (some v))))))))) : JW l G h Y Q pc ls (.ref v :: .int i :: .ref a :: st) M :=
  j_aast_ (E := "PittanceHouse$Ahead") hdg hM (by decide) (fun _ => rfl) (fun s H hK hR => j_anyL hK (hR.2.2 v _ hv) hci) hi hj hn kk
theorem j_newI {n : Nat} {i : Int32} (hdg : decode Y.2.1 pc = .ok (.newarray .int, 2)) (hw : Cond.arrayClass .int ∈ lw_all) (hi : i = nI n) (hn : n < 2 ^ 24) (kk : JW l G h Y Q (pc + 2) ls (.ref M.2.1 :: st) (j_new M (.inl (0, n, .inl (fun _ => 0))) n)) : JW l G h Y Q pc ls (.int i :: st) M := by
  subst hi
  refine JW.liftN kk rfl rfl (fun p e R s m args below meth c H locs cells slots Qs arr hC hRf hRl hcells hslots hR hS hA k0 => ?_)
  obtain ⟨hx, hb, -, -, -, hown, hts, hK, -⟩ := hC
  refine va_newaK (atype := .int) hx hb (hts _ hw) rfl hdg rfl (nI_pos (by omega)) (nI_clamp (by omega)) (by show n * 4 ≤ 536870912; omega) hcells hslots hR.1 fun H1 cA e1 z1 o1 hAr hNm => ?_
  have h9 : va_RA s (jA G 0) .int := (j_tyAt hK (t0 := 0) rfl).2
  have h8 : cA = jA G 0 := Option.some.inj (hNm.symm.trans h9)
  refine k0 H1 locs (hR.new z1 o1 (Or.inl ⟨by decide, hR.2.1, ?_⟩)) ?_ arr hA
  · rw [e1, h8, j_cell_el]
    rfl
  · exact ⟨Nat.le_trans hS.1 (by rw [z1, hR.1]; omega), fun x h1 h2 => (o1 x (by rw [← hR.1]; exact Nat.lt_of_lt_of_le h1 hS.1)).trans (hS.2.1 x h1 h2), hS.2.2⟩
theorem j_newB {n : Nat} {i : Int32} (hdg : decode Y.2.1 pc = .ok (.newarray .byte, 2)) (hw : Cond.arrayClass .byte ∈ lw_all) (hi : i = nI n) (hn : n < 2 ^ 24) (kk : JW l G h Y Q (pc + 2) ls (.ref M.2.1 :: st) (j_new M (.inl (1, n, .inl (fun _ => 0))) n)) : JW l G h Y Q pc ls (.int i :: st) M := by
  subst hi
  refine JW.liftN kk rfl rfl (fun p e R s m args below meth c H locs cells slots Qs arr hC hRf hRl hcells hslots hR hS hA k0 => ?_)
  obtain ⟨hx, hb, -, -, -, hown, hts, hK, -⟩ := hC
  refine va_newaK (atype := .byte) hx hb (hts _ hw) rfl hdg rfl (nI_pos (by omega)) (nI_clamp (by omega)) (by show n * 1 ≤ 536870912; omega) hcells hslots hR.1 fun H1 cA e1 z1 o1 hAr hNm => ?_
  have h9 : va_RA s (jA G 1) .byte := (j_tyAt hK (t0 := 1) rfl).2
  have h8 : cA = jA G 1 := Option.some.inj (hNm.symm.trans h9)
  refine k0 H1 locs (hR.new z1 o1 (Or.inl ⟨by decide, hR.2.1, ?_⟩)) ?_ arr hA
  · rw [e1, h8, j_cell_el]
    rfl
  · exact ⟨Nat.le_trans hS.1 (by rw [z1, hR.1]; omega), fun x h1 h2 => (o1 x (by rw [← hR.1]; exact Nat.lt_of_lt_of_le h1 hS.1)).trans (hS.2.1 x h1 h2), hS.2.2⟩
theorem j_newC {n : Nat} {i : Int32} (hdg : decode Y.2.1 pc = .ok (.newarray .char, 2)) (hw : Cond.arrayClass .char ∈ lw_all) (hi : i = nI n) (hn : n < 2 ^ 24) (kk : JW l G h Y Q (pc + 2) ls (.ref M.2.1 :: st) (j_new M (.inl (2, n, .inl (fun _ => 0))) n)) : JW l G h Y Q pc ls (.int i :: st) M := by
  subst hi
  refine JW.liftN kk rfl rfl (fun p e R s m args below meth c H locs cells slots Qs arr hC hRf hRl hcells hslots hR hS hA k0 => ?_)
  obtain ⟨hx, hb, -, -, -, hown, hts, hK, -⟩ := hC
  refine va_newaK (atype := .char) hx hb (hts _ hw) rfl hdg rfl (nI_pos (by omega)) (nI_clamp (by omega)) (by show n * 2 ≤ 536870912; omega) hcells hslots hR.1 fun H1 cA e1 z1 o1 hAr hNm => ?_
  have h9 : va_RA s (jA G 2) .char := (j_tyAt hK (t0 := 2) rfl).2
  have h8 : cA = jA G 2 := Option.some.inj (hNm.symm.trans h9)
  refine k0 H1 locs (hR.new z1 o1 (Or.inl ⟨by decide, hR.2.1, ?_⟩)) ?_ arr hA
  · rw [e1, h8, j_cell_el]
    rfl
  · exact ⟨Nat.le_trans hS.1 (by rw [z1, hR.1]; omega), fun x h1 h2 => (o1 x (by rw [← hR.1]; exact Nat.lt_of_lt_of_le h1 hS.1)).trans (hS.2.1 x h1 h2), hS.2.2⟩
theorem j_newL {n : Nat} {i : Int32} (hdg : decode Y.2.1 pc = .ok (.newarray .long, 2)) (hw : Cond.arrayClass .long ∈ lw_all) (hi : i = nI n) (hn : n < 2 ^ 24) (kk : JW l G h Y Q (pc + 2) ls (.ref M.2.1 :: st) (j_new M (.inl (4, n, .inr (.inl (fun _ => 0)))) n)) : JW l G h Y Q pc ls (.int i :: st) M := by
  subst hi
  refine JW.liftN kk rfl rfl (fun p e R s m args below meth c H locs cells slots Qs arr hC hRf hRl hcells hslots hR hS hA k0 => ?_)
  obtain ⟨hx, hb, -, -, -, hown, hts, hK, -⟩ := hC
  refine va_newaK (atype := .long) hx hb (hts _ hw) rfl hdg rfl (nI_pos (by omega)) (nI_clamp (by omega)) (by show n * 8 ≤ 536870912; omega) hcells hslots hR.1 fun H1 cA e1 z1 o1 hAr hNm => ?_
  have h9 : va_RA s (jA G 4) .long := (j_tyAt hK (t0 := 4) rfl).2
  have h8 : cA = jA G 4 := Option.some.inj (hNm.symm.trans h9)
  refine k0 H1 locs (hR.new z1 o1 (Or.inl ⟨by decide, hR.2.1, ?_⟩)) ?_ arr hA
  · rw [e1, h8, j_cell_el]
    rfl
  · exact ⟨Nat.le_trans hS.1 (by rw [z1, hR.1]; omega), fun x h1 h2 => (o1 x (by rw [← hR.1]; exact Nat.lt_of_lt_of_le h1 hS.1)).trans (hS.2.1 x h1 h2), hS.2.2⟩
theorem j_anew {C : String} {n k index : Nat} {i : Int32} (hdg : decode Y.2.1 pc = .ok (.anewarray index, 3)) (hk : k < 10) (hE : ∀ G : j_G, (j_tys G)[k]? = some (jA G k, .object C)) (hao : C ∈ j_aos) (hcl : Cond.classLink Y.1.cls index C ∈ lw_all) (hi : i = nI n) (hn : n < 2 ^ 24) (kk : JW l G h Y Q (pc + 3) ls (.ref M.2.1 :: st) (j_new M (.inl (k, n, .inr (.inr (.inr (.inr (fun _ => none)))))) n)) : JW l G h Y Q pc ls (.int i :: st) M := by
  subst hi
  refine JW.liftN kk rfl rfl (fun p e R s m args below meth c H locs cells slots Qs arr hC hRf hRl hcells hslots hR hS hA k0 => ?_)
  obtain ⟨hx, hb, -, -, -, hown, hts, hK, -⟩ := hC
  have hcl' : (nI n).toNatClampNeg = n := nI_clamp (by omega)
  refine W.anew hx hb hown (hts _ hcl) (va_AO.use (hK.2.2.2.1 _ hao)) rfl hdg rfl (nI_pos (by omega)) (by rw [hcl']; omega) hcells (by rw [hcl']; exact hslots) fun cA kA comp f1 f2 f3 f4 => ?_
  obtain ⟨kA', comp', k1, k2, k3, k4⟩ := (j_tyAt hK (hE G)).2
  have h8 : cA = jA G k := Option.some.inj (f1.symm.trans k4)
  subst h8
  rw [hcl']
  have z1 : (H.push ({ cls := jA G k, slots := Array.replicate n .null, vm := .none } : Cell)).size = M.2.1 + 1 := by rw [Array.size_push, hR.1]
  have o1 : ∀ q : Nat, q < M.2.1 → (H.push ({ cls := jA G k, slots := Array.replicate n .null, vm := .none } : Cell))[q]? = H[q]? := fun q hq => by rw [Array.getElem?_push, if_neg (by rw [hR.1]; exact Nat.ne_of_lt hq)]
  rw [hR.1]
  refine k0 _ locs (hR.new z1 o1 (Or.inl ⟨hk, hR.2.1, ?_⟩)) ?_ arr hA
  · rw [← hR.1, Array.getElem?_push_size, arrV_new, j_cell_el]
    rfl
  · exact ⟨Nat.le_trans hS.1 (by rw [Array.size_push]; omega), fun x h1 h2 => (o1 x (by rw [← hR.1]; exact Nat.lt_of_lt_of_le h1 hS.1)).trans (hS.2.1 x h1 h2), hS.2.2⟩
set_option maxHeartbeats 1000000 in
theorem j_copy_ {a0 a k0 k n0 n1 i j c : Nat} {f g : Nat → Int32} {sp dp n : Int32} {ty : FieldType} {index : Nat} (hdg : decode Y.2.1 pc = .ok (.invokestatic index, 3)) (hlink : Cond.methodLink Y.1.cls index arraycopyName ∈ lw_all) (hnat : Cond.native arraycopyName ∈ lw_all) (hstat : Cond.static arraycopyName ∈ lw_all) (hini : Cond.initialized "java/lang/System" ∈ lw_all)
    (h0 : M.1 a0 = some (.inl (k0, n0, .inl f))) (h1 : M.1 a = some (.inl (k, n1, .inl g))) (hk : k < 10 ∧ k0 % 10 = k ∧ k0 < 20) (hE : ∀ G : j_G, (j_tys G)[k]? = some (jA G k, ty)) (hprim : refKind ty = false) (hsp : sp = nI i) (hdp : dp = nI j) (hc : n = nI c) (hb0 : i + c ≤ n0) (hb1 : j + c ≤ n1) (hz : n0 < 2 ^ 31 ∧ n1 < 2 ^ 31) (hfit : ∀ x, x < c → fits ty (.int (f (i + x))) = true) (hh : 1 ≤ h) (hst : (st.map fun v => v.category).sum ≤ 8)
    (kk : JW l G h Y Q (pc + 3) ls st (j_put M a (.inl (k, n1, .inl (va_cpy f g i j c))))) : JW l G h Y Q pc ls (.int n :: .int dp :: .ref a :: .int sp :: .ref a0 :: st) M := by
  subst hsp; subst hdp; subst hc
  refine JW.liftP kk rfl (fun p e R s m args below meth c9 H locs cells slots Qs arr hC hRf hRl hR hS hA k9 => ?_)
  obtain ⟨hx, hb, hml, -, -, hown, hts, hK, -⟩ := hC
  have nn : ∀ z : Nat, z < 2 ^ 31 → (nI z).toInt = (z : Int) := fun z hz => nI_toInt hz
  have e1 : (nI i).toNatClampNeg = i := nI_clamp (by omega)
  have e2 : (nI j).toNatClampNeg = j := nI_clamp (by omega)
  have e3 : (nI c).toNatClampNeg = c := nI_clamp (by omega)
  obtain ⟨cs, q1, q2⟩ := (hR.2.2 a0 _ h0).arr hk.2.2
  rw [hk.2.1] at q2
  obtain ⟨w0, w1⟩ := (hR.2.2 a _ h1).arrN hk.1
  have hArr := (j_tyAt hK (hE G)).1
  obtain ⟨hs6, ka, hka, cma, hkka⟩ := j_isArr hArr q2
  obtain ⟨-, kb, hkb, cmb, hkkb⟩ := hArr n1 (j_el (.inl g))
  have hq : nativeFrameWords "java/lang/System" "arraycopy" 5 ≤ 100 := by decide +kernel
  intro T hT X
  obtain ⟨vm', X', step⟩ := X.arraycopy hx hown (hts _ hlink) (hts _ hnat) (hts _ hstat) (hts _ hini) (src := a0) (dst := a) (cs := cs) (cd := arrV (jA G k) n1 (j_el (.inl g))) (srcPos := nI i) (destPos := nI j) (n := nI c) (by rw [hT]; exact q1) (by rw [hT]; exact w1)
    hs6 (fun _ h => by cases h) q2.2.1 (fun h => by cases h) hka hkb hkka hkkb (by simp [hprim]) (nI_pos (by omega)) (nI_pos (by omega)) (nI_pos (by omega))
    (by rw [nn i (by omega), nn c (by omega)]; have := q2.2.2.2.1; omega)
    (by rw [nn j (by omega), nn c (by omega)]; rw [arrV_size]; omega)
    (fun vm₁ _ x hx => by
      rw [e3] at hx
      have e : cs.slots.getD ((nI i).toNatClampNeg + x) .null = .int (f (i + x)) := by
        rw [e1, Array.getD_eq_getD_getElem?, q2.2.2.2.2.2 _ (by omega)]
        rfl
      refine ⟨?_, ?_⟩
      · rw [e]
        exact hfit x hx
      · rw [e]
        exact trivial)
    (g := F0 m pc arr (.int (nI c) :: .int (nI j) :: .ref a :: .int (nI i) :: .ref a0 :: st)) rfl (by rw [hml, ← hA.1]) (rest := st) rfl (by rw [hb]; exact hdg) (by rw [hRf]; exact hh) (by rw [hRl]; show 2 * 0 + _ + _ ≤ _; omega)
  have e9 : copied cs (arrV (jA G k) n1 (j_el (.inl g))) (nI i) (nI j) (nI c) = arrV (jA G k) n1 (j_el (.inl (va_cpy f g i j c))) := by
    unfold copied
    rw [e1, e2, e3]
    exact va_copiedX (fun z => .int z) cs (jA G k) f g q2.2.2.2.2.2 hb0
  rw [e9] at X' step
  have hl : a < H.size := j_some_lt w1
  have hheap : ((T.setVm vm').setCell a (arrV (jA G k) n1 (j_el (.inl (va_cpy f g i j c))))).heap = H.setIfInBounds a (arrV (jA G k) n1 (j_el (.inl (va_cpy f g i j c)))) := by rw [← hT]; rfl
  have oq : ∀ q : Nat, q ≠ a → (H.setIfInBounds a (arrV (jA G k) n1 (j_el (.inl (va_cpy f g i j c)))))[q]? = H[q]? := fun q hq => by simp [Array.getElem?_setIfInBounds, Ne.symm hq]
  obtain ⟨t, a1, b1⟩ := k9 _ _ (hR.put (by simp) oq (Or.inl ⟨hk.1, w0, by rw [j_cell_el]; simp [Array.getElem?_setIfInBounds, hl]⟩)) ⟨by simp; exact hS.1, fun q g1 g2 => by
      rw [oq q (fun e => g2 (by rw [e]; exact w0))]
      exact hS.2.1 q g1 g2, fun q hq => by
      rcases List.mem_append.mp hq with h | h
      · exact hS.2.2 q h
      · obtain ⟨z, -, hz⟩ := List.mem_map.mp h
        rw [← hz]
        exact w0⟩ arr hA _ hheap X'
  exact ⟨t, step t a1, b1⟩
end JArr
