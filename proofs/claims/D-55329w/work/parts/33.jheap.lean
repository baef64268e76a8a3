/-! ===== J, part 4: instructions that read or write the memory ===== -/
/-- a field, as the class own names it by its entry index, in an object of class ci, where it is the field k -/
def j_Fd (own : String) (index ci k : Nat) : Prop := ∃ (r : vw_C) (ref : String), ci < 100 ∧ jcl[ci]? = some r ∧ k < r.2.2 ∧ (∀ w ∈ u_ws r.1 r.2.1 r.2.2, w ∈ lw_all) ∧
  (Cond.fieldLink own index ref (r.2.1 k).2.1 (r.2.1 k).2.2.1 ∈ lw_all ∨ ∃ host : String, Cond.fieldLinkNest own index ref (r.2.1 k).2.1 (r.2.1 k).2.2.1 host ∈ lw_tbl) ∧ (ref = (r.2.1 k).1 ∨ Cond.sameField ref (r.2.1 k).1 (r.2.1 k).2.1 (r.2.1 k).2.2.1 ∈ lw_all)
/-- class ci's names are apart, its types are read -/
def j_Cl (ci : Nat) : Prop := ∃ (r : vw_C) (ty0 : Nat → FieldType), jcl[ci]? = some r ∧ (∀ k, k < r.2.2 → parseFieldDescriptor (r.2.1 k).2.2.1 = some (ty0 k)) ∧ (∀ a, a < r.2.2 → ∀ b, b < r.2.2 → a ≠ b → (r.2.1 a).2.1 ≠ (r.2.1 b).2.1)
section JHeap
variable {l : Launch} {G : j_G} {h : Nat} {Y : j_Y} {Q : j_Res → Prop} {pc : Nat} {ls : List (Nat × Value)} {st : List Value} {M : j_M}
theorem JW.liftP {M' : j_M} {pc' : Nat} {ls' : List (Nat × Value)} {st0 st' : List Value} (k : JW l G h Y Q pc' ls' st' M') (hz : M'.2 = M.2)
    (hstep : ∀ (p : Program) (e : Env) (R : Room) (s : State) (m : MethodId) (args : Array Value) (below : List Frame) (meth : Method) (c : Code) (H : Heap) (locs : List Loc) (cells slots : Nat) (Qs : State → Prop) (arr : Array Slot), j_C G l Y p e s m args meth c → R.frames = h → R.locals = 10154 + 40 * h → j_R G M H → va_S (j_fr G) s.heap H locs → j_has arr Y.2.2.1 ls →
      (∀ (H1 : Heap) (locs1 : List Loc), j_R G M' H1 → va_S (j_fr G) s.heap H1 locs1 → ∀ arr' : Array Slot, j_has arr' Y.2.2.1 ls' → W p l e R s m args below meth c H1 locs1 cells slots Qs (F0 m pc' arr' st')) → W p l e R s m args below meth c H locs cells slots Qs (F0 m pc arr st0)) : JW l G h Y Q pc ls st0 M := by
  obtain ⟨r, ⟨h1, h2, k⟩, hQ⟩ := k
  rw [hz] at h1 h2
  refine ⟨r, ⟨h1, h2, fun p e s m args below meth c hC H locs arr s0 hR hS hA h0 => ?_⟩, hQ⟩
  refine hstep p e _ s m args below meth c H locs _ _ _ arr hC rfl rfl hR hS hA (fun H1 locs1 hR1 hS1 arr' hA' => ?_)
  have := k p e s m args below meth c hC H1 locs1 arr' s0 hR1 hS1 hA' (by rw [hz]; exact h0)
  rw [hz] at this
  exact this
theorem JW.liftN {M' : j_M} {pc' n : Nat} {ls' : List (Nat × Value)} {st0 st' : List Value} (k : JW l G h Y Q pc' ls' st' M') (hz : M'.2.1 = M.2.1 + 1) (hn : M'.2.2 = M.2.2 + n)
    (hstep : ∀ (p : Program) (e : Env) (R : Room) (s : State) (m : MethodId) (args : Array Value) (below : List Frame) (meth : Method) (c : Code) (H : Heap) (locs : List Loc) (cells slots : Nat) (Qs : State → Prop) (arr : Array Slot), j_C G l Y p e s m args meth c → R.frames = h → R.locals = 10154 + 40 * h → cells + 1 ≤ R.cells → slots + n ≤ R.slots → j_R G M H → va_S (j_fr G) s.heap H locs → j_has arr Y.2.2.1 ls →
      (∀ (H1 : Heap) (locs1 : List Loc), j_R G M' H1 → va_S (j_fr G) s.heap H1 locs1 → ∀ arr' : Array Slot, j_has arr' Y.2.2.1 ls' → W p l e R s m args below meth c H1 locs1 (cells + 1) (slots + n) Qs (F0 m pc' arr' st')) → W p l e R s m args below meth c H locs cells slots Qs (F0 m pc arr st0)) : JW l G h Y Q pc ls st0 M := by
  obtain ⟨r, ⟨h1, h2, k⟩, hQ⟩ := k
  refine ⟨r, ⟨by omega, by omega, fun p e s m args below meth c hC H locs arr s0 hR hS hA h0 => ?_⟩, hQ⟩
  have hle : s.heap.size ≤ M.2.1 := by rw [← hR.1]; exact hS.1
  refine hstep p e _ s m args below meth c H locs _ _ _ arr hC rfl rfl ?_ ?_ hR hS hA (fun H1 locs1 hR1 hS1 arr' hA' => ?_)
  · show M.2.1 - s.heap.size + 1 ≤ r.2.2.1 - s.heap.size
    omega
  · show M.2.2 - s0 + n ≤ r.2.2.2 - s0
    omega
  · have := k p e s m args below meth c hC H1 locs1 arr' s0 hR1 hS1 hA' (by omega)
    rw [hz, hn, show M.2.1 + 1 - s.heap.size = M.2.1 - s.heap.size + 1 by omega, show M.2.2 + n - s0 = M.2.2 - s0 + n by omega] at this
    exact this
theorem j_same {s : State} {args : Array Value} {ref own n d : String} (hts : ∀ w ∈ lw_all, w.before args s = true) (hf : ref = own ∨ Cond.sameField ref own n d ∈ lw_all) : ∀ x, s.fieldFound? own n d = some x → s.fieldFound? ref n d = some x := by
  rcases hf with rfl | hf
  · exact fun _ q => q
  · exact u_same (hts _ hf)
theorem j_get {a index ci k : Nat} {fs : List Value} {v : Value} (hdg : decode Y.2.1 pc = .ok (.getfield index, 3)) (hF : j_Fd Y.1.cls index ci k) (hM : M.1 a = some (.inr (ci, fs))) (hv : fs[k]? = some v) (kk : JW l G h Y Q (pc + 3) ls (v :: st) M) : JW l G h Y Q pc ls (.ref a :: st) M := by
  obtain ⟨r, ref, hci, hc, hk, hin, hlink, hsame⟩ := hF
  refine JW.liftP kk rfl (fun p e R s m args below meth c H locs cells slots Qs arr hC hRf hRl hR hS hA k0 => ?_)
  obtain ⟨hx, hb, -, -, -, hown, hts, hK, -⟩ := hC
  obtain ⟨cell, q1, q2, q3, q4, q5⟩ := (hR.2.2 a _ hM).obj hc hci
  obtain ⟨hSl, hfc, kC, hkC, hkind⟩ := hK.1.1 ci _ hc
  obtain ⟨cf, kf, fi, f, hi, hsl⟩ := hSl k hk
  have hst := (u_facts hfc hkC (u_lays hts hin hk) hi).1
  have hslot : cell.slots[f.slot]? = some v := by
    rw [hsl, q5 k hk]
    simp [vp_V, hv]
  rcases hlink with hl | ⟨host, hl⟩
  · exact W.getf hx hb hown (hts _ hl) (j_same hts hsame _ hi) hst q1 q3 hslot rfl rfl hdg (k0 H locs hR hS arr hA)
  · exact va_Wgetf hx hb hown (va_Nw.use rfl (hK.2.1 _ hl rfl)) (j_same hts hsame _ hi) hst q1 q3 hslot rfl rfl hdg (k0 H locs hR hS arr hA)
set_option maxHeartbeats 1000000 in
theorem j_put_ {a index ci k : Nat} {fs : List Value} {v : Value} {ty : FieldType} (hdg : decode Y.2.1 pc = .ok (.putfield index, 3)) (hF : j_Fd Y.1.cls index ci k) (hcl : j_Cl ci)
    (hty : ∀ r : vw_C, jcl[ci]? = some r → parseFieldDescriptor (r.2.1 k).2.2.1 = some ty ∧ ((r.2.1 k).2.2.2 = false ∨ (Y.1.name = "<init>" ∧ (r.2.1 k).1 = Y.1.cls)))
    (hM : M.1 a = some (.inr (ci, fs))) (hw : jB G ≤ a ∨ (ci ≠ 15 ∧ ci ≠ 18)) (hn : narrow ty v = v) (hfit : fits ty v = true) (hl : k < fs.length) (kk : JW l G h Y Q (pc + 3) ls st (j_put M a (.inr (ci, fs.set k v)))) : JW l G h Y Q pc ls (v :: .ref a :: st) M := by
  obtain ⟨r, ref, hci, hc, hk, hin, hlink, hsame⟩ := hF
  obtain ⟨r', ty0, hc', hty0, hnm⟩ := hcl
  cases hc.symm.trans hc'
  obtain ⟨hd, hfin⟩ := hty r hc
  refine JW.liftP kk rfl (fun p e R s m args below meth c H locs cells slots Qs arr hC hRf hRl hR hS hA k0 => ?_)
  obtain ⟨hx, hb, -, -, -, hown, hts, hK, -, -, hnmeth, -⟩ := hC
  obtain ⟨hba, cell, q1, q2, q3, q4⟩ := (hR.2.2 a _ hM).objN hc hci hw
  have hap := va_apart (own := Y.1.cls) hts hin ty0 hty0 hnm hK.1 hc
  obtain ⟨hSl, hfc, kC, hkC, hkind⟩ := hK.1.1 ci _ hc
  obtain ⟨cf, kf, fi, f, hi, hsl⟩ := hSl k hk
  have hlay := hts _ (hin _ (u_in_lay hk))
  have hst := (u_facts hfc hkC (u_lays hts hin hk) hi).1
  have fin : ∀ H' : Heap, H'[a]? = some (cell.setSlot f.slot v) → H'.size = H.size → (∀ q, q ≠ a → H'[q]? = H[q]?) → W p l e R s m args below meth c H' (locs ++ [⟨a, f.slot⟩]) cells slots Qs (F0 m (pc + 3) arr st) := by
    intro H' e1 e2 e3
    rw [hsl] at e1 ⊢
    refine k0 H' _ (hR.put e2 e3 (Or.inl ⟨hci, r, hc, Or.inl ⟨hba, ?_⟩⟩)) (hS.put e2 e3 hba) arr hA
    exact t_OB.to (V := updV (vp_V fs) k v) ⟨_, e1, q2, q3, t_set q4 hap hk v⟩ (fun j _ => vp_updV_set hl v j)
  have hlt : f.slot < cell.slots.size := by rw [hsl]; exact k2_hasslot (q4 k hk)
  rcases hfin with hfin | ⟨hin2, hdecl⟩
  · unfold u_lay at hlay
    rw [if_neg (by rw [hfin]; decide)] at hlay
    have h6 := u_store hfc hkC hkind hlay hi hd hn hfit
    rcases hlink with hl1 | ⟨host, hl1⟩
    · exact W.putK hx hb (f := f) ⟨hown, hts _ hl1, ⟨_, _, _, j_same hts hsame _ hi⟩, hst⟩ (by rw [q2]; exact h6) q1 q3 hlt rfl rfl hdg fin
    · exact va_WputK hx hb (f := f) hown (va_Nw.use rfl (hK.2.1 _ hl1 rfl)) (j_same hts hsame _ hi) hst (by rw [q2]; exact h6) q1 q3 hlt rfl rfl hdg fin
  · by_cases hff : (r.2.1 k).2.2.2 = true
    · unfold u_lay at hlay
      rw [if_pos hff] at hlay
      have hcf : m.cls = cf := by
        obtain ⟨_, _, c', _, _, _, -, -, hf', -, -, -, hown2, -⟩ := Cond.laysFinal_spec hlay
        have e1 : c' = cf := by have := hi.symm.trans hf'; simp at this; exact this.1.symm
        rw [hdecl] at hown2
        rw [← e1]; exact Option.some.inj (hown.symm.trans hown2)
      have h6 := u_fits hfc hkC hkind (Or.inr hlay) hi hd hn hfit
      rcases hlink with hl1 | ⟨host, hl1⟩
      · exact W.putFinK hx hb hown (hts _ hl1) (j_same hts hsame _ hi) hst hcf (hnmeth.trans hin2) (by rw [q2]; exact h6) q1 q3 hlt rfl rfl hdg fin
      · refine va_Wputf hx hb hown (va_Nw.use rfl (hK.2.1 _ hl1 rfl)) (j_same hts hsame _ hi) hst (Or.inr ⟨hcf, hnmeth.trans hin2⟩) q1 (by rw [q3]; exact fun h => by cases h) hlt h6.1 (by rw [q2, q3]; exact h6.2) rfl rfl hdg (fin _ ?_ ?_ ?_)
        · rw [Array.getElem?_setIfInBounds_self_of_lt (j_some_lt q1)]
        · simp
        · intro q hq
          rw [Array.getElem?_setIfInBounds_ne (fun z => hq z.symm)]
    · unfold u_lay at hlay
      rw [if_neg hff] at hlay
      have h6 := u_store hfc hkC hkind hlay hi hd hn hfit
      rcases hlink with hl1 | ⟨host, hl1⟩
      · exact W.putK hx hb (f := f) ⟨hown, hts _ hl1, ⟨_, _, _, j_same hts hsame _ hi⟩, hst⟩ (by rw [q2]; exact h6) q1 q3 hlt rfl rfl hdg fin
      · exact va_WputK hx hb (f := f) hown (va_Nw.use rfl (hK.2.1 _ hl1 rfl)) (j_same hts hsame _ hi) hst (by rw [q2]; exact h6) q1 q3 hlt rfl rfl hdg fin
theorem j_gets {index i : Nat} {t : String × String × String} {ref : String} (hdg : decode Y.2.1 pc = .ok (.getstatic index, 3)) (hi : j_stats[i]? = some t) (hlink : Cond.fieldLink Y.1.cls index ref t.2.1 t.2.2 ∈ lw_all) (hsame : ref = t.1 ∨ Cond.sameField ref t.1 t.2.1 t.2.2 ∈ lw_all) (kk : JW l G h Y Q (pc + 3) ls (jSv G i :: st) M) : JW l G h Y Q pc ls st M := by
  refine JW.liftP kk rfl (fun p e R s m args below meth c H locs cells slots Qs arr hC hRf hRl hR hS hA k0 => ?_)
  obtain ⟨hx, hb, -, -, -, hown, hts, hK, hZ, -⟩ := hC
  exact va_gets hx hb (hZ i t hi) hS hown (hts _ hlink) (j_same hts hsame) hdg (k0 H locs hR hS arr hA)
/-- what 'new' asks -/
def j_Nw (own : String) (index ci : Nat) (fs : List Value) (N : Nat) : Prop := ∃ (r : vw_C) (ty : Nat → FieldType), ci < 100 ∧ jcl[ci]? = some r ∧ r.2.2 = N ∧ (∀ w ∈ u_ws r.1 r.2.1 r.2.2, w ∈ lw_all) ∧ (∀ k, k < r.2.2 → parseFieldDescriptor (r.2.1 k).2.2.1 = some (ty k)) ∧ (∀ j, j < r.2.2 → defaultValue (ty j) = vp_V fs j) ∧
  Cond.classLink own index r.1 ∈ lw_all ∧ Cond.instantiable r.1 r.2.2 ∈ lw_all ∧ Cond.initialized r.1 ∈ lw_all
theorem j_new_ {index ci N : Nat} {fs : List Value} (hdg : decode Y.2.1 pc = .ok (.new index, 3)) (hN : j_Nw Y.1.cls index ci fs N) (kk : JW l G h Y Q (pc + 3) ls (.ref M.2.1 :: st) (j_new M (.inr (ci, fs)) N)) : JW l G h Y Q pc ls st M := by
  obtain ⟨r, ty, hci, hc, rfl, hin, hty, hfs, hcl, hinst, hini⟩ := hN
  refine JW.liftN kk rfl rfl (fun p e R s m args below meth c H locs cells slots Qs arr hC hRf hRl hcells hslots hR hS hA k0 => ?_)
  obtain ⟨hx, hb, -, -, -, hown, hts, hK, -⟩ := hC
  have hKn := hK.1.1 ci _ hc
  refine W.newcK hx hb hown (hts _ hcl) (hts _ hinst) (hts _ hini) rfl hdg hcells hslots hKn.2.1 hR.1 fun H1 kC hkC e1 z1 o1 => ?_
  refine k0 H1 locs (hR.new z1 o1 (Or.inl ⟨hci, r, hc, Or.inl ⟨hR.2.1, (u_born ty hts hin hKn hkC e1 hty).to hfs⟩⟩)) ?_ arr hA
  exact ⟨Nat.le_trans hS.1 (by rw [z1, hR.1]; omega), fun x h1 h2 => (o1 x (by rw [← hR.1]; exact Nat.lt_of_lt_of_le h1 hS.1)).trans (hS.2.1 x h1 h2), hS.2.2⟩
theorem j_objInit {idx a : Nat} (hdg : decode Y.2.1 pc = .ok (.invokespecial idx, 3)) (h1 : Cond.methodLink Y.1.cls idx objectInit ∈ lw_all) (h2 : Cond.instanceMethod objectInit ∈ lw_all) (h3 : Cond.code objectInit ⟨#[0xb1]⟩ 1 none ∈ lw_all) (hh : 1 ≤ h) (hst : (st.map fun v => v.category).sum ≤ 8) (kk : JW l G h Y Q (pc + 3) ls st M) : JW l G h Y Q pc ls (.ref a :: st) M := by
  refine JW.liftP kk rfl (fun p e R s m args below meth c H locs cells slots Qs arr hC hRf hRl hR hS hA k0 => ?_)
  obtain ⟨hx, hb, hml, -, -, hown, hts, -⟩ := hC
  refine W.objInit hx hb hown (hts _ h1) (hts _ h2) (hts _ h3) rfl (hA.1.trans hml.symm) rfl hdg (by rw [hRf]; exact hh) ?_ (W.eq (g2 := F0 m (pc + 3) arr st) rfl (k0 H locs hR hS arr hA))
  have := lv_room (m := m) (pc := pc) (ls := arr) (rest := .ref a :: st) hst
  rw [hRl]
  omega
end JHeap
