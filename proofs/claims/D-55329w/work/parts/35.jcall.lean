/-! ===== J, part 6: casts, ends, exceptions, calls (printed in part by tools/gen_call.py) ===== -/
section JCast
variable {l : Launch} {G : j_G} {h : Nat} {Y : j_Y} {Q : j_Res → Prop} {pc : Nat} {ls : List (Nat × Value)} {st : List Value} {M : j_M}
theorem j_recv {s : State} {H : Heap} {a ci : Nat} {fs : List Value} {r : vw_C} (hK : jK G s) (hR : j_R G M H) (hM : M.1 a = some (.inr (ci, fs))) (hci : ci < 100) (hc : jcl[ci]? = some r) : ∃ cell : Cell, H[a]? = some cell ∧ cell.vm.isStatics = false ∧ s.vm.findClass r.1 = some cell.cls := by
  obtain ⟨cell, q1, q2, q3, q4, -⟩ := (hR.2.2 a _ hM).obj hc hci
  obtain ⟨-, hfc, -⟩ := hK.1.1 ci _ hc
  exact ⟨cell, q1, q2, by rw [q4]; exact hfc⟩
theorem j_chk {a index ci : Nat} {fs : List Value} {r : vw_C} {nm : String} (hdg : decode Y.2.1 pc = .ok (.checkcast index, 3)) (hM : M.1 a = some (.inr (ci, fs))) (hci : ci < 100) (hc : jcl[ci]? = some r) (hlink : Cond.classLink Y.1.cls index nm ∈ lw_all) (hE : r.1 = nm ∨ Cond.castable r.1 nm ∈ lw_tbl) (kk : JW l G h Y Q (pc + 3) ls (.ref a :: st) M) : JW l G h Y Q pc ls (.ref a :: st) M := by
  refine JW.liftP kk rfl (fun p e R s m args below meth c H locs cells slots Qs arr hC hRf hRl hR hS hA k0 => ?_)
  obtain ⟨hx, hb, -, -, -, hown, hts, hK, -⟩ := hC
  have hr := j_recv hK hR hM hci hc
  rcases hE with rfl | hE
  · exact va_castS hx hb hown (hts _ hlink) (hK.1.1 ci _ hc).2 hr hdg (k0 H locs hR hS arr hA)
  · exact va_castY hx hb hown (hts _ hlink) (hK.2.1 _ hE rfl) hr hdg (k0 H locs hR hS arr hA)
theorem j_inst {a index ci : Nat} {fs : List Value} {r : vw_C} {nm : String} (hdg : decode Y.2.1 pc = .ok (.instanceof index, 3)) (hM : M.1 a = some (.inr (ci, fs))) (hci : ci < 100) (hc : jcl[ci]? = some r) (hlink : Cond.classLink Y.1.cls index nm ∈ lw_all) (hE : r.1 = nm ∨ Cond.castable r.1 nm ∈ lw_tbl) (kk : JW l G h Y Q (pc + 3) ls (.int 1 :: st) M) : JW l G h Y Q pc ls (.ref a :: st) M := by
  refine JW.liftP kk rfl (fun p e R s m args below meth c H locs cells slots Qs arr hC hRf hRl hR hS hA k0 => ?_)
  obtain ⟨hx, hb, -, -, -, hown, hts, hK, -⟩ := hC
  have hr := j_recv hK hR hM hci hc
  rcases hE with rfl | hE
  · exact va_instS hx hb hown (hts _ hlink) (hK.1.1 ci _ hc).2 hr hdg (k0 H locs hR hS arr hA)
  · exact va_instY hx hb hown (hts _ hlink) (hK.2.1 _ hE rfl) hr hdg (k0 H locs hR hS arr hA)
/-- a cast of an array to its own type's name nm -/
theorem j_castA {a index k n : Nat} {x : j_X} {nm : String} {ty : FieldType} (hdg : decode Y.2.1 pc = .ok (.checkcast index, 3)) (hM : M.1 a = some (.inl (k, n, x))) (hk : k < 10) (hE : ∀ G : j_G, (j_tys G)[k]? = some (jA G k, ty)) (hnm : ∀ (s : State) (cA : ClassId), va_RA s cA ty → s.vm.findClass nm = some cA) (hlink : Cond.classLink Y.1.cls index nm ∈ lw_all) (kk : JW l G h Y Q (pc + 3) ls (.ref a :: st) M) : JW l G h Y Q pc ls (.ref a :: st) M := by
  refine JW.liftP kk rfl (fun p e R s m args below meth c H locs cells slots Qs arr hC hRf hRl hR hS hA k0 => ?_)
  obtain ⟨hx, hb, -, -, -, hown, hts, hK, -⟩ := hC
  obtain ⟨q0, q1⟩ := (hR.2.2 a _ hM).arrN hk
  intro T hT X
  obtain ⟨vm', X', st9⟩ := X.checkcastYes hx hown (hts _ hlink) (by rw [hT]; exact q1) rfl (hnm s _ (j_tyAt hK (hE G)).2) (va_asg _ _) (g := F0 m pc arr (.ref a :: st)) rfl rfl (by rw [hb]; exact hdg)
  obtain ⟨t, a1, b1⟩ := k0 H locs hR hS arr hA (T.setVm vm') hT X'
  exact ⟨t, st9 t a1, b1⟩
end JCast
section JEnds
variable {l : Launch} {G : j_G} {h : Nat} {Y : j_Y} {Q : j_Res → Prop} {pc : Nat} {ls : List (Nat × Value)} {st : List Value} {M : j_M}
theorem j_retLift {p : Program} {e : Env} {R : Room} {s : State} {m : MethodId} {args : Array Value} {below : List Frame} {meth : Method} {c : Code} {H : Heap} {locs : List Loc} {cells slots mc ms : Nat} {g : JFrame} {r : j_Res}
    (k : W p l e R s m args below meth c H locs cells slots (MQ below (fun _ st o t => ∃ v : Option Value, o = .returned v ∧ j_Qr G r st v t) args s mc ms (j_fr G)) g) : W p l e R s m args below meth c H locs cells slots (j_MQ below G r args s mc ms) g := by
  intro T hT X
  obtain ⟨t, a1, o, b1, b2, ⟨v, rfl, b3⟩, b4⟩ := k T hT X
  exact ⟨t, a1, _, b1, b2, Or.inl ⟨v, rfl, b3, b4⟩⟩
theorem j_retQ {s t : State} {H : Heap} {locs : List Loc} {v : Option Value} (hR : j_R G M H) (hS : va_S (j_fr G) s.heap H locs) (ht : t.heap = H) : j_Qr G (.inl v, M) s v t := ⟨⟨M, rfl, by rw [ht]; exact hR⟩, hS.F ht⟩
theorem j_ireturn {v : Int32} (hdg : decode Y.2.1 pc = .ok (.ireturn, 1)) (hr : Y.2.2.2.1 = some .int) (hq : Q (.inl (some (.int v)), M)) : JW l G h Y Q pc ls [.int v] M := by
  refine ⟨(.inl (some (.int v)), M), ⟨Nat.le_refl _, Nat.le_refl _, fun p e s m args below meth c hC H locs arr s0 hR hS hA h0 => ?_⟩, hq⟩
  obtain ⟨hx, hb, -, hr9, hlk, -⟩ := hC
  exact j_retLift (W.iret hx hb (hr9.trans hr) (fun t ht hW => ⟨_, rfl, j_retQ hR hS ht⟩) hS.2.2 hdg hlk)
theorem j_lreturn {v : Int64} (hdg : decode Y.2.1 pc = .ok (.lreturn, 1)) (hr : Y.2.2.2.1 = some .long) (hq : Q (.inl (some (.long v)), M)) : JW l G h Y Q pc ls [.long v] M := by
  refine ⟨(.inl (some (.long v)), M), ⟨Nat.le_refl _, Nat.le_refl _, fun p e s m args below meth c hC H locs arr s0 hR hS hA h0 => ?_⟩, hq⟩
  obtain ⟨hx, hb, -, hr9, hlk, -⟩ := hC
  exact j_retLift (W.lret hx hb (hr9.trans hr) (fun t ht hW => ⟨_, rfl, j_retQ hR hS ht⟩) hS.2.2 hdg hlk)
theorem j_freturn {v : UInt32} (hdg : decode Y.2.1 pc = .ok (.freturn, 1)) (hr : Y.2.2.2.1 = some .float) (hq : Q (.inl (some (.float v)), M)) : JW l G h Y Q pc ls [.float v] M := by
  refine ⟨(.inl (some (.float v)), M), ⟨Nat.le_refl _, Nat.le_refl _, fun p e s m args below meth c hC H locs arr s0 hR hS hA h0 => ?_⟩, hq⟩
  obtain ⟨hx, hb, -, hr9, hlk, -⟩ := hC
  exact j_retLift (W.fret hx hb (hr9.trans hr) (fun t ht hW => ⟨_, rfl, j_retQ hR hS ht⟩) hS.2.2 hdg hlk)
theorem j_dreturn {v : UInt64} (hdg : decode Y.2.1 pc = .ok (.dreturn, 1)) (hr : Y.2.2.2.1 = some .double) (hq : Q (.inl (some (.double v)), M)) : JW l G h Y Q pc ls [.double v] M := by
  refine ⟨(.inl (some (.double v)), M), ⟨Nat.le_refl _, Nat.le_refl _, fun p e s m args below meth c hC H locs arr s0 hR hS hA h0 => ?_⟩, hq⟩
  obtain ⟨hx, hb, -, hr9, hlk, -⟩ := hC
  exact j_retLift (W.dret hx hb (hr9.trans hr) (fun t ht hW => ⟨_, rfl, j_retQ hR hS ht⟩) hS.2.2 hdg hlk)
theorem j_zreturn {v : Int32} {ty : FieldType} (hdg : decode Y.2.1 pc = .ok (.ireturn, 1)) (hr : Y.2.2.2.1 = some ty) (hn : narrow ty (.int v) = .int v) (hq : Q (.inl (some (.int v)), M)) : JW l G h Y Q pc ls [.int v] M := by
  refine ⟨(.inl (some (.int v)), M), ⟨Nat.le_refl _, Nat.le_refl _, fun p e s m args below meth c hC H locs arr s0 hR hS hA h0 => ?_⟩, hq⟩
  obtain ⟨hx, hb, -, hr9, hlk, -⟩ := hC
  exact j_retLift (W.zret hx hb (hr9.trans hr) hn (fun t ht hW => ⟨_, rfl, j_retQ hR hS ht⟩) hS.2.2 hdg hlk)
theorem j_return (hdg : decode Y.2.1 pc = .ok (.return_, 1)) (hr : Y.2.2.2.1 = none) (hq : Q (.inl none, M)) : JW l G h Y Q pc ls [] M := by
  refine ⟨(.inl none, M), ⟨Nat.le_refl _, Nat.le_refl _, fun p e s m args below meth c hC H locs arr s0 hR hS hA h0 => ?_⟩, hq⟩
  obtain ⟨hx, hb, -, hr9, hlk, -⟩ := hC
  exact j_retLift (W.vret hx hb (hr9.trans hr) (fun t ht hW => ⟨_, rfl, j_retQ hR hS ht⟩) hS.2.2 hdg hlk)
theorem j_areturn {v : Value} {rt : FieldType} (hdg : decode Y.2.1 pc = .ok (.areturn, 1)) (hr : Y.2.2.2.1 = some rt) (hrt : rt.isReference = true) (hv : v.isRef = true) (hq : Q (.inl (some v), M)) : JW l G h Y Q pc ls [v] M := by
  have hrt' : (∃ n, rt = .object n) ∨ ∃ t, rt = .array t := by
    cases rt <;> first | exact Or.inl ⟨_, rfl⟩ | exact Or.inr ⟨_, rfl⟩ | cases hrt
  refine ⟨(.inl (some v), M), ⟨Nat.le_refl _, Nat.le_refl _, fun p e s m args below meth c hC H locs arr s0 hR hS hA h0 => ?_⟩, hq⟩
  obtain ⟨hx, hb, -, hr9, hlk, -⟩ := hC
  exact j_retLift (W.aret hx hb (hr9.trans hr) hrt' (j_refV hv) (fun t ht hW => ⟨_, rfl, j_retQ hR hS ht⟩) hS.2.2 hdg hlk)
theorem j_athrow {q : Nat} (hdg : decode Y.2.1 pc = .ok (.athrow, 1)) (k : JX l G h Y Q pc ls q M) : JW l G h Y Q pc ls (.ref q :: st) M := by
  obtain ⟨r, ⟨h1, h2, k⟩, hQ⟩ := k
  exact ⟨r, ⟨h1, h2, fun p e s m args below meth c hC H locs arr s0 hR hS hA h0 => vx_athrow hC.1 hC.2.1 hdg (k p e s m args below meth c hC H locs arr s0 hR hS hA h0 st)⟩, hQ⟩
/-- the handlers z lie elsewhere, or ask another class -/
def j_Pass (own : String) (E : String) (pc : Nat) (zs : List (Nat × Nat × Nat × Nat)) : Prop := ∀ z ∈ zs, covers ⟨z.1, z.2.1, z.2.2.1, z.2.2.2⟩ pc = false ∨ (z.2.2.2 ≠ 0 ∧ ∃ nm : String, Cond.classLink own z.2.2.2 nm ∈ lw_all ∧ (E, nm) ∈ j_ncs)
theorem j_pass {own E : String} {zs : List (Nat × Nat × Nat × Nat)} {s : State} {args : Array Value} (hts : ∀ w ∈ lw_all, w.before args s = true) (hK : jK G s) (h : j_Pass own E pc zs) : ∀ z ∈ tableOf zs, covers z pc = false ∨ (z.catchType ≠ 0 ∧ ∃ nm : String, (Cond.classLink own z.catchType nm).before args s = true ∧ va_Nc E nm s) := by
  intro z hz
  obtain ⟨q, hq, rfl⟩ := List.mem_map.mp hz
  rcases h q hq with h1 | ⟨h1, nm, h2, h3⟩
  · exact Or.inl h1
  · exact Or.inr ⟨h1, nm, hts _ h2, hK.2.2.2.2.2.1 _ h3⟩
theorem j_out {q ci : Nat} {fs : List Value} {rc : vw_C} (hM : M.1 q = some (.inr (ci, fs))) (hci : ci < 100 ∧ ci ≠ 15 ∧ ci ≠ 18) (hc : jcl[ci]? = some rc) (hp : j_Pass Y.1.cls rc.1 pc Y.2.2.2.2) (hq : Q (.inr q, M)) : JX l G h Y Q pc ls q M := by
  refine ⟨(.inr q, M), ⟨Nat.le_refl _, Nat.le_refl _, fun p e s m args below meth c hC H locs arr s0 hR hS hA h0 rest => ?_⟩, hq⟩
  obtain ⟨hx, hb, -, -, hlk, hown, hts, hK, -, htab, -⟩ := hC
  obtain ⟨hbq, ce, e1, e2, e3, -⟩ := (hR.2.2 q _ hM).objN hc hci.1 (Or.inr hci.2)
  obtain ⟨-, hfc, -⟩ := hK.1.1 ci _ hc
  have hcl : s.vm.findClass rc.1 = some ce.cls := by rw [e2]; exact hfc
  intro T hT X
  have hpl : e.platform.magicAccessors = ({} : Platform).magicAccessors := by rw [X.admits.platform]
  obtain ⟨vm', hW', X', st9⟩ := X.outThrough hlk q (g := F0 m pc arr rest) rfl rfl rfl (cell := ce) (by rw [hT]; exact e1) (by rw [e3]; rfl)
    (by obtain ⟨k9, h9, -⟩ := Vm.findClass_spec hcl; exact ⟨k9, h9⟩) (fun z hz => by
      rw [htab] at hz
      rcases j_pass hts hK hp z hz with h | ⟨hz0, nm, hl1, hn1⟩
      · exact Or.inl h
      · obtain ⟨c6, hc6, hcl6⟩ := Cond.classLink_spec hown hl1 e.platform hpl
        obtain ⟨a8, b8, h1, h2, h3⟩ := hn1
        cases Option.some.inj (h1.symm.trans hcl)
        cases Option.some.inj (h2.symm.trans hc6)
        exact Or.inr ⟨hz0, _, hcl6, h3⟩)
  obtain ⟨g₀, hfr⟩ := X'.frames_eq
  have hend : Ended ((T.setVm vm').setFrames (.throwing q :: below)) below (.threw q) := State.frames_setFrames _ (State.cur_lt_of_frames hfr)
  have ht9 : ((T.setVm vm').setFrames (.throwing q :: below)).heap = H := hT
  refine ⟨(T.setVm vm').setFrames (.throwing q :: below), ?_, .threw q, X'.here.running, hend, Or.inr ⟨q, rfl, ⟨⟨M, ci, fs, rfl, by rw [ht9]; exact hR, hM, hci.1, hbq⟩, hS.F ht9⟩, locs, (X'.ends _).1, (X'.ends _).2.mono (Nat.le_refl _) (Nat.le_refl _), hS.2.2⟩⟩
  rw [X.pushThrowing_eq]
  exact st9
theorem j_catch {q ci : Nat} {fs : List Value} {rc : vw_C} {nm : String} (pre : List (Nat × Nat × Nat × Nat)) (x : Nat × Nat × Nat × Nat) (suf : List (Nat × Nat × Nat × Nat)) (hM : M.1 q = some (.inr (ci, fs))) (hci : ci < 100 ∧ ci ≠ 15 ∧ ci ≠ 18) (hc : jcl[ci]? = some rc) (hsplit : Y.2.2.2.2 = pre ++ x :: suf) (hp : j_Pass Y.1.cls rc.1 pc pre) (hx0 : covers ⟨x.1, x.2.1, x.2.2.1, x.2.2.2⟩ pc = true) (h00 : x.2.2.2 ≠ 0) (hlink : Cond.classLink Y.1.cls x.2.2.2 nm ∈ lw_all) (hE : rc.1 = nm ∨ Cond.castable rc.1 nm ∈ lw_tbl) (kk : JW l G h Y Q x.2.2.1 ls [.ref q] M) : JX l G h Y Q pc ls q M := by
  obtain ⟨r, ⟨h1, h2, k⟩, hQ⟩ := kk
  refine ⟨r, ⟨h1, h2, fun p e s m args below meth c hC H locs arr s0 hR hS hA h0 rest => ?_⟩, hQ⟩
  have k9 := k p e s m args below meth c hC H locs arr s0 hR hS hA h0
  obtain ⟨hx, hb, -, -, hlk, hown, hts, hK, -, htab, -⟩ := hC
  obtain ⟨hbq, ce, e1, e2, e3, -⟩ := (hR.2.2 q _ hM).objN hc hci.1 (Or.inr hci.2)
  obtain ⟨-, hfc, -⟩ := hK.1.1 ci _ hc
  have hcl : s.vm.findClass rc.1 = some ce.cls := by rw [e2]; exact hfc
  intro T hT X
  have hpl : e.platform.magicAccessors = ({} : Platform).magicAccessors := by rw [X.admits.platform]
  obtain ⟨c5, hc5, hcl5⟩ := Cond.classLink_spec hown (hts _ hlink) e.platform hpl
  have hasg : s.vm.assignable ce.cls c5 = true := by
    rcases hE with rfl | hE
    · cases Option.some.inj (hcl.symm.trans hc5)
      exact va_asg _ _
    · obtain ⟨c3, c4, hc3, hc4, hasg⟩ := Cond.castable_spec (va_Nw.use (A := #[]) rfl (hK.2.1 _ hE rfl))
      cases Option.some.inj (hc3.symm.trans hcl)
      cases Option.some.inj (hc4.symm.trans hc5)
      exact hasg
  have hsp : c.exceptionTable.toList = tableOf pre ++ ⟨x.1, x.2.1, x.2.2.1, x.2.2.2⟩ :: tableOf suf := by
    rw [htab, hsplit]
    simp [tableOf]
  obtain ⟨vm', X', st9⟩ := X.thenCaughtThrough q (g := F0 m pc arr rest) rfl (Steps.refl _) (by rw [hT]; exact e1) (by rw [e3]; rfl) (by obtain ⟨k9, h9, -⟩ := Vm.findClass_spec hcl; exact ⟨k9, h9⟩) (tableOf pre) ⟨x.1, x.2.1, x.2.2.1, x.2.2.2⟩ (tableOf suf) hsp
    (fun z hz => by
      rcases j_pass hts hK hp z hz with h | ⟨hz0, nm, hl1, hn1⟩
      · exact Or.inl h
      · obtain ⟨c6, hc6, hcl6⟩ := Cond.classLink_spec hown hl1 e.platform hpl
        obtain ⟨a8, b8, h1, h2, h3⟩ := hn1
        cases Option.some.inj (h1.symm.trans hcl)
        cases Option.some.inj (h2.symm.trans hc6)
        exact Or.inr ⟨hz0, _, hcl6, h3⟩) hx0 (Or.inr ⟨h00, c5, hcl5, hasg⟩)
  obtain ⟨t, a1, b1⟩ := k9 (T.setVm vm') hT X'
  exact ⟨t, st9.trans a1, b1⟩
end JEnds
section JCalls
/-- a method's name can be called: its class, its parameters -/
def j_Mt (y : MethodName) (n : Nat) : Prop := (y.cls ≠ "java/lang/invoke/MethodHandle" ∧ y.cls ≠ "java/lang/invoke/VarHandle") ∧ (parseMethodDescriptor y.desc).map (fun d => d.parameters.length) = some n ∧ Cond.initialized y.cls ∈ lw_all
variable {l : Launch} {G : j_G} {h h' : Nat} {Y : j_Y} {Q Q' : j_Res → Prop} {pc : Nat} {ls : List (Nat × Value)} {st : List Value} {M : j_M}
theorem j_len {y : MethodName} {As : List Value} {n : Nat} (h : (parseMethodDescriptor y.desc).map (fun d => d.parameters.length) = some n) (hA : As.length = n) : ∀ sig, parseMethodDescriptor y.desc = some sig → As.length = sig.parameters.length := by
  intro sig hs
  rw [hs] at h
  exact hA.trans (Option.some.inj h).symm
section Pay
variable {p : Program} {e : Env} {R : Room} {s : State} {m : MethodId} {args : Array Value} {below : List Frame} {meth : Method} {c : Code} {y : MethodName} {b : ByteArray} {L : Nat} {rt : Option FieldType} {As : List Value} {r : j_Res} {len : Nat}
theorem j_payC (hJ : J l G h' y (ws_ y b L rt) As M r) (hts : ∀ w ∈ lw_all, w.before args s = true) (hRf : R.frames = h) (hRl : R.locals = 10154 + 40 * h) (hh : h' + 1 ≤ h) (hL : L ≤ 21) (hcode : Cond.code y b L rt ∈ lw_all) (hini : Cond.initialized y.cls ∈ lw_all) :
    vx_Back l R p e below s args y len 8 (PreOf R (r.2.2.1 - M.2.1) (r.2.2.2 - M.2.2) (j_Pc G As M)) (j_Post G r (r.2.2.1 - M.2.1) (r.2.2.2 - M.2.2)) (j_PostX G r (r.2.2.1 - M.2.1) (r.2.2.2 - M.2.2)) := by
  have hpay := pay_in hts (lw_meth hcode)
  refine j_back (maxL := L) hJ (by omega) (by omega) hpay (fun a' U mk hW hn => ?_) (fun a' U hW => word_at hW (Or.inl (by first | rfl | simp [Cond.onTables, Cond.keeps, Cond.steady])) (hts _ hini))
  obtain ⟨methY, cY, h1, h2, -, h3, -⟩ := Cond.code_spec hn (hpay _ List.mem_cons_self a' U hW)
  exact ⟨methY, cY, h1, h2, h3⟩
theorem j_payH {hh9 : List (Nat × Nat × Nat × Nat)} (hJ : J l G h' y (wsW_ y b L rt hh9) As M r) (hts : ∀ w ∈ lw_all, w.before args s = true) (hRf : R.frames = h) (hRl : R.locals = 10154 + 40 * h) (hh : h' + 1 ≤ h) (hL : L ≤ 21) (hcode : Cond.codeWith y b L rt hh9 ∈ lw_all) (hini : Cond.initialized y.cls ∈ lw_all) :
    vx_Back l R p e below s args y len 8 (PreOf R (r.2.2.1 - M.2.1) (r.2.2.2 - M.2.2) (j_Pc G As M)) (j_Post G r (r.2.2.1 - M.2.1) (r.2.2.2 - M.2.2)) (j_PostX G r (r.2.2.1 - M.2.1) (r.2.2.2 - M.2.2)) := by
  have hpay := pay_in hts (lw_methW hcode)
  refine j_back (maxL := L) hJ (by omega) (by omega) hpay (fun a' U mk hW hn => ?_) (fun a' U hW => word_at hW (Or.inl (by first | rfl | simp [Cond.onTables, Cond.keeps, Cond.steady])) (hts _ hini))
  obtain ⟨m9, methY, cY, h0, h1, h2, -, h3, -⟩ := Cond.codeWith_spec (hpay _ List.mem_cons_self a' U hW)
  cases hn.symm.trans h0
  exact ⟨methY, cY, h1, h2, h3⟩
end Pay
/-- what a call has done, as the kit's rows say it -/
def j_Did (l : Launch) (G : j_G) (p : Program) (e : Env) (R : Room) (s : State) (m : MethodId) (args : Array Value) (below : List Frame) (meth : Method) (c : Code) (T : State) (locs : List Loc) (cells slots mc ms : Nat) (r : j_Res) (a : Array Value) (g : JFrame) (len : Nat) (rest : List Value) : Prop :=
  (∃ (v : Option Value) (vm₁ : Vm) (B : Pt), s.WarmedH vm₁ ∧ Stand p l e R s m args below meth c B.U B.locs B.cells B.slots ∧ j_Post G r mc ms ⟨T.setVm vm₁, locs, cells, slots⟩ a v B ∧
      ∀ target, Steps p.tables e below (B.U.setTop { g with pc := g.pc + len, stack := v.toList ++ rest }) target → Steps p.tables e below (T.setTop g) target) ∨
    (∃ (q : Addr) (vm₁ : Vm) (B : Pt), s.WarmedH vm₁ ∧ Stand p l e R s m args below meth c B.U B.locs B.cells B.slots ∧ j_PostX G r mc ms ⟨T.setVm vm₁, locs, cells, slots⟩ a q B ∧
      Steps p.tables e below (T.setTop g) ((B.U.setTop { g with stack := rest }).pushFrame (.throwing q)))
theorem j_did {p : Program} {e : Env} {R : Room} {s : State} {m : MethodId} {args : Array Value} {below : List Frame} {meth : Method} {c : Code} {T : State} {H : Heap} {locs : List Loc} {cells slots mc ms : Nat} {r : j_Res} {a : Array Value} {arr : Array Slot} {st0 rest : List Value} {len : Nat} {Qs : State → Prop}
    (hD : j_Did l G p e R s m args below meth c T locs cells slots mc ms r a (F0 m pc arr st0) len rest) (hT : T.heap = H) (hS : va_S (j_fr G) s.heap H locs)
    (kk : ∀ v M', r = (.inl v, M') → ∀ (H1 : Heap) (locs1 : List Loc), j_R G M' H1 → va_S (j_fr G) s.heap H1 locs1 → W p l e R s m args below meth c H1 locs1 (cells + mc) (slots + ms) Qs (F0 m (pc + len) arr (v.toList ++ rest)))
    (kx : ∀ q M', r = (.inr q, M') → ∀ (H1 : Heap) (locs1 : List Loc), j_R G M' H1 → va_S (j_fr G) s.heap H1 locs1 → vx_W p l e R s m args below meth c H1 locs1 (cells + mc) (slots + ms) Qs (F0 m pc arr rest) q) : ∃ t, Steps p.tables e below (T.setTop (F0 m pc arr st0)) t ∧ Qs t := by
  have keep : ∀ {t : State} {B : Pt} {vm₁ : Vm} {g9 : JFrame} {mk : MethodId} {L : List Loc}, B.U.heap = t.heap → va_F (j_fr G) ((T.setVm vm₁).calling g9 mk a) t → B.locs = locs ++ L → (∀ z ∈ L, j_fr G z.base) → va_S (j_fr G) s.heap B.U.heap B.locs := by
    intro t B vm₁ g9 mk L e1 hF eL hL
    have h0 : ((T.setVm vm₁).calling g9 mk a).heap = H := hT
    obtain ⟨z1, z2⟩ := hF
    rw [h0] at z1 z2
    rw [e1, eL]
    refine ⟨Nat.le_trans hS.1 z1, fun q h1 h2 => (z2 q (Nat.lt_of_lt_of_le h1 hS.1) h2).trans (hS.2.1 q h1 h2), fun z hz => ?_⟩
    rcases List.mem_append.mp hz with h | h
    · exact hS.2.2 z h
    · exact hL z h
  rcases hD with ⟨v, vm₁, B, hW, X', ⟨g9, mk, t, L, e1, e2, ⟨⟨M', hr, hR⟩, hF⟩, eL, hL, ec, es⟩, hst⟩ | ⟨q, vm₁, B, hW, X', ⟨g9, mk, t, L, e1, e2, ⟨⟨M', ci, fs, hr, hR, -⟩, hF⟩, eL, hL, ec, es⟩, hst⟩
  · have X2 : Stand p l e R s m args below meth c B.U B.locs (cells + mc) (slots + ms) := by
      have h1 : B.cells = cells + mc := ec
      have h2 : B.slots = slots + ms := es
      rw [h1, h2] at X'
      exact X'
    obtain ⟨t2, a1, b1⟩ := kk v M' hr B.U.heap B.locs (by rw [e1]; exact hR) (keep e1 hF eL hL) B.U rfl X2
    exact ⟨t2, hst t2 a1, b1⟩
  · have X2 : Stand p l e R s m args below meth c B.U B.locs (cells + mc) (slots + ms) := by
      have h1 : B.cells = cells + mc := ec
      have h2 : B.slots = slots + ms := es
      rw [h1, h2] at X'
      exact X'
    obtain ⟨t2, a1, b1⟩ := kx q M' hr B.U.heap B.locs (by rw [e1]; exact hR) (keep e1 hF eL hL) B.U rfl X2
    exact ⟨t2, hst.trans a1, b1⟩
/-- a call, whatever its kind -/
theorem JW.call {y : MethodName} {ws : List Cond} {As : List Value} {st0 rest : List Value} {len : Nat} (hJ : JM l G h' y ws As M Q')
    (hstep : ∀ r : j_Res, J l G h' y ws As M r → ∀ (p : Program) (e : Env) (R : Room) (s : State) (m : MethodId) (args : Array Value) (below : List Frame) (meth : Method) (c : Code) (H : Heap) (locs : List Loc) (cells slots : Nat) (arr : Array Slot) (T : State), j_C G l Y p e s m args meth c → R.frames = h → R.locals = 10154 + 40 * h → j_R G M H → arr.size = c.maxLocals → T.heap = H → Stand p l e R s m args below meth c T locs cells slots →
      (∀ vm₁, s.WarmedH vm₁ → PreOf R (r.2.2.1 - M.2.1) (r.2.2.2 - M.2.2) (j_Pc G As M) ⟨T.setVm vm₁, locs, cells, slots⟩ As.toArray) → j_Did l G p e R s m args below meth c T locs cells slots (r.2.2.1 - M.2.1) (r.2.2.2 - M.2.2) r As.toArray (F0 m pc arr st0) len rest)
    (kk : ∀ v M', Q' (.inl v, M') → JW l G h Y Q (pc + len) ls (v.toList ++ rest) M') (kx : ∀ q M', Q' (.inr q, M') → JX l G h Y Q pc ls q M') : JW l G h Y Q pc ls st0 M := by
  obtain ⟨r', hJ, hQ'⟩ := hJ
  have hm1 := hJ.1
  have hm2 := hJ.2.1
  have key : ∀ r : j_Res, r'.2.2.1 ≤ r.2.2.1 → r'.2.2.2 ≤ r.2.2.2 → (∀ v M', r' = (.inl v, M') → jW l G h Y r (pc + len) ls (v.toList ++ rest) M') → (∀ q M', r' = (.inr q, M') → jX l G h Y r pc ls q M') → jW l G h Y r pc ls st0 M := by
    intro r g1 g2 k1 k2
    refine ⟨by omega, by omega, fun p e s m args below meth c hC H locs arr s0 hR hS hA h0 => ?_⟩
    have hle : s.heap.size ≤ M.2.1 := by rw [← hR.1]; exact hS.1
    intro T hT X
    have hD := hstep r' hJ p e _ s m args below meth c H locs _ _ arr T hC rfl rfl hR (hA.1.trans hC.2.2.1.symm) hT X (fun vm₁ hW => by
      refine ⟨?_, ?_, rfl, hC.2.2.2.2.2.2.2.1.moved (U := T.setVm vm₁) hW, ?_, by rw [show (T.setVm vm₁).heap = H from hT]; exact hR⟩
      · show M.2.1 - s.heap.size + (r'.2.2.1 - M.2.1) ≤ r.2.2.1 - s.heap.size
        omega
      · show M.2.2 - s0 + (r'.2.2.2 - M.2.2) ≤ r.2.2.2 - s0
        omega
      · rw [show (T.setVm vm₁).heap = H from hT]
        exact jZ.moved (u := s) (U := T.setVm vm₁) hW.alike (jZ.kept hS.2.1 hC.2.2.2.2.2.2.2.2.1))
    have ec : M.2.1 - s.heap.size + (r'.2.2.1 - M.2.1) = r'.2.2.1 - s.heap.size := by omega
    have es : M.2.2 - s0 + (r'.2.2.2 - M.2.2) = r'.2.2.2 - s0 := by omega
    refine j_did hD hT hS (fun v M' hr H1 locs1 hR1 hS1 => ?_) (fun q M' hr H1 locs1 hR1 hS1 => ?_)
    · rw [ec, es]
      have := (k1 v M' hr).2.2 p e s m args below meth c hC H1 locs1 arr s0 hR1 hS1 hA (by rw [hr] at hm2; exact Nat.le_trans h0 hm2)
      rw [hr]
      exact this
    · rw [ec, es]
      have := (k2 q M' hr).2.2 p e s m args below meth c hC H1 locs1 arr s0 hR1 hS1 hA (by rw [hr] at hm2; exact Nat.le_trans h0 hm2) rest
      rw [hr]
      exact this
  obtain ⟨o, M'⟩ := r'
  rcases o with v | q
  · obtain ⟨r, k, hQ⟩ := kk v M' hQ'
    exact ⟨r, key r k.1 k.2.1 (fun v1 M1 e1 => by cases e1; exact k) (fun q1 M1 e1 => by cases e1), hQ⟩
  · obtain ⟨r, k, hQ⟩ := kx q M' hQ'
    exact ⟨r, key r k.1 k.2.1 (fun v1 M1 e1 => by cases e1) (fun q1 M1 e1 => by cases e1; exact k), hQ⟩
theorem jk_v {x : Value} {Mv : j_M} {pc2 : Nat} {rest : List Value} (k : JW l G h Y Q pc2 ls (x :: rest) Mv) : ∀ v M', jv x Mv (.inl v, M') → JW l G h Y Q pc2 ls (v.toList ++ rest) M' := by
  intro v M' e
  cases e
  exact k
theorem jx_v {x : Value} {Mv : j_M} : ∀ q M', jv x Mv (.inr q, M') → JX l G h Y Q pc ls q M' := by
  intro q M' e
  cases e
theorem jk_r {P : Option Value → j_M → Prop} {pc2 : Nat} {rest : List Value} (k : ∀ v M', P v M' → JW l G h Y Q pc2 ls (v.toList ++ rest) M') : ∀ v M', jr P (.inl v, M') → JW l G h Y Q pc2 ls (v.toList ++ rest) M' := by
  rintro v M' ⟨v1, M1, e, hp⟩
  cases e
  exact k v M' hp
theorem jx_r {P : Option Value → j_M → Prop} : ∀ q M', jr P (.inr q, M') → JX l G h Y Q pc ls q M' := by
  rintro q M' ⟨v1, M1, e, hp⟩
  cases e
theorem j_callS {y : MethodName} {b : ByteArray} {L n index : Nat} {rt : Option FieldType} {As : List Value} {rest st0 : List Value} (hJ : JM l G h' y (ws_ y b L rt) As M Q') (hdg : decode Y.2.1 pc = .ok (.invokestatic index, 3)) (hm : j_Mt y n) (hlink : Cond.methodLink Y.1.cls index y ∈ lw_all) (hstat : Cond.static y ∈ lw_all) (hcode : Cond.code y b L rt ∈ lw_all ∧ L ≤ 21) (hh : h' + 1 ≤ h) (hn : As.length = n) (hs0 : st0 = As.reverse ++ rest) (hst : (rest.map fun v => v.category).sum ≤ 8)
    (kk : ∀ v M', Q' (.inl v, M') → JW l G h Y Q (pc + 3) ls (v.toList ++ rest) M') (kx : ∀ q M', Q' (.inr q, M') → JX l G h Y Q pc ls q M') : JW l G h Y Q pc ls st0 M := by
  subst hs0
  refine JW.call hJ (fun r hJr p e R s m args below meth c H locs cells slots arr T hC hRf hRl hR hml hT X hpre => by
    have hW9 := lv_room (m := m) (pc := pc) (ls := arr) (rest := As.reverse ++ rest) hst
    obtain ⟨hx, hb, hml9, -, -, hown, hts, hK, -⟩ := hC
    have hbk := j_payC (p := p) (e := e) (below := below) (R := R) (len := 3) hJr hts hRf hRl hh hcode.2 hcode.1 hm.2.2
    
    exact vx_callS X hx hown (hts _ hlink) (hts _ hstat) (hts _ hm.2.2) (hts _ hcode.1) hm.1 hbk rfl hml (j_len hm.2.1 hn) rfl hW9 (by rw [hb]; exact hdg) hpre) kk kx
theorem j_callV {y : MethodName} {b : ByteArray} {L n index : Nat} {rt : Option FieldType} {As : List Value} {rest st0 : List Value} {a ci : Nat} {fs : List Value} {rc : vw_C} (hJ : JM l G h' y (ws_ y b L rt) (.ref a :: As) M Q') (hdg : decode Y.2.1 pc = .ok (.invokevirtual index, 3)) (hm : j_Mt y n) (hlink : Cond.methodLink Y.1.cls index y ∈ lw_all) (hinst : Cond.instanceMethod y ∈ lw_all) (hsel : Cond.selects rc.1 y y ∈ lw_all) (hM : M.1 a = some (.inr (ci, fs))) (hci : ci < 100) (hc : jcl[ci]? = some rc) (hcode : Cond.code y b L rt ∈ lw_all ∧ L ≤ 21) (hh : h' + 1 ≤ h) (hn : As.length = n) (hs0 : st0 = As.reverse ++ .ref a :: rest) (hst : (rest.map fun v => v.category).sum ≤ 8)
    (kk : ∀ v M', Q' (.inl v, M') → JW l G h Y Q (pc + 3) ls (v.toList ++ rest) M') (kx : ∀ q M', Q' (.inr q, M') → JX l G h Y Q pc ls q M') : JW l G h Y Q pc ls st0 M := by
  subst hs0
  refine JW.call hJ (fun r hJr p e R s m args below meth c H locs cells slots arr T hC hRf hRl hR hml hT X hpre => by
    have hW9 := lv_room (m := m) (pc := pc) (ls := arr) (rest := As.reverse ++ .ref a :: rest) hst
    obtain ⟨hx, hb, hml9, -, -, hown, hts, hK, -⟩ := hC
    have hbk := j_payC (p := p) (e := e) (below := below) (R := R) (len := 3) hJr hts hRf hRl hh hcode.2 hcode.1 hm.2.2
    obtain ⟨cellB, g1, g2, g3⟩ := j_recv hK hR hM hci hc
    exact vx_callV X hx hown (hts _ hlink) (hts _ hinst) (hts _ hsel) (hts _ hcode.1) hm.1 hbk (by rw [hT]; exact g1) g2 g3 rfl hml (j_len hm.2.1 hn) rfl hW9 (by rw [hb]; exact hdg) hpre) kk kx
theorem j_callSH {y : MethodName} {b : ByteArray} {L n index : Nat} {rt : Option FieldType} {As : List Value} {rest st0 : List Value} {hh9 : List (Nat × Nat × Nat × Nat)} (hJ : JM l G h' y (wsW_ y b L rt hh9) As M Q') (hdg : decode Y.2.1 pc = .ok (.invokestatic index, 3)) (hm : j_Mt y n) (hlink : Cond.methodLink Y.1.cls index y ∈ lw_all) (hstat : Cond.static y ∈ lw_all) (hcode : Cond.codeWith y b L rt hh9 ∈ lw_all ∧ L ≤ 21) (hh : h' + 1 ≤ h) (hn : As.length = n) (hs0 : st0 = As.reverse ++ rest) (hst : (rest.map fun v => v.category).sum ≤ 8)
    (kk : ∀ v M', Q' (.inl v, M') → JW l G h Y Q (pc + 3) ls (v.toList ++ rest) M') (kx : ∀ q M', Q' (.inr q, M') → JX l G h Y Q pc ls q M') : JW l G h Y Q pc ls st0 M := by
  subst hs0
  refine JW.call hJ (fun r hJr p e R s m args below meth c H locs cells slots arr T hC hRf hRl hR hml hT X hpre => by
    have hW9 := lv_room (m := m) (pc := pc) (ls := arr) (rest := As.reverse ++ rest) hst
    obtain ⟨hx, hb, hml9, -, -, hown, hts, hK, -⟩ := hC
    have hbk := j_payH (p := p) (e := e) (below := below) (R := R) (len := 3) hJr hts hRf hRl hh hcode.2 hcode.1 hm.2.2
    
    exact vx_callSX X hx hown (hts _ hlink) (hts _ hstat) (hts _ hm.2.2) (hts _ hcode.1) hm.1 hbk rfl hml (j_len hm.2.1 hn) rfl hW9 (by rw [hb]; exact hdg) hpre) kk kx
theorem j_callVH {y : MethodName} {b : ByteArray} {L n index : Nat} {rt : Option FieldType} {As : List Value} {rest st0 : List Value} {hh9 : List (Nat × Nat × Nat × Nat)} {a ci : Nat} {fs : List Value} {rc : vw_C} (hJ : JM l G h' y (wsW_ y b L rt hh9) (.ref a :: As) M Q') (hdg : decode Y.2.1 pc = .ok (.invokevirtual index, 3)) (hm : j_Mt y n) (hlink : Cond.methodLink Y.1.cls index y ∈ lw_all) (hinst : Cond.instanceMethod y ∈ lw_all) (hsel : Cond.selects rc.1 y y ∈ lw_all) (hM : M.1 a = some (.inr (ci, fs))) (hci : ci < 100) (hc : jcl[ci]? = some rc) (hcode : Cond.codeWith y b L rt hh9 ∈ lw_all ∧ L ≤ 21) (hh : h' + 1 ≤ h) (hn : As.length = n) (hs0 : st0 = As.reverse ++ .ref a :: rest) (hst : (rest.map fun v => v.category).sum ≤ 8)
    (kk : ∀ v M', Q' (.inl v, M') → JW l G h Y Q (pc + 3) ls (v.toList ++ rest) M') (kx : ∀ q M', Q' (.inr q, M') → JX l G h Y Q pc ls q M') : JW l G h Y Q pc ls st0 M := by
  subst hs0
  refine JW.call hJ (fun r hJr p e R s m args below meth c H locs cells slots arr T hC hRf hRl hR hml hT X hpre => by
    have hW9 := lv_room (m := m) (pc := pc) (ls := arr) (rest := As.reverse ++ .ref a :: rest) hst
    obtain ⟨hx, hb, hml9, -, -, hown, hts, hK, -⟩ := hC
    have hbk := j_payH (p := p) (e := e) (below := below) (R := R) (len := 3) hJr hts hRf hRl hh hcode.2 hcode.1 hm.2.2
    obtain ⟨cellB, g1, g2, g3⟩ := j_recv hK hR hM hci hc
    exact vx_callVX X hx hown (hts _ hlink) (hts _ hinst) (hts _ hsel) (hts _ hcode.1) hm.1 hbk (by rw [hT]; exact g1) g2 g3 rfl hml (j_len hm.2.1 hn) rfl hW9 (by rw [hb]; exact hdg) hpre) kk kx
theorem j_callI {y : MethodName} {b : ByteArray} {L n index : Nat} {rt : Option FieldType} {As : List Value} {rest st0 : List Value} {a : Nat} (hJ : JM l G h' y (ws_ y b L rt) (.ref a :: As) M Q') (hdg : decode Y.2.1 pc = .ok (.invokespecial index, 3)) (hm : j_Mt y n) (hlink : Cond.methodLink Y.1.cls index y ∈ lw_all) (hinst : Cond.instanceMethod y ∈ lw_all) (hrt : rt = none) (hy1 : y.name = "<init>") (hcode : Cond.code y b L rt ∈ lw_all ∧ L ≤ 21) (hh : h' + 1 ≤ h) (hn : As.length = n) (hs0 : st0 = As.reverse ++ .ref a :: rest) (hst : (rest.map fun v => v.category).sum ≤ 8)
    (kk : ∀ v M', Q' (.inl v, M') → JW l G h Y Q (pc + 3) ls (v.toList ++ rest) M') (kx : ∀ q M', Q' (.inr q, M') → JX l G h Y Q pc ls q M') : JW l G h Y Q pc ls st0 M := by
  subst hs0
  refine JW.call hJ (fun r hJr p e R s m args below meth c H locs cells slots arr T hC hRf hRl hR hml hT X hpre => by
    have hW9 := lv_room (m := m) (pc := pc) (ls := arr) (rest := As.reverse ++ .ref a :: rest) hst
    obtain ⟨hx, hb, hml9, -, -, hown, hts, hK, -⟩ := hC
    have hbk := j_payC (p := p) (e := e) (below := below) (R := R) (len := 3) hJr hts hRf hRl hh hcode.2 hcode.1 hm.2.2
    subst hrt
    exact vx_callI X hx hown hy1 (hts _ hlink) (hts _ hinst) (hts _ hcode.1) hm.1 hbk rfl hml (j_len hm.2.1 hn) rfl hW9 (by rw [hb]; exact hdg) hpre) kk kx
theorem j_callIN {y : MethodName} {b : ByteArray} {L n index : Nat} {rt : Option FieldType} {As : List Value} {rest st0 : List Value} {a : Nat} (hJ : JM l G h' y (ws_ y b L rt) (.ref a :: As) M Q') (hdg : decode Y.2.1 pc = .ok (.invokespecial index, 3)) (hm : j_Mt y n) {host : String} (hlink : Cond.methodLinkNest Y.1.cls index y host ∈ lw_tbl) (hinst : Cond.instanceMethod y ∈ lw_all) (hrt : rt = none) (hy1 : y.name = "<init>") (hcode : Cond.code y b L rt ∈ lw_all ∧ L ≤ 21) (hh : h' + 1 ≤ h) (hn : As.length = n) (hs0 : st0 = As.reverse ++ .ref a :: rest) (hst : (rest.map fun v => v.category).sum ≤ 8)
    (kk : ∀ v M', Q' (.inl v, M') → JW l G h Y Q (pc + 3) ls (v.toList ++ rest) M') (kx : ∀ q M', Q' (.inr q, M') → JX l G h Y Q pc ls q M') : JW l G h Y Q pc ls st0 M := by
  subst hs0
  refine JW.call hJ (fun r hJr p e R s m args below meth c H locs cells slots arr T hC hRf hRl hR hml hT X hpre => by
    have hW9 := lv_room (m := m) (pc := pc) (ls := arr) (rest := As.reverse ++ .ref a :: rest) hst
    obtain ⟨hx, hb, hml9, -, -, hown, hts, hK, -⟩ := hC
    have hbk := j_payC (p := p) (e := e) (below := below) (R := R) (len := 3) hJr hts hRf hRl hh hcode.2 hcode.1 hm.2.2
    subst hrt
    exact vx_callIN X hx hown hy1 (va_Nw.use rfl (hK.2.1 _ hlink rfl)) (hts _ hinst) (hts _ hcode.1) hm.1 hbk rfl hml (j_len hm.2.1 hn) rfl hW9 (by rw [hb]; exact hdg) hpre) kk kx
theorem j_callVN {y : MethodName} {b : ByteArray} {L n index : Nat} {rt : Option FieldType} {As : List Value} {rest st0 : List Value} {a ci : Nat} {fs : List Value} {rc : vw_C} (hJ : JM l G h' y (ws_ y b L rt) (.ref a :: As) M Q') (hdg : decode Y.2.1 pc = .ok (.invokevirtual index, 3)) (hm : j_Mt y n) {host : String} (hlink : Cond.methodLinkNest Y.1.cls index y host ∈ lw_tbl) (hinst : Cond.instanceMethod y ∈ lw_all) (hsel : Cond.selects rc.1 y y ∈ lw_all) (hM : M.1 a = some (.inr (ci, fs))) (hci : ci < 100) (hc : jcl[ci]? = some rc) (hcode : Cond.code y b L rt ∈ lw_all ∧ L ≤ 21) (hh : h' + 1 ≤ h) (hn : As.length = n) (hs0 : st0 = As.reverse ++ .ref a :: rest) (hst : (rest.map fun v => v.category).sum ≤ 8)
    (kk : ∀ v M', Q' (.inl v, M') → JW l G h Y Q (pc + 3) ls (v.toList ++ rest) M') (kx : ∀ q M', Q' (.inr q, M') → JX l G h Y Q pc ls q M') : JW l G h Y Q pc ls st0 M := by
  subst hs0
  refine JW.call hJ (fun r hJr p e R s m args below meth c H locs cells slots arr T hC hRf hRl hR hml hT X hpre => by
    have hW9 := lv_room (m := m) (pc := pc) (ls := arr) (rest := As.reverse ++ .ref a :: rest) hst
    obtain ⟨hx, hb, hml9, -, -, hown, hts, hK, -⟩ := hC
    have hbk := j_payC (p := p) (e := e) (below := below) (R := R) (len := 3) hJr hts hRf hRl hh hcode.2 hcode.1 hm.2.2
    obtain ⟨cellB, g1, g2, g3⟩ := j_recv hK hR hM hci hc
    exact vx_callVN X hx hown (va_Nw.use rfl (hK.2.1 _ hlink rfl)) (hts _ hinst) (hts _ hsel) (hts _ hcode.1) hm.1 hbk (by rw [hT]; exact g1) g2 g3 rfl hml (j_len hm.2.1 hn) rfl hW9 (by rw [hb]; exact hdg) hpre) kk kx
theorem j_callSN {y : MethodName} {b : ByteArray} {L n index : Nat} {rt : Option FieldType} {As : List Value} {rest st0 : List Value} (hJ : JM l G h' y (ws_ y b L rt) As M Q') (hdg : decode Y.2.1 pc = .ok (.invokestatic index, 3)) (hm : j_Mt y n) {host : String} (hlink : Cond.methodLinkNest Y.1.cls index y host ∈ lw_tbl) (hstat : Cond.static y ∈ lw_all) (hcode : Cond.code y b L rt ∈ lw_all ∧ L ≤ 21) (hh : h' + 1 ≤ h) (hn : As.length = n) (hs0 : st0 = As.reverse ++ rest) (hst : (rest.map fun v => v.category).sum ≤ 8)
    (kk : ∀ v M', Q' (.inl v, M') → JW l G h Y Q (pc + 3) ls (v.toList ++ rest) M') (kx : ∀ q M', Q' (.inr q, M') → JX l G h Y Q pc ls q M') : JW l G h Y Q pc ls st0 M := by
  subst hs0
  refine JW.call hJ (fun r hJr p e R s m args below meth c H locs cells slots arr T hC hRf hRl hR hml hT X hpre => by
    have hW9 := lv_room (m := m) (pc := pc) (ls := arr) (rest := As.reverse ++ rest) hst
    obtain ⟨hx, hb, hml9, -, -, hown, hts, hK, -⟩ := hC
    have hbk := j_payC (p := p) (e := e) (below := below) (R := R) (len := 3) hJr hts hRf hRl hh hcode.2 hcode.1 hm.2.2
    
    exact vx_callSN X hx hown (va_Nw.use rfl (hK.2.1 _ hlink rfl)) (hts _ hstat) (hts _ hm.2.2) (hts _ hcode.1) hm.1 hbk rfl hml (j_len hm.2.1 hn) rfl hW9 (by rw [hb]; exact hdg) hpre) kk kx
theorem j_callU {y : MethodName} {b : ByteArray} {L n index : Nat} {rt : Option FieldType} {As : List Value} {rest st0 : List Value} {a ci : Nat} {fs : List Value} {rc : vw_C} (hJ : JM l G h' y (ws_ y b L rt) (.ref a :: As) M Q') (hdg : decode Y.2.1 pc = .ok (.invokevirtual index, 3)) (hm : j_Mt y n) {x : MethodName} {owner : String} (hlink : Cond.methodLink Y.1.cls index x ∈ lw_all) (hsame : Cond.sameMethod x.cls owner x.name x.desc ∈ lw_all) (hdecl : (∃ (b9 : ByteArray) (L9 : Nat) (r9 : Option FieldType), Cond.instanceMethod ⟨owner, x.name, x.desc⟩ ∈ lw_all ∧ Cond.code ⟨owner, x.name, x.desc⟩ b9 L9 r9 ∈ lw_all) ∨ Cond.declares ⟨owner, x.name, x.desc⟩ ∈ lw_tbl) (hown9 : owner ≠ "java/lang/invoke/MethodHandle" ∧ owner ≠ "java/lang/invoke/VarHandle") (hxd : x.desc = y.desc) (hsel : Cond.selects rc.1 x y ∈ lw_all) (hinst : Cond.instanceMethod y ∈ lw_all) (hM : M.1 a = some (.inr (ci, fs))) (hci : ci < 100) (hc : jcl[ci]? = some rc) (hcode : Cond.code y b L rt ∈ lw_all ∧ L ≤ 21) (hh : h' + 1 ≤ h) (hn : As.length = n) (hs0 : st0 = As.reverse ++ .ref a :: rest) (hst : (rest.map fun v => v.category).sum ≤ 8)
    (kk : ∀ v M', Q' (.inl v, M') → JW l G h Y Q (pc + 3) ls (v.toList ++ rest) M') (kx : ∀ q M', Q' (.inr q, M') → JX l G h Y Q pc ls q M') : JW l G h Y Q pc ls st0 M := by
  subst hs0
  refine JW.call hJ (fun r hJr p e R s m args below meth c H locs cells slots arr T hC hRf hRl hR hml hT X hpre => by
    have hW9 := lv_room (m := m) (pc := pc) (ls := arr) (rest := As.reverse ++ .ref a :: rest) hst
    obtain ⟨hx, hb, hml9, -, -, hown, hts, hK, -⟩ := hC
    have hbk := j_payC (p := p) (e := e) (below := below) (R := R) (len := 3) hJr hts hRf hRl hh hcode.2 hcode.1 hm.2.2
    obtain ⟨cellB, g1, g2, g3⟩ := j_recv hK hR hM hci hc
    have hdc : va_Decl s ⟨owner, x.name, x.desc⟩ := by
      rcases hdecl with ⟨b9, L9, r9, h, h9⟩ | h
      · exact va_Decl.of (hts _ h) (hts _ h9)
      · exact va_Decl.abs (hK.2.1 _ h rfl)
    exact vx_callVU X hx hown (hts _ hlink) (hts _ hsame) hdc hown9 (hts _ hsel) (hts _ hinst) (hts _ hcode.1) hbk (by rw [hT]; exact g1) g2 g3 rfl hml (by rw [hxd]; exact j_len hm.2.1 hn) rfl hW9 (by rw [hb]; exact hdg) hpre) kk kx
theorem j_callF {y : MethodName} {b : ByteArray} {L n index : Nat} {rt : Option FieldType} {As : List Value} {rest st0 : List Value} {a ci count : Nat} {fs : List Value} {rc : vw_C} (hJ : JM l G h' y (ws_ y b L rt) (.ref a :: As) M Q') (hdg : decode Y.2.1 pc = .ok (.invokeinterface index count, 5)) (hm : j_Mt y n) {x : MethodName} (hlink : Cond.methodLink Y.1.cls index x ∈ lw_all) (hface : (rc.1, x, y) ∈ j_faces) (hxd : x.desc = y.desc) (hsel : Cond.selects rc.1 x y ∈ lw_all) (hinst : Cond.instanceMethod y ∈ lw_all) (hM : M.1 a = some (.inr (ci, fs))) (hci : ci < 100) (hc : jcl[ci]? = some rc) (hcode : Cond.code y b L rt ∈ lw_all ∧ L ≤ 21) (hh : h' + 1 ≤ h) (hn : As.length = n) (hs0 : st0 = As.reverse ++ .ref a :: rest) (hst : (rest.map fun v => v.category).sum ≤ 8)
    (kk : ∀ v M', Q' (.inl v, M') → JW l G h Y Q (pc + 5) ls (v.toList ++ rest) M') (kx : ∀ q M', Q' (.inr q, M') → JX l G h Y Q pc ls q M') : JW l G h Y Q pc ls st0 M := by
  subst hs0
  refine JW.call hJ (fun r hJr p e R s m args below meth c H locs cells slots arr T hC hRf hRl hR hml hT X hpre => by
    have hW9 := lv_room (m := m) (pc := pc) (ls := arr) (rest := As.reverse ++ .ref a :: rest) hst
    obtain ⟨hx, hb, hml9, -, -, hown, hts, hK, -⟩ := hC
    have hbk := j_payC (p := p) (e := e) (below := below) (R := R) (len := 5) hJr hts hRf hRl hh hcode.2 hcode.1 hm.2.2
    obtain ⟨cellB, g1, g2, g3⟩ := j_recv hK hR hM hci hc
    obtain ⟨kB, g4, -⟩ := Vm.findClass_spec g3
    obtain ⟨f1, f2, f3, f4, f5⟩ := hK.2.2.1 _ hface
    exact vx_callIF X hx hown (hts _ hlink) (va_any rfl f1) (va_any rfl f2) (hts _ hsel) (hts _ hinst) (va_any rfl f3) (va_any rfl f4) (va_any rfl f5) (hts _ hcode.1) (j_faces_ok _ hface) hbk (by rw [hT]; exact g1) g2 g3 g4 rfl hml (by rw [hxd]; exact j_len hm.2.1 hn) rfl hW9 (by rw [hb]; exact hdg) hpre) kk kx
theorem j_callFH {y : MethodName} {b : ByteArray} {L n index : Nat} {rt : Option FieldType} {As : List Value} {rest st0 : List Value} {hh9 : List (Nat × Nat × Nat × Nat)} {a ci count : Nat} {fs : List Value} {rc : vw_C} (hJ : JM l G h' y (wsW_ y b L rt hh9) (.ref a :: As) M Q') (hdg : decode Y.2.1 pc = .ok (.invokeinterface index count, 5)) (hm : j_Mt y n) {x : MethodName} (hlink : Cond.methodLink Y.1.cls index x ∈ lw_all) (hface : (rc.1, x, y) ∈ j_faces) (hxd : x.desc = y.desc) (hsel : Cond.selects rc.1 x y ∈ lw_all) (hinst : Cond.instanceMethod y ∈ lw_all) (hM : M.1 a = some (.inr (ci, fs))) (hci : ci < 100) (hc : jcl[ci]? = some rc) (hcode : Cond.codeWith y b L rt hh9 ∈ lw_all ∧ L ≤ 21) (hh : h' + 1 ≤ h) (hn : As.length = n) (hs0 : st0 = As.reverse ++ .ref a :: rest) (hst : (rest.map fun v => v.category).sum ≤ 8)
    (kk : ∀ v M', Q' (.inl v, M') → JW l G h Y Q (pc + 5) ls (v.toList ++ rest) M') (kx : ∀ q M', Q' (.inr q, M') → JX l G h Y Q pc ls q M') : JW l G h Y Q pc ls st0 M := by
  subst hs0
  refine JW.call hJ (fun r hJr p e R s m args below meth c H locs cells slots arr T hC hRf hRl hR hml hT X hpre => by
    have hW9 := lv_room (m := m) (pc := pc) (ls := arr) (rest := As.reverse ++ .ref a :: rest) hst
    obtain ⟨hx, hb, hml9, -, -, hown, hts, hK, -⟩ := hC
    have hbk := j_payH (p := p) (e := e) (below := below) (R := R) (len := 5) hJr hts hRf hRl hh hcode.2 hcode.1 hm.2.2
    obtain ⟨cellB, g1, g2, g3⟩ := j_recv hK hR hM hci hc
    obtain ⟨kB, g4, -⟩ := Vm.findClass_spec g3
    obtain ⟨f1, f2, f3, f4, f5⟩ := hK.2.2.1 _ hface
    exact vx_callIFW X hx hown (hts _ hlink) (va_any rfl f1) (va_any rfl f2) (hts _ hsel) (hts _ hinst) (va_any rfl f3) (va_any rfl f4) (va_any rfl f5) (hts _ hcode.1) (j_faces_ok _ hface) hbk (by rw [hT]; exact g1) g2 g3 g4 rfl hml (by rw [hxd]; exact j_len hm.2.1 hn) rfl hW9 (by rw [hb]; exact hdg) hpre) kk kx
end JCalls
