/-! ===== J, part 3: instructions that leave the memory as it is (printed by tools/gen_ops.py) ===== -/
section JOps
variable {l : Launch} {G : j_G} {h : Nat} {Y : j_Y} {Q : j_Res → Prop} {pc : Nat} {ls : List (Nat × Value)} {st : List Value} {M : j_M}
theorem JW.lift {pc' : Nat} {ls' : List (Nat × Value)} {st0 st' : List Value} (k : JW l G h Y Q pc' ls' st' M)
    (hstep : ∀ (p : Program) (e : Env) (R : Room) (s : State) (m : MethodId) (args : Array Value) (below : List Frame) (meth : Method) (c : Code) (H : Heap) (locs : List Loc) (cells slots : Nat) (Qs : State → Prop) (arr : Array Slot), j_C G l Y p e s m args meth c → j_has arr Y.2.2.1 ls →
      (∀ arr' : Array Slot, j_has arr' Y.2.2.1 ls' → W p l e R s m args below meth c H locs cells slots Qs (F0 m pc' arr' st')) → W p l e R s m args below meth c H locs cells slots Qs (F0 m pc arr st0)) : JW l G h Y Q pc ls st0 M := by
  obtain ⟨r, ⟨h1, h2, k⟩, hQ⟩ := k
  exact ⟨r, ⟨h1, h2, fun p e s m args below meth c hC H locs arr s0 hR hS hA h0 => hstep p e _ s m args below meth c H locs _ _ _ arr hC hA (fun arr' hA' => k p e s m args below meth c hC H locs arr' s0 hR hS hA' h0)⟩, hQ⟩
theorem j_iconst {n : Int} {v : Int32} (hdg : decode Y.2.1 pc = .ok (.iconst n, 1)) (hv : Int32.ofInt n = v) (k : JW l G h Y Q (pc + 1) ls (.int v :: st) M) : JW l G h Y Q pc ls (st) M :=
  JW.lift k (fun p e R s m args below meth c H locs cells slots Qs arr hC hA kk => lv_iconst hC.1 hC.2.1 hdg hv (kk arr hA))
theorem j_bipush {n : Int} {v : Int32} (hdg : decode Y.2.1 pc = .ok (.bipush n, 2)) (hv : (Int8.ofInt n).toInt32 = v) (k : JW l G h Y Q (pc + 2) ls (.int v :: st) M) : JW l G h Y Q pc ls (st) M :=
  JW.lift k (fun p e R s m args below meth c H locs cells slots Qs arr hC hA kk => lv_bipush hC.1 hC.2.1 hdg hv (kk arr hA))
theorem j_sipush {n : Int} {v : Int32} (hdg : decode Y.2.1 pc = .ok (.sipush n, 3)) (hv : (Int16.ofInt n).toInt32 = v) (k : JW l G h Y Q (pc + 3) ls (.int v :: st) M) : JW l G h Y Q pc ls (st) M :=
  JW.lift k (fun p e R s m args below meth c H locs cells slots Qs arr hC hA kk => lv_sipush hC.1 hC.2.1 hdg hv (kk arr hA))
theorem j_lconst {n : Fin 2} {v : Int64} (hdg : decode Y.2.1 pc = .ok (.lconst n, 1)) (hv : Int64.ofNat (n : Nat) = v) (k : JW l G h Y Q (pc + 1) ls (.long v :: st) M) : JW l G h Y Q pc ls (st) M :=
  JW.lift k (fun p e R s m args below meth c H locs cells slots Qs arr hC hA kk => lv_lconst hC.1 hC.2.1 hdg hv (kk arr hA))
theorem j_fconst0  (hdg : decode Y.2.1 pc = .ok (.fconst 0, 1))  (k : JW l G h Y Q (pc + 1) ls (.float 0 :: st) M) : JW l G h Y Q pc ls (st) M :=
  JW.lift k (fun p e R s m args below meth c H locs cells slots Qs arr hC hA kk => lv_fconst0 hC.1 hC.2.1 hdg (kk arr hA))
theorem j_dconst0  (hdg : decode Y.2.1 pc = .ok (.dconst 0, 1))  (k : JW l G h Y Q (pc + 1) ls (.double 0 :: st) M) : JW l G h Y Q pc ls (st) M :=
  JW.lift k (fun p e R s m args below meth c H locs cells slots Qs arr hC hA kk => lv_dconst0 hC.1 hC.2.1 hdg (kk arr hA))
theorem j_null  (hdg : decode Y.2.1 pc = .ok (.aconst_null, 1))  (k : JW l G h Y Q (pc + 1) ls (.null :: st) M) : JW l G h Y Q pc ls (st) M :=
  JW.lift k (fun p e R s m args below meth c H locs cells slots Qs arr hC hA kk => lv_null hC.1 hC.2.1 hdg (kk arr hA))
theorem j_iload_n {k : Fin 4} {x : Int32} (hdg : decode Y.2.1 pc = .ok (.iload_n k, 1)) (hl : jget ls k.val = some (.int x)) (k0 : JW l G h Y Q (pc + 1) ls (.int x :: st) M) : JW l G h Y Q pc ls st M :=
  JW.lift k0 (fun p e R s m args below meth c H locs cells slots Qs arr hC hA kk => lv_iload_n hC.1 hC.2.1 hdg rfl (hA.at hl) (kk arr hA))
theorem j_iload {i : Nat} {x : Int32} (hdg : decode Y.2.1 pc = .ok (.iload i, 2)) (hl : jget ls i = some (.int x)) (k : JW l G h Y Q (pc + 2) ls (.int x :: st) M) : JW l G h Y Q pc ls st M :=
  JW.lift k (fun p e R s m args below meth c H locs cells slots Qs arr hC hA kk => lv_iload hC.1 hC.2.1 hdg (hA.at hl) (kk arr hA))
theorem j_istore_n {k : Fin 4} {x : Int32} (hdg : decode Y.2.1 pc = .ok (.istore_n k, 1)) (hn : k.val < Y.2.2.1) (hok : j_ok1 ls k.val = true) (k0 : JW l G h Y Q (pc + 1) ((k.val, .int x) :: ls) st M) : JW l G h Y Q pc ls (.int x :: st) M :=
  JW.lift k0 (fun p e R s m args below meth c H locs cells slots Qs arr hC hA kk => lv_istore_n hC.1 hC.2.1 hdg rfl hA.vis hn rfl (fun arr' h' => kk arr' (hA.set1 hok h')))
theorem j_istore {i : Nat} {x : Int32} (hdg : decode Y.2.1 pc = .ok (.istore i, 2)) (hn : i < Y.2.2.1) (hok : j_ok1 ls i = true) (k : JW l G h Y Q (pc + 2) ((i, .int x) :: ls) st M) : JW l G h Y Q pc ls (.int x :: st) M :=
  JW.lift k (fun p e R s m args below meth c H locs cells slots Qs arr hC hA kk => lv_istore hC.1 hC.2.1 hdg hA.vis hn rfl (fun arr' h' => kk arr' (hA.set1 hok h')))
theorem j_lload_n {k : Fin 4} {x : Int64} (hdg : decode Y.2.1 pc = .ok (.lload_n k, 1)) (hl : jget ls k.val = some (.long x)) (k0 : JW l G h Y Q (pc + 1) ls (.long x :: st) M) : JW l G h Y Q pc ls st M :=
  JW.lift k0 (fun p e R s m args below meth c H locs cells slots Qs arr hC hA kk => lv_lload_n hC.1 hC.2.1 hdg rfl (hA.at hl) (kk arr hA))
theorem j_lload {i : Nat} {x : Int64} (hdg : decode Y.2.1 pc = .ok (.lload i, 2)) (hl : jget ls i = some (.long x)) (k : JW l G h Y Q (pc + 2) ls (.long x :: st) M) : JW l G h Y Q pc ls st M :=
  JW.lift k (fun p e R s m args below meth c H locs cells slots Qs arr hC hA kk => lv_lload hC.1 hC.2.1 hdg (hA.at hl) (kk arr hA))
theorem j_lstore_n {k : Fin 4} {x : Int64} (hdg : decode Y.2.1 pc = .ok (.lstore_n k, 1)) (hn : k.val + 1 < Y.2.2.1) (hok : j_ok1 ls k.val = true) (k0 : JW l G h Y Q (pc + 1) ((k.val, .long x) :: j_del ls (k.val + 1)) st M) : JW l G h Y Q pc ls (.long x :: st) M :=
  JW.lift k0 (fun p e R s m args below meth c H locs cells slots Qs arr hC hA kk => lv_lstore_n hC.1 hC.2.1 hdg rfl hA.vis hn rfl (fun arr' h' => kk arr' (hA.set2 hok h')))
theorem j_lstore {i : Nat} {x : Int64} (hdg : decode Y.2.1 pc = .ok (.lstore i, 2)) (hn : i + 1 < Y.2.2.1) (hok : j_ok1 ls i = true) (k : JW l G h Y Q (pc + 2) ((i, .long x) :: j_del ls (i + 1)) st M) : JW l G h Y Q pc ls (.long x :: st) M :=
  JW.lift k (fun p e R s m args below meth c H locs cells slots Qs arr hC hA kk => lv_lstore hC.1 hC.2.1 hdg hA.vis hn rfl (fun arr' h' => kk arr' (hA.set2 hok h')))
theorem j_fload_n {k : Fin 4} {x : UInt32} (hdg : decode Y.2.1 pc = .ok (.fload_n k, 1)) (hl : jget ls k.val = some (.float x)) (k0 : JW l G h Y Q (pc + 1) ls (.float x :: st) M) : JW l G h Y Q pc ls st M :=
  JW.lift k0 (fun p e R s m args below meth c H locs cells slots Qs arr hC hA kk => lv_fload_n hC.1 hC.2.1 hdg rfl (hA.at hl) (kk arr hA))
theorem j_fload {i : Nat} {x : UInt32} (hdg : decode Y.2.1 pc = .ok (.fload i, 2)) (hl : jget ls i = some (.float x)) (k : JW l G h Y Q (pc + 2) ls (.float x :: st) M) : JW l G h Y Q pc ls st M :=
  JW.lift k (fun p e R s m args below meth c H locs cells slots Qs arr hC hA kk => lv_fload hC.1 hC.2.1 hdg (hA.at hl) (kk arr hA))
theorem j_fstore_n {k : Fin 4} {x : UInt32} (hdg : decode Y.2.1 pc = .ok (.fstore_n k, 1)) (hn : k.val < Y.2.2.1) (hok : j_ok1 ls k.val = true) (k0 : JW l G h Y Q (pc + 1) ((k.val, .float x) :: ls) st M) : JW l G h Y Q pc ls (.float x :: st) M :=
  JW.lift k0 (fun p e R s m args below meth c H locs cells slots Qs arr hC hA kk => lv_fstore_n hC.1 hC.2.1 hdg rfl hA.vis hn rfl (fun arr' h' => kk arr' (hA.set1 hok h')))
theorem j_fstore {i : Nat} {x : UInt32} (hdg : decode Y.2.1 pc = .ok (.fstore i, 2)) (hn : i < Y.2.2.1) (hok : j_ok1 ls i = true) (k : JW l G h Y Q (pc + 2) ((i, .float x) :: ls) st M) : JW l G h Y Q pc ls (.float x :: st) M :=
  JW.lift k (fun p e R s m args below meth c H locs cells slots Qs arr hC hA kk => lv_fstore hC.1 hC.2.1 hdg hA.vis hn rfl (fun arr' h' => kk arr' (hA.set1 hok h')))
theorem j_dload_n {k : Fin 4} {x : UInt64} (hdg : decode Y.2.1 pc = .ok (.dload_n k, 1)) (hl : jget ls k.val = some (.double x)) (k0 : JW l G h Y Q (pc + 1) ls (.double x :: st) M) : JW l G h Y Q pc ls st M :=
  JW.lift k0 (fun p e R s m args below meth c H locs cells slots Qs arr hC hA kk => lv_dload_n hC.1 hC.2.1 hdg rfl (hA.at hl) (kk arr hA))
theorem j_dload {i : Nat} {x : UInt64} (hdg : decode Y.2.1 pc = .ok (.dload i, 2)) (hl : jget ls i = some (.double x)) (k : JW l G h Y Q (pc + 2) ls (.double x :: st) M) : JW l G h Y Q pc ls st M :=
  JW.lift k (fun p e R s m args below meth c H locs cells slots Qs arr hC hA kk => lv_dload hC.1 hC.2.1 hdg (hA.at hl) (kk arr hA))
theorem j_dstore_n {k : Fin 4} {x : UInt64} (hdg : decode Y.2.1 pc = .ok (.dstore_n k, 1)) (hn : k.val + 1 < Y.2.2.1) (hok : j_ok1 ls k.val = true) (k0 : JW l G h Y Q (pc + 1) ((k.val, .double x) :: j_del ls (k.val + 1)) st M) : JW l G h Y Q pc ls (.double x :: st) M :=
  JW.lift k0 (fun p e R s m args below meth c H locs cells slots Qs arr hC hA kk => lv_dstore_n hC.1 hC.2.1 hdg rfl hA.vis hn rfl (fun arr' h' => kk arr' (hA.set2 hok h')))
theorem j_dstore {i : Nat} {x : UInt64} (hdg : decode Y.2.1 pc = .ok (.dstore i, 2)) (hn : i + 1 < Y.2.2.1) (hok : j_ok1 ls i = true) (k : JW l G h Y Q (pc + 2) ((i, .double x) :: j_del ls (i + 1)) st M) : JW l G h Y Q pc ls (.double x :: st) M :=
  JW.lift k (fun p e R s m args below meth c H locs cells slots Qs arr hC hA kk => lv_dstore hC.1 hC.2.1 hdg hA.vis hn rfl (fun arr' h' => kk arr' (hA.set2 hok h')))
theorem j_refV {v : Value} (h : v.isRef = true) : v = .null ∨ ∃ a, v = .ref a := by
  cases v <;> first | exact Or.inl rfl | exact Or.inr ⟨_, rfl⟩ | cases h
theorem j_aload_n {k : Fin 4} {v : Value} (hdg : decode Y.2.1 pc = .ok (.aload_n k, 1)) (hl : jget ls k.val = some v) (hv : v.isRef = true) (k0 : JW l G h Y Q (pc + 1) ls (v :: st) M) : JW l G h Y Q pc ls st M := by
  rcases j_refV hv with rfl | ⟨a, rfl⟩
  · exact JW.lift k0 (fun p e R s m args below meth c H locs cells slots Qs arr hC hA kk => lv_aload_nN hC.1 hC.2.1 hdg rfl (hA.at hl) (kk arr hA))
  · exact JW.lift k0 (fun p e R s m args below meth c H locs cells slots Qs arr hC hA kk => lv_aload_n hC.1 hC.2.1 hdg rfl (hA.at hl) (kk arr hA))
theorem j_aload {i : Nat} {v : Value} (hdg : decode Y.2.1 pc = .ok (.aload i, 2)) (hl : jget ls i = some v) (hv : v.isRef = true) (k : JW l G h Y Q (pc + 2) ls (v :: st) M) : JW l G h Y Q pc ls st M := by
  rcases j_refV hv with rfl | ⟨a, rfl⟩
  · exact JW.lift k (fun p e R s m args below meth c H locs cells slots Qs arr hC hA kk => lv_aloadN hC.1 hC.2.1 hdg (hA.at hl) (kk arr hA))
  · exact JW.lift k (fun p e R s m args below meth c H locs cells slots Qs arr hC hA kk => lv_aload hC.1 hC.2.1 hdg (hA.at hl) (kk arr hA))
theorem j_astore_n {k : Fin 4} {v : Value} (hdg : decode Y.2.1 pc = .ok (.astore_n k, 1)) (hv : v.isRef = true) (hn : k.val < Y.2.2.1) (hok : j_ok1 ls k.val = true) (k0 : JW l G h Y Q (pc + 1) ((k.val, v) :: ls) st M) : JW l G h Y Q pc ls (v :: st) M := by
  rcases j_refV hv with rfl | ⟨a, rfl⟩
  · exact JW.lift k0 (fun p e R s m args below meth c H locs cells slots Qs arr hC hA kk => lv_astore_nN hC.1 hC.2.1 hdg rfl hA.vis hn rfl (fun arr' h' => kk arr' (hA.set1 hok h')))
  · exact JW.lift k0 (fun p e R s m args below meth c H locs cells slots Qs arr hC hA kk => lv_astore_n hC.1 hC.2.1 hdg rfl hA.vis hn rfl (fun arr' h' => kk arr' (hA.set1 hok h')))
theorem j_astore {i : Nat} {v : Value} (hdg : decode Y.2.1 pc = .ok (.astore i, 2)) (hv : v.isRef = true) (hn : i < Y.2.2.1) (hok : j_ok1 ls i = true) (k : JW l G h Y Q (pc + 2) ((i, v) :: ls) st M) : JW l G h Y Q pc ls (v :: st) M := by
  rcases j_refV hv with rfl | ⟨a, rfl⟩
  · exact JW.lift k (fun p e R s m args below meth c H locs cells slots Qs arr hC hA kk => lv_astoreN hC.1 hC.2.1 hdg hA.vis hn rfl (fun arr' h' => kk arr' (hA.set1 hok h')))
  · exact JW.lift k (fun p e R s m args below meth c H locs cells slots Qs arr hC hA kk => lv_astore hC.1 hC.2.1 hdg hA.vis hn rfl (fun arr' h' => kk arr' (hA.set1 hok h')))
theorem j_iinc {i : Nat} {n : Int} {x v : Int32} (hdg : decode Y.2.1 pc = .ok (.iinc i n, 3)) (hl : jget ls i = some (.int x)) (hv : x + Int32.ofInt n = v) (hn : i < Y.2.2.1) (hok : j_ok1 ls i = true) (k : JW l G h Y Q (pc + 3) ((i, .int v) :: ls) st M) : JW l G h Y Q pc ls st M :=
  JW.lift k (fun p e R s m args below meth c H locs cells slots Qs arr hC hA kk => by
    obtain ⟨j, hj⟩ := List.getElem?_of_mem (j_vis_mem hA hl)
    exact lv_iinc hC.1 hC.2.1 hdg hA.vis hj hv hn rfl (fun arr' h' => kk arr' (hA.set1 hok h')))
theorem j_iadd {x y : Int32} (hdg : decode Y.2.1 pc = .ok (.iadd, 1))  (k : JW l G h Y Q (pc + 1) ls (.int (x + y) :: st) M) : JW l G h Y Q pc ls (.int y :: .int x :: st) M :=
  JW.lift k (fun p e R s m args below meth c H locs cells slots Qs arr hC hA kk => lv_iadd hC.1 hC.2.1 hdg (kk arr hA))
theorem j_isub {x y : Int32} (hdg : decode Y.2.1 pc = .ok (.isub, 1))  (k : JW l G h Y Q (pc + 1) ls (.int (x - y) :: st) M) : JW l G h Y Q pc ls (.int y :: .int x :: st) M :=
  JW.lift k (fun p e R s m args below meth c H locs cells slots Qs arr hC hA kk => lv_isub hC.1 hC.2.1 hdg (kk arr hA))
theorem j_imul {x y : Int32} (hdg : decode Y.2.1 pc = .ok (.imul, 1))  (k : JW l G h Y Q (pc + 1) ls (.int (x * y) :: st) M) : JW l G h Y Q pc ls (.int y :: .int x :: st) M :=
  JW.lift k (fun p e R s m args below meth c H locs cells slots Qs arr hC hA kk => lv_imul hC.1 hC.2.1 hdg (kk arr hA))
theorem j_iand {x y : Int32} (hdg : decode Y.2.1 pc = .ok (.iand, 1))  (k : JW l G h Y Q (pc + 1) ls (.int (x &&& y) :: st) M) : JW l G h Y Q pc ls (.int y :: .int x :: st) M :=
  JW.lift k (fun p e R s m args below meth c H locs cells slots Qs arr hC hA kk => lv_iand hC.1 hC.2.1 hdg (kk arr hA))
theorem j_ior {x y : Int32} (hdg : decode Y.2.1 pc = .ok (.ior, 1))  (k : JW l G h Y Q (pc + 1) ls (.int (x ||| y) :: st) M) : JW l G h Y Q pc ls (.int y :: .int x :: st) M :=
  JW.lift k (fun p e R s m args below meth c H locs cells slots Qs arr hC hA kk => lv_ior hC.1 hC.2.1 hdg (kk arr hA))
theorem j_ixor {x y : Int32} (hdg : decode Y.2.1 pc = .ok (.ixor, 1))  (k : JW l G h Y Q (pc + 1) ls (.int (x ^^^ y) :: st) M) : JW l G h Y Q pc ls (.int y :: .int x :: st) M :=
  JW.lift k (fun p e R s m args below meth c H locs cells slots Qs arr hC hA kk => lv_ixor hC.1 hC.2.1 hdg (kk arr hA))
theorem j_ishl {x y : Int32} (hdg : decode Y.2.1 pc = .ok (.ishl, 1))  (k : JW l G h Y Q (pc + 1) ls (.int (x <<< (y &&& 31)) :: st) M) : JW l G h Y Q pc ls (.int y :: .int x :: st) M :=
  JW.lift k (fun p e R s m args below meth c H locs cells slots Qs arr hC hA kk => lv_ishl hC.1 hC.2.1 hdg (kk arr hA))
theorem j_ishr {x y : Int32} (hdg : decode Y.2.1 pc = .ok (.ishr, 1))  (k : JW l G h Y Q (pc + 1) ls (.int (x >>> (y &&& 31)) :: st) M) : JW l G h Y Q pc ls (.int y :: .int x :: st) M :=
  JW.lift k (fun p e R s m args below meth c H locs cells slots Qs arr hC hA kk => lv_ishr hC.1 hC.2.1 hdg (kk arr hA))
theorem j_idiv {x y : Int32} (hdg : decode Y.2.1 pc = .ok (.idiv, 1)) (hne : ¬ y = 0) (k : JW l G h Y Q (pc + 1) ls (.int (x / y) :: st) M) : JW l G h Y Q pc ls (.int y :: .int x :: st) M :=
  JW.lift k (fun p e R s m args below meth c H locs cells slots Qs arr hC hA kk => lv_idiv hC.1 hC.2.1 hdg hne (kk arr hA))
theorem j_irem {x y : Int32} (hdg : decode Y.2.1 pc = .ok (.irem, 1)) (hne : ¬ y = 0) (k : JW l G h Y Q (pc + 1) ls (.int (x - x / y * y) :: st) M) : JW l G h Y Q pc ls (.int y :: .int x :: st) M :=
  JW.lift k (fun p e R s m args below meth c H locs cells slots Qs arr hC hA kk => lv_irem hC.1 hC.2.1 hdg hne (kk arr hA))
theorem j_ineg {x : Int32} (hdg : decode Y.2.1 pc = .ok (.ineg, 1))  (k : JW l G h Y Q (pc + 1) ls (.int (-x) :: st) M) : JW l G h Y Q pc ls (.int x :: st) M :=
  JW.lift k (fun p e R s m args below meth c H locs cells slots Qs arr hC hA kk => lv_ineg hC.1 hC.2.1 hdg (kk arr hA))
theorem j_ladd {x y : Int64} (hdg : decode Y.2.1 pc = .ok (.ladd, 1))  (k : JW l G h Y Q (pc + 1) ls (.long (x + y) :: st) M) : JW l G h Y Q pc ls (.long y :: .long x :: st) M :=
  JW.lift k (fun p e R s m args below meth c H locs cells slots Qs arr hC hA kk => lv_ladd hC.1 hC.2.1 hdg (kk arr hA))
theorem j_lsub {x y : Int64} (hdg : decode Y.2.1 pc = .ok (.lsub, 1))  (k : JW l G h Y Q (pc + 1) ls (.long (x - y) :: st) M) : JW l G h Y Q pc ls (.long y :: .long x :: st) M :=
  JW.lift k (fun p e R s m args below meth c H locs cells slots Qs arr hC hA kk => lv_lsub hC.1 hC.2.1 hdg (kk arr hA))
theorem j_land {x y : Int64} (hdg : decode Y.2.1 pc = .ok (.land, 1))  (k : JW l G h Y Q (pc + 1) ls (.long (x &&& y) :: st) M) : JW l G h Y Q pc ls (.long y :: .long x :: st) M :=
  JW.lift k (fun p e R s m args below meth c H locs cells slots Qs arr hC hA kk => lv_land hC.1 hC.2.1 hdg (kk arr hA))
theorem j_lor {x y : Int64} (hdg : decode Y.2.1 pc = .ok (.lor, 1))  (k : JW l G h Y Q (pc + 1) ls (.long (x ||| y) :: st) M) : JW l G h Y Q pc ls (.long y :: .long x :: st) M :=
  JW.lift k (fun p e R s m args below meth c H locs cells slots Qs arr hC hA kk => lv_lor hC.1 hC.2.1 hdg (kk arr hA))
theorem j_lxor {x y : Int64} (hdg : decode Y.2.1 pc = .ok (.lxor, 1))  (k : JW l G h Y Q (pc + 1) ls (.long (x ^^^ y) :: st) M) : JW l G h Y Q pc ls (.long y :: .long x :: st) M :=
  JW.lift k (fun p e R s m args below meth c H locs cells slots Qs arr hC hA kk => lv_lxor hC.1 hC.2.1 hdg (kk arr hA))
theorem j_i2l {x : Int32} (hdg : decode Y.2.1 pc = .ok (.i2l, 1))  (k : JW l G h Y Q (pc + 1) ls (.long x.toInt64 :: st) M) : JW l G h Y Q pc ls (.int x :: st) M :=
  JW.lift k (fun p e R s m args below meth c H locs cells slots Qs arr hC hA kk => lv_i2l hC.1 hC.2.1 hdg rfl (kk arr hA))
theorem j_l2i {x : Int64} (hdg : decode Y.2.1 pc = .ok (.l2i, 1))  (k : JW l G h Y Q (pc + 1) ls (.int x.toInt32 :: st) M) : JW l G h Y Q pc ls (.long x :: st) M :=
  JW.lift k (fun p e R s m args below meth c H locs cells slots Qs arr hC hA kk => lv_l2i hC.1 hC.2.1 hdg rfl (kk arr hA))
theorem j_i2b {x : Int32} (hdg : decode Y.2.1 pc = .ok (.i2b, 1))  (k : JW l G h Y Q (pc + 1) ls (.int x.toInt8.toInt32 :: st) M) : JW l G h Y Q pc ls (.int x :: st) M :=
  JW.lift k (fun p e R s m args below meth c H locs cells slots Qs arr hC hA kk => lv_i2b hC.1 hC.2.1 hdg rfl (kk arr hA))
theorem j_i2c {x : Int32} (hdg : decode Y.2.1 pc = .ok (.i2c, 1))  (k : JW l G h Y Q (pc + 1) ls (.int (x.toUInt32 % 65536).toInt32 :: st) M) : JW l G h Y Q pc ls (.int x :: st) M :=
  JW.lift k (fun p e R s m args below meth c H locs cells slots Qs arr hC hA kk => lv_i2c hC.1 hC.2.1 hdg rfl (kk arr hA))
theorem j_iushr {x y : Int32} (hdg : decode Y.2.1 pc = .ok (.iushr, 1))  (k : JW l G h Y Q (pc + 1) ls (.int (x.toUInt32 >>> (y.toUInt32 &&& Int32.toUInt32 31)).toInt32 :: st) M) : JW l G h Y Q pc ls (.int y :: .int x :: st) M :=
  JW.lift k (fun p e R s m args below meth c H locs cells slots Qs arr hC hA kk => lv_iushr hC.1 hC.2.1 hdg rfl (kk arr hA))
theorem j_lushr {x : Int64} {y : Int32} (hdg : decode Y.2.1 pc = .ok (.lushr, 1))  (k : JW l G h Y Q (pc + 1) ls (.long (x.toUInt64 >>> (y.toInt64.toUInt64 &&& Int64.toUInt64 63)).toInt64 :: st) M) : JW l G h Y Q pc ls (.int y :: .long x :: st) M :=
  JW.lift k (fun p e R s m args below meth c H locs cells slots Qs arr hC hA kk => lv_lushr hC.1 hC.2.1 hdg rfl (kk arr hA))
theorem j_lshl {x : Int64} {y : Int32} (hdg : decode Y.2.1 pc = .ok (.lshl, 1))  (k : JW l G h Y Q (pc + 1) ls (.long (x <<< (y.toInt64 &&& 63)) :: st) M) : JW l G h Y Q pc ls (.int y :: .long x :: st) M :=
  JW.lift k (fun p e R s m args below meth c H locs cells slots Qs arr hC hA kk => lv_lshl hC.1 hC.2.1 hdg rfl (kk arr hA))
theorem j_lshr {x : Int64} {y : Int32} (hdg : decode Y.2.1 pc = .ok (.lshr, 1))  (k : JW l G h Y Q (pc + 1) ls (.long (x >>> (y.toInt64 &&& 63)) :: st) M) : JW l G h Y Q pc ls (.int y :: .long x :: st) M :=
  JW.lift k (fun p e R s m args below meth c H locs cells slots Qs arr hC hA kk => lv_lshr hC.1 hC.2.1 hdg rfl (kk arr hA))
theorem j_i2d {x : Int32} (hdg : decode Y.2.1 pc = .ok (.i2d, 1))  (k : JW l G h Y Q (pc + 1) ls (.double (FP.i2d x) :: st) M) : JW l G h Y Q pc ls (.int x :: st) M :=
  JW.lift k (fun p e R s m args below meth c H locs cells slots Qs arr hC hA kk => lv_i2d hC.1 hC.2.1 hdg (kk arr hA))
theorem j_i2f {x : Int32} (hdg : decode Y.2.1 pc = .ok (.i2f, 1))  (k : JW l G h Y Q (pc + 1) ls (.float (FP.i2f x) :: st) M) : JW l G h Y Q pc ls (.int x :: st) M :=
  JW.lift k (fun p e R s m args below meth c H locs cells slots Qs arr hC hA kk => lv_i2f hC.1 hC.2.1 hdg (kk arr hA))
theorem j_f2d {x : UInt32} (hdg : decode Y.2.1 pc = .ok (.f2d, 1)) (hne : vf_n64 (FP.f2d x)) (k : JW l G h Y Q (pc + 1) ls (.double (FP.f2d x) :: st) M) : JW l G h Y Q pc ls (.float x :: st) M :=
  JW.lift k (fun p e R s m args below meth c H locs cells slots Qs arr hC hA kk => lv_f2d hC.1 hC.2.1 hdg hne (kk arr hA))
theorem j_ddiv {x y : UInt64} (hdg : decode Y.2.1 pc = .ok (.ddiv, 1)) (hne : vf_n64 (FP.ddiv x y)) (k : JW l G h Y Q (pc + 1) ls (.double (FP.ddiv x y) :: st) M) : JW l G h Y Q pc ls (.double y :: .double x :: st) M :=
  JW.lift k (fun p e R s m args below meth c H locs cells slots Qs arr hC hA kk => lv_ddiv hC.1 hC.2.1 hdg hne (kk arr hA))
theorem j_fdiv {x y : UInt32} (hdg : decode Y.2.1 pc = .ok (.fdiv, 1)) (hne : vf_n32 (FP.fdiv x y)) (k : JW l G h Y Q (pc + 1) ls (.float (FP.fdiv x y) :: st) M) : JW l G h Y Q pc ls (.float y :: .float x :: st) M :=
  JW.lift k (fun p e R s m args below meth c H locs cells slots Qs arr hC hA kk => lv_fdiv hC.1 hC.2.1 hdg hne (kk arr hA))
theorem j_dcmp {x y : UInt64} {op : CmpOp} (hdg : decode Y.2.1 pc = .ok (.dcmp op, 1))  (k : JW l G h Y Q (pc + 1) ls (.int (Op.cmpValue (FP.dcmp x y) op) :: st) M) : JW l G h Y Q pc ls (.double y :: .double x :: st) M :=
  JW.lift k (fun p e R s m args below meth c H locs cells slots Qs arr hC hA kk => lv_dcmp hC.1 hC.2.1 hdg (kk arr hA))
theorem j_lcmp {x y : Int64} (hdg : decode Y.2.1 pc = .ok (.lcmp, 1)) (k : JW l G h Y Q (pc + 1) ls (.int (lg_cmp x y) :: st) M) : JW l G h Y Q pc ls (.long y :: .long x :: st) M :=
  JW.lift k (fun p e R s m args below meth c H locs cells slots Qs arr hC hA kk => W.lcmp hC.1 hC.2.1 hdg (kk arr hA))
theorem j_dup {a : Value} (hdg : decode Y.2.1 pc = .ok (.dup, 1)) (ha : a.category = 1) (k : JW l G h Y Q (pc + 1) ls (a :: a :: st) M) : JW l G h Y Q pc ls (a :: st) M :=
  JW.lift k (fun p e R s m args below meth c H locs cells slots Qs arr hC hA kk => lv_dup hC.1 hC.2.1 hdg ha (kk arr hA))
theorem j_pop {a : Value} (hdg : decode Y.2.1 pc = .ok (.pop, 1)) (ha : a.category = 1) (k : JW l G h Y Q (pc + 1) ls (st) M) : JW l G h Y Q pc ls (a :: st) M :=
  JW.lift k (fun p e R s m args below meth c H locs cells slots Qs arr hC hA kk => lv_pop hC.1 hC.2.1 hdg ha (kk arr hA))
theorem j_dup_x1 {a b : Value} (hdg : decode Y.2.1 pc = .ok (.dup_x1, 1)) (ha : a.category = 1) (hb : b.category = 1) (k : JW l G h Y Q (pc + 1) ls (a :: b :: a :: st) M) : JW l G h Y Q pc ls (a :: b :: st) M :=
  JW.lift k (fun p e R s m args below meth c H locs cells slots Qs arr hC hA kk => lv_dup_x1 hC.1 hC.2.1 hdg ha hb (kk arr hA))
theorem j_dup2_11 {a b : Value} (hdg : decode Y.2.1 pc = .ok (.dup2, 1)) (ha : a.category = 1) (hb : b.category = 1) (k : JW l G h Y Q (pc + 1) ls (a :: b :: a :: b :: st) M) : JW l G h Y Q pc ls (a :: b :: st) M :=
  JW.lift k (fun p e R s m args below meth c H locs cells slots Qs arr hC hA kk => lv_dup2_11 hC.1 hC.2.1 hdg ha hb (kk arr hA))
theorem j_dup2_2 {a : Value} (hdg : decode Y.2.1 pc = .ok (.dup2, 1)) (ha : a.category = 2) (k : JW l G h Y Q (pc + 1) ls (a :: a :: st) M) : JW l G h Y Q pc ls (a :: st) M :=
  JW.lift k (fun p e R s m args below meth c H locs cells slots Qs arr hC hA kk => lv_dup2_2 hC.1 hC.2.1 hdg ha (kk arr hA))
theorem j_if_eq {x : Int32} {off : Int} {tgt : Nat} (hdg : decode Y.2.1 pc = .ok (.ifCond .eq off, 3)) (ht : (pc : Int) + off = (tgt : Int)) (kt : (x = 0) → JW l G h Y Q tgt ls st M) (kf : ¬ (x = 0) → JW l G h Y Q (pc + 3) ls st M) : JW l G h Y Q pc ls (.int x :: st) M := by
  by_cases hc : (x = 0)
  · exact JW.lift (kt hc) (fun p e R s m args below meth c H locs cells slots Qs arr hC hA kk => lv_if_eq hC.1 hC.2.1 hdg ht (fun _ => kk arr hA) (fun q => absurd hc q))
  · exact JW.lift (kf hc) (fun p e R s m args below meth c H locs cells slots Qs arr hC hA kk => lv_if_eq hC.1 hC.2.1 hdg ht (fun q => absurd q hc) (fun _ => kk arr hA))
theorem j_icmp_eq {x y : Int32} {off : Int} {tgt : Nat} (hdg : decode Y.2.1 pc = .ok (.if_icmp .eq off, 3)) (ht : (pc : Int) + off = (tgt : Int)) (kt : (x = y) → JW l G h Y Q tgt ls st M) (kf : ¬ (x = y) → JW l G h Y Q (pc + 3) ls st M) : JW l G h Y Q pc ls (.int y :: .int x :: st) M := by
  by_cases hc : (x = y)
  · exact JW.lift (kt hc) (fun p e R s m args below meth c H locs cells slots Qs arr hC hA kk => lv_icmp_eq hC.1 hC.2.1 hdg ht (fun _ => kk arr hA) (fun q => absurd hc q))
  · exact JW.lift (kf hc) (fun p e R s m args below meth c H locs cells slots Qs arr hC hA kk => lv_icmp_eq hC.1 hC.2.1 hdg ht (fun q => absurd q hc) (fun _ => kk arr hA))
theorem j_if_ne {x : Int32} {off : Int} {tgt : Nat} (hdg : decode Y.2.1 pc = .ok (.ifCond .ne off, 3)) (ht : (pc : Int) + off = (tgt : Int)) (kt : (¬ x = 0) → JW l G h Y Q tgt ls st M) (kf : (x = 0) → JW l G h Y Q (pc + 3) ls st M) : JW l G h Y Q pc ls (.int x :: st) M := by
  by_cases hc : (x = 0)
  · exact JW.lift (kf hc) (fun p e R s m args below meth c H locs cells slots Qs arr hC hA kk => lv_if_ne hC.1 hC.2.1 hdg ht (fun q => absurd hc q) (fun _ => kk arr hA))
  · exact JW.lift (kt hc) (fun p e R s m args below meth c H locs cells slots Qs arr hC hA kk => lv_if_ne hC.1 hC.2.1 hdg ht (fun _ => kk arr hA) (fun q => absurd q hc))
theorem j_icmp_ne {x y : Int32} {off : Int} {tgt : Nat} (hdg : decode Y.2.1 pc = .ok (.if_icmp .ne off, 3)) (ht : (pc : Int) + off = (tgt : Int)) (kt : (¬ x = y) → JW l G h Y Q tgt ls st M) (kf : (x = y) → JW l G h Y Q (pc + 3) ls st M) : JW l G h Y Q pc ls (.int y :: .int x :: st) M := by
  by_cases hc : (x = y)
  · exact JW.lift (kf hc) (fun p e R s m args below meth c H locs cells slots Qs arr hC hA kk => lv_icmp_ne hC.1 hC.2.1 hdg ht (fun q => absurd hc q) (fun _ => kk arr hA))
  · exact JW.lift (kt hc) (fun p e R s m args below meth c H locs cells slots Qs arr hC hA kk => lv_icmp_ne hC.1 hC.2.1 hdg ht (fun _ => kk arr hA) (fun q => absurd q hc))
theorem j_if_lt {x : Int32} {off : Int} {tgt : Nat} (hdg : decode Y.2.1 pc = .ok (.ifCond .lt off, 3)) (ht : (pc : Int) + off = (tgt : Int)) (kt : (x < 0) → JW l G h Y Q tgt ls st M) (kf : ¬ (x < 0) → JW l G h Y Q (pc + 3) ls st M) : JW l G h Y Q pc ls (.int x :: st) M := by
  by_cases hc : (x < 0)
  · exact JW.lift (kt hc) (fun p e R s m args below meth c H locs cells slots Qs arr hC hA kk => lv_if_lt hC.1 hC.2.1 hdg ht (fun _ => kk arr hA) (fun q => absurd hc q))
  · exact JW.lift (kf hc) (fun p e R s m args below meth c H locs cells slots Qs arr hC hA kk => lv_if_lt hC.1 hC.2.1 hdg ht (fun q => absurd q hc) (fun _ => kk arr hA))
theorem j_icmp_lt {x y : Int32} {off : Int} {tgt : Nat} (hdg : decode Y.2.1 pc = .ok (.if_icmp .lt off, 3)) (ht : (pc : Int) + off = (tgt : Int)) (kt : (x < y) → JW l G h Y Q tgt ls st M) (kf : ¬ (x < y) → JW l G h Y Q (pc + 3) ls st M) : JW l G h Y Q pc ls (.int y :: .int x :: st) M := by
  by_cases hc : (x < y)
  · exact JW.lift (kt hc) (fun p e R s m args below meth c H locs cells slots Qs arr hC hA kk => lv_icmp_lt hC.1 hC.2.1 hdg ht (fun _ => kk arr hA) (fun q => absurd hc q))
  · exact JW.lift (kf hc) (fun p e R s m args below meth c H locs cells slots Qs arr hC hA kk => lv_icmp_lt hC.1 hC.2.1 hdg ht (fun q => absurd q hc) (fun _ => kk arr hA))
theorem j_if_ge {x : Int32} {off : Int} {tgt : Nat} (hdg : decode Y.2.1 pc = .ok (.ifCond .ge off, 3)) (ht : (pc : Int) + off = (tgt : Int)) (kt : (0 ≤ x) → JW l G h Y Q tgt ls st M) (kf : ¬ (0 ≤ x) → JW l G h Y Q (pc + 3) ls st M) : JW l G h Y Q pc ls (.int x :: st) M := by
  by_cases hc : (0 ≤ x)
  · exact JW.lift (kt hc) (fun p e R s m args below meth c H locs cells slots Qs arr hC hA kk => lv_if_ge hC.1 hC.2.1 hdg ht (fun _ => kk arr hA) (fun q => absurd hc q))
  · exact JW.lift (kf hc) (fun p e R s m args below meth c H locs cells slots Qs arr hC hA kk => lv_if_ge hC.1 hC.2.1 hdg ht (fun q => absurd q hc) (fun _ => kk arr hA))
theorem j_icmp_ge {x y : Int32} {off : Int} {tgt : Nat} (hdg : decode Y.2.1 pc = .ok (.if_icmp .ge off, 3)) (ht : (pc : Int) + off = (tgt : Int)) (kt : (y ≤ x) → JW l G h Y Q tgt ls st M) (kf : ¬ (y ≤ x) → JW l G h Y Q (pc + 3) ls st M) : JW l G h Y Q pc ls (.int y :: .int x :: st) M := by
  by_cases hc : (y ≤ x)
  · exact JW.lift (kt hc) (fun p e R s m args below meth c H locs cells slots Qs arr hC hA kk => lv_icmp_ge hC.1 hC.2.1 hdg ht (fun _ => kk arr hA) (fun q => absurd hc q))
  · exact JW.lift (kf hc) (fun p e R s m args below meth c H locs cells slots Qs arr hC hA kk => lv_icmp_ge hC.1 hC.2.1 hdg ht (fun q => absurd q hc) (fun _ => kk arr hA))
theorem j_if_gt {x : Int32} {off : Int} {tgt : Nat} (hdg : decode Y.2.1 pc = .ok (.ifCond .gt off, 3)) (ht : (pc : Int) + off = (tgt : Int)) (kt : (0 < x) → JW l G h Y Q tgt ls st M) (kf : ¬ (0 < x) → JW l G h Y Q (pc + 3) ls st M) : JW l G h Y Q pc ls (.int x :: st) M := by
  by_cases hc : (0 < x)
  · exact JW.lift (kt hc) (fun p e R s m args below meth c H locs cells slots Qs arr hC hA kk => lv_if_gt hC.1 hC.2.1 hdg ht (fun _ => kk arr hA) (fun q => absurd hc q))
  · exact JW.lift (kf hc) (fun p e R s m args below meth c H locs cells slots Qs arr hC hA kk => lv_if_gt hC.1 hC.2.1 hdg ht (fun q => absurd q hc) (fun _ => kk arr hA))
theorem j_icmp_gt {x y : Int32} {off : Int} {tgt : Nat} (hdg : decode Y.2.1 pc = .ok (.if_icmp .gt off, 3)) (ht : (pc : Int) + off = (tgt : Int)) (kt : (y < x) → JW l G h Y Q tgt ls st M) (kf : ¬ (y < x) → JW l G h Y Q (pc + 3) ls st M) : JW l G h Y Q pc ls (.int y :: .int x :: st) M := by
  by_cases hc : (y < x)
  · exact JW.lift (kt hc) (fun p e R s m args below meth c H locs cells slots Qs arr hC hA kk => lv_icmp_gt hC.1 hC.2.1 hdg ht (fun _ => kk arr hA) (fun q => absurd hc q))
  · exact JW.lift (kf hc) (fun p e R s m args below meth c H locs cells slots Qs arr hC hA kk => lv_icmp_gt hC.1 hC.2.1 hdg ht (fun q => absurd q hc) (fun _ => kk arr hA))
theorem j_if_le {x : Int32} {off : Int} {tgt : Nat} (hdg : decode Y.2.1 pc = .ok (.ifCond .le off, 3)) (ht : (pc : Int) + off = (tgt : Int)) (kt : (x ≤ 0) → JW l G h Y Q tgt ls st M) (kf : ¬ (x ≤ 0) → JW l G h Y Q (pc + 3) ls st M) : JW l G h Y Q pc ls (.int x :: st) M := by
  by_cases hc : (x ≤ 0)
  · exact JW.lift (kt hc) (fun p e R s m args below meth c H locs cells slots Qs arr hC hA kk => lv_if_le hC.1 hC.2.1 hdg ht (fun _ => kk arr hA) (fun q => absurd hc q))
  · exact JW.lift (kf hc) (fun p e R s m args below meth c H locs cells slots Qs arr hC hA kk => lv_if_le hC.1 hC.2.1 hdg ht (fun q => absurd q hc) (fun _ => kk arr hA))
theorem j_icmp_le {x y : Int32} {off : Int} {tgt : Nat} (hdg : decode Y.2.1 pc = .ok (.if_icmp .le off, 3)) (ht : (pc : Int) + off = (tgt : Int)) (kt : (x ≤ y) → JW l G h Y Q tgt ls st M) (kf : ¬ (x ≤ y) → JW l G h Y Q (pc + 3) ls st M) : JW l G h Y Q pc ls (.int y :: .int x :: st) M := by
  by_cases hc : (x ≤ y)
  · exact JW.lift (kt hc) (fun p e R s m args below meth c H locs cells slots Qs arr hC hA kk => lv_icmp_le hC.1 hC.2.1 hdg ht (fun _ => kk arr hA) (fun q => absurd hc q))
  · exact JW.lift (kf hc) (fun p e R s m args below meth c H locs cells slots Qs arr hC hA kk => lv_icmp_le hC.1 hC.2.1 hdg ht (fun q => absurd q hc) (fun _ => kk arr hA))
theorem j_acmp_eq {rx ry : Option Nat} {off : Int} {tgt : Nat} (hdg : decode Y.2.1 pc = .ok (.if_acmp .eq off, 3)) (ht : (pc : Int) + off = (tgt : Int)) (kt : (rx = ry) → JW l G h Y Q tgt ls st M) (kf : ¬ (rx = ry) → JW l G h Y Q (pc + 3) ls st M) : JW l G h Y Q pc ls (va_rf ry :: va_rf rx :: st) M := by
  by_cases hc : (rx = ry)
  · exact JW.lift (kt hc) (fun p e R s m args below meth c H locs cells slots Qs arr hC hA kk => lv_acmp_eq hC.1 hC.2.1 hdg ht (fun _ => kk arr hA) (fun q => absurd hc q))
  · exact JW.lift (kf hc) (fun p e R s m args below meth c H locs cells slots Qs arr hC hA kk => lv_acmp_eq hC.1 hC.2.1 hdg ht (fun q => absurd q hc) (fun _ => kk arr hA))
theorem j_acmp_ne {rx ry : Option Nat} {off : Int} {tgt : Nat} (hdg : decode Y.2.1 pc = .ok (.if_acmp .ne off, 3)) (ht : (pc : Int) + off = (tgt : Int)) (kt : (¬ rx = ry) → JW l G h Y Q tgt ls st M) (kf : (rx = ry) → JW l G h Y Q (pc + 3) ls st M) : JW l G h Y Q pc ls (va_rf ry :: va_rf rx :: st) M := by
  by_cases hc : (rx = ry)
  · exact JW.lift (kf hc) (fun p e R s m args below meth c H locs cells slots Qs arr hC hA kk => lv_acmp_ne hC.1 hC.2.1 hdg ht (fun q => absurd hc q) (fun _ => kk arr hA))
  · exact JW.lift (kt hc) (fun p e R s m args below meth c H locs cells slots Qs arr hC hA kk => lv_acmp_ne hC.1 hC.2.1 hdg ht (fun _ => kk arr hA) (fun q => absurd q hc))
theorem j_goto {off : Int} {tgt : Nat} (hdg : decode Y.2.1 pc = .ok (.goto off, 3)) (ht : (pc : Int) + off = (tgt : Int)) (k : JW l G h Y Q tgt ls st M) : JW l G h Y Q pc ls st M :=
  JW.lift k (fun p e R s m args below meth c H locs cells slots Qs arr hC hA kk => lv_goto hC.1 hC.2.1 hdg ht (kk arr hA))
theorem j_ifnonnull {x : Nat} {off : Int} {tgt : Nat} (hdg : decode Y.2.1 pc = .ok (.ifnonnull off, 3)) (ht : (pc : Int) + off = (tgt : Int)) (k : JW l G h Y Q tgt ls st M) : JW l G h Y Q pc ls (.ref x :: st) M :=
  JW.lift k (fun p e R s m args below meth c H locs cells slots Qs arr hC hA kk => lv_ifnonnull hC.1 hC.2.1 hdg ht (kk arr hA))
theorem j_ifnull {x : Nat} {off : Int} (hdg : decode Y.2.1 pc = .ok (.ifnull off, 3)) (k : JW l G h Y Q (pc + 3) ls st M) : JW l G h Y Q pc ls (.ref x :: st) M :=
  JW.lift k (fun p e R s m args below meth c H locs cells slots Qs arr hC hA kk => lv_ifnull hC.1 hC.2.1 hdg (kk arr hA))
theorem j_ifnullN {off : Int} {tgt : Nat} (hdg : decode Y.2.1 pc = .ok (.ifnull off, 3)) (ht : (pc : Int) + off = (tgt : Int)) (k : JW l G h Y Q tgt ls st M) : JW l G h Y Q pc ls (.null :: st) M :=
  JW.lift k (fun p e R s m args below meth c H locs cells slots Qs arr hC hA kk => lv_ifnullN hC.1 hC.2.1 hdg ht (kk arr hA))
theorem j_ifnonnullN {off : Int} (hdg : decode Y.2.1 pc = .ok (.ifnonnull off, 3)) (k : JW l G h Y Q (pc + 3) ls st M) : JW l G h Y Q pc ls (.null :: st) M :=
  JW.lift k (fun p e R s m args below meth c H locs cells slots Qs arr hC hA kk => lv_ifnonnullN hC.1 hC.2.1 hdg (kk arr hA))
theorem j_castN {index : Nat} (hdg : decode Y.2.1 pc = .ok (.checkcast index, 3)) (k : JW l G h Y Q (pc + 3) ls (.null :: st) M) : JW l G h Y Q pc ls (.null :: st) M :=
  JW.lift k (fun p e R s m args below meth c H locs cells slots Qs arr hC hA kk => lv_castN hC.1 hC.2.1 hdg (kk arr hA))
theorem j_lookup {dflt : Int} {ps : Array (Int × Int)} {len : Nat} {x : Int32} {off : Int} {tgt : Nat} (hdg : decode Y.2.1 pc = .ok (.lookupswitch dflt ps, len)) (hp : (ps.toList.zip (ps.toList.drop 1)).all (fun (a, next) => a.1 < next.1) = true) (ho : Op.lookupswitch.offset ps.toList dflt x.toInt = off) (ht : (pc : Int) + off = (tgt : Int)) (k : JW l G h Y Q tgt ls st M) : JW l G h Y Q pc ls (.int x :: st) M :=
  JW.lift k (fun p e R s m args below meth c H locs cells slots Qs arr hC hA kk => lv_lookup hC.1 hC.2.1 hdg hp ho ht (kk arr hA))
theorem j_tableIn {dflt lo hi : Int} {offs : Array Int} {len : Nat} {x : Int32} {off : Int} {tgt : Nat} (hdg : decode Y.2.1 pc = .ok (.tableswitch dflt lo hi offs, len)) (h1 : ¬ x.toInt < lo) (h2 : ¬ hi < x.toInt) (ho : offs[(x.toInt - lo).toNat]? = some off) (ht : (pc : Int) + off = (tgt : Int)) (k : JW l G h Y Q tgt ls st M) : JW l G h Y Q pc ls (.int x :: st) M :=
  JW.lift k (fun p e R s m args below meth c H locs cells slots Qs arr hC hA kk => lv_tableIn hC.1 hC.2.1 hdg h1 h2 ho ht (kk arr hA))
theorem j_tableOut {dflt lo hi : Int} {offs : Array Int} {len : Nat} {x : Int32} {tgt : Nat} (hdg : decode Y.2.1 pc = .ok (.tableswitch dflt lo hi offs, len)) (h0 : x.toInt < lo ∨ hi < x.toInt) (ht : (pc : Int) + dflt = (tgt : Int)) (k : JW l G h Y Q tgt ls st M) : JW l G h Y Q pc ls (.int x :: st) M :=
  JW.lift k (fun p e R s m args below meth c H locs cells slots Qs arr hC hA kk => lv_tableOut hC.1 hC.2.1 hdg h0 ht (kk arr hA))
theorem j_ldc {index : Nat} {v : Int32} (hdg : decode Y.2.1 pc = .ok (.ldc index, 2)) (hw : Cond.constant Y.1.cls index v ∈ lw_all) (k : JW l G h Y Q (pc + 2) ls (.int v :: st) M) : JW l G h Y Q pc ls st M :=
  JW.lift k (fun p e R s m args below meth c H locs cells slots Qs arr hC hA kk => lv_ldc hC.1 hC.2.1 hC.2.2.2.2.2.1 (hC.2.2.2.2.2.2.1 _ hw) hdg (kk arr hA))
theorem j_ldcw {index : Nat} {v : Int32} (hdg : decode Y.2.1 pc = .ok (.ldc_w index, 3)) (hw : Cond.constant Y.1.cls index v ∈ lw_all) (k : JW l G h Y Q (pc + 3) ls (.int v :: st) M) : JW l G h Y Q pc ls st M :=
  JW.lift k (fun p e R s m args below meth c H locs cells slots Qs arr hC hA kk => lv_ldcw hC.1 hC.2.1 hC.2.2.2.2.2.1 (hC.2.2.2.2.2.2.1 _ hw) hdg (kk arr hA))
theorem j_ldc2 {index : Nat} {v : Int64} (hdg : decode Y.2.1 pc = .ok (.ldc2_w index, 3)) (hw : Cond.constantLong Y.1.cls index v ∈ lw_all) (k : JW l G h Y Q (pc + 3) ls (.long v :: st) M) : JW l G h Y Q pc ls st M :=
  JW.lift k (fun p e R s m args below meth c H locs cells slots Qs arr hC hA kk => lv_ldc2 hC.1 hC.2.1 hC.2.2.2.2.2.1 (hC.2.2.2.2.2.2.1 _ hw) hdg (kk arr hA))
theorem j_ldcS {own tx : String} {index q i : Nat} (hdg : decode Y.2.1 pc = .ok (.ldc index, 2)) (hi : j_strs[i]? = some (Y.1.cls, index, tx)) (k : JW l G h Y Q (pc + 2) ls (.ref (jKa G i) :: st) M) : JW l G h Y Q pc ls st M :=
  JW.lift k (fun p e R s m args below meth c H locs cells slots Qs arr hC hA kk => va_ldcS hC.1 hC.2.1 hC.2.2.2.2.2.1 (hC.2.2.2.2.2.2.2.1.2.2.2.2.1 i _ hi) hdg (kk arr hA))
end JOps
