/-! ===== the tables that J stands on: classes, interface entries, strings, statics, lambda sites ===== -/
def jcl : List vw_C := [(RX0, TX0, 8), (RX1, TX1, 13), (RX2, TX2, 20), (RX3, TX3, 10), (RX4, TX4, 8), (RX5, TX5, 2), (RX6, TX6, 5), (RX7, TX7, 1), (RX8, TX8, 3), (RX9, TX9, 3), (RX10, TX10, 7), (RJ2, TJ2, 3), (RJ4, TJ4, 4), (RJ5, TJ5, 3), (RJ7, TJ7, 4), (RJ8, TJ8, 4), (RJ10, TJ10, 4), (RJ23, TJ23, 5), (RJ25, TJ25, 1), (RJ26, TJ26, 3), (RJ30, TJ30, 3)]
def x_hasNext : MethodName := ⟨"java/util/Iterator", "hasNext", "()Z"⟩
def x_next : MethodName := ⟨"java/util/Iterator", "next", "()Ljava/lang/Object;"⟩
def x_remove : MethodName := ⟨"java/util/Iterator", "remove", "()V"⟩
def x_iterator : MethodName := ⟨"java/lang/Iterable", "iterator", "()Ljava/util/Iterator;"⟩
def j_faces : List (String × MethodName × MethodName) := [(RX5, x_hasNext, yX5_hasNext), (RJ10, x_hasNext, yJ10_hasNext), (RJ23, x_hasNext, yJ23_hasNext), (RX5, x_next, yX5_next), (RJ10, x_next, yJ10_next), (RJ23, x_next, yJ23_next), (RJ23, x_remove, yJ23_remove), (RX7, x_iterator, yX7_iterator), (RJ4, x_iterator, yJ3_iterator)]
theorem j_faces_ok : ∀ t ∈ j_faces, t.2.1.cls ≠ "java/lang/invoke/MethodHandle" ∧ t.2.1.cls ≠ "java/lang/invoke/VarHandle" := by decide +kernel
def j_aos : List String := ["java/lang/Object", "java/lang/String", "PittanceHouse$Ahead"]
def j_strs : List (String × Nat × String) := [("PittanceHouse", 36, ""), ("java/lang/Throwable", 81, ": "), ("PittanceHouse$Reader", 17, "voice "), ("PittanceHouse$Reader", 19, "choose "), ("PittanceHouse$Reader", 21, "leave "), ("PittanceHouse$Reader", 23, "breach "), ("PittanceHouse$Reader", 25, "pardon "), ("PittanceHouse$Reader", 27, "feast "), ("PittanceHouse$Reader", 29, "gift "), ("PittanceHouse$Reader", 31, "weeks "), ("PittanceHouse$Order", 19, "voice "), ("PittanceHouse$Order", 25, "choose "), ("PittanceHouse$Order", 27, "leave "), ("PittanceHouse$Order", 29, "breach "), ("PittanceHouse$Order", 31, "pardon "), ("PittanceHouse$Order", 33, "feast "), ("PittanceHouse$Order", 35, "gift "), ("PittanceHouse$House", 284, ""), ("PittanceHouse$House", 286, " "), ("PittanceHouse$House", 298, "!"), ("PittanceHouse$House", 300, "*"), ("PittanceHouse$House", 309, ","), ("PittanceHouse$House", 311, "k")]
def j_ncs : List (String × String) := [("PittanceHouse$Refused", "PittanceHouse$Wrong")]
def j_stats : List (String × String × String) := [("java/util/ArrayList", "EMPTY_ELEMENTDATA", "[Ljava/lang/Object;"), ("java/util/ArrayList", "DEFAULTCAPACITY_EMPTY_ELEMENTDATA", "[Ljava/lang/Object;"), ("java/lang/String", "COMPACT_STRINGS", "Z"), ("java/lang/Throwable", "UNASSIGNED_STACK", "[Ljava/lang/StackTraceElement;"), ("java/lang/Throwable", "SUPPRESSED_SENTINEL", "Ljava/util/List;"), ("java/lang/Integer$IntegerCache", "high", "I"), ("java/lang/Integer$IntegerCache", "cache", "[Ljava/lang/Integer;"), ("java/lang/Integer", "DigitOnes", "[B"), ("java/lang/Integer", "DigitTens", "[B"), ("java/util/BitSet", "$assertionsDisabled", "Z"), ("jdk/internal/util/Preconditions", "SIOOBE_FORMATTER", "Ljava/util/function/BiFunction;")]
def j_sh0 : Lambda.Shape := { iface := "PittanceHouse$Ahead", name := "is", sam := { parameters := [.int, .int], returnType := some .boolean }, captured := [.int], kind := 6, implClass := "PittanceHouse", implName := "lambda$new$0", implDesc := { parameters := [.int, .int, .int], returnType := some .boolean }, implItf := false, inst := { parameters := [.int, .int], returnType := some .boolean } }
def j_sh1 : Lambda.Shape := { iface := "PittanceHouse$Ahead", name := "is", sam := { parameters := [.int, .int], returnType := some .boolean }, captured := [.int], kind := 6, implClass := "PittanceHouse", implName := "lambda$new$1", implDesc := { parameters := [.int, .int, .int], returnType := some .boolean }, implItf := false, inst := { parameters := [.int, .int], returnType := some .boolean } }
def y_houseInit : MethodName := ⟨"PittanceHouse", "<init>", "()V"⟩
theorem j_site0 : siteWord_1_1 = Cond.lambdaSite y_houseInit 59 42 j_sh0 := rfl
theorem j_site1 : siteWord_1_2 = Cond.lambdaSite y_houseInit 71 46 j_sh1 := rfl
/-- a linked lambda site: it makes objects of the class cK -/
def jL1 (cK : ClassId) (U : State) (pc index : Nat) (σ : Lambda.Shape) : Prop := ∃ (m : MethodId) (k : Class) (cf : ClassFile) (i0 p0 : Nat), U.methodNamed? y_houseInit = some m ∧ U.vm.classes[m.cls]? = some k ∧ k.cf = some cf ∧ Lambda.shapeOf? cf index = some σ ∧ (m.idx, pc, index, σ) ∈ Lambda.sitesOf k ∧
  (k.callSites.find? fun y => y.1 == m.idx && y.2.1 == pc) = some (i0, p0, .makes cK) ∧ Lambda.isMade { classPath := fun _ => none } U.vm m.cls σ cK = true ∧ U.lambdaCallable σ cK = true
theorem jL1.moved {cK : ClassId} {s U : State} {pc index : Nat} {σ : Lambda.Shape} (hW : s.WarmedH U.vm) (h : jL1 cK s pc index σ) : jL1 cK U pc index σ := by
  obtain ⟨m, k, cf, i0, p0, hm, hk, hcf, hsh, hin, hfind, hmade, hcall⟩ := h
  have hA := hW.alike
  obtain ⟨kc', hk', he⟩ := hA.2.2 _ _ hk
  refine ⟨m, kc', cf, i0, p0, ?_, hk', by rw [he]; exact hcf, hsh, by rw [he]; exact hin, by rw [he]; exact hfind, Lambda.isMade_warmer hW hmade, ?_⟩
  · have := State.methodNamed?_setVm (s := s) hA y_houseInit
    rw [hm] at this
    exact this
  · simp only [State.lambdaCallable, hA.findClass, hA.assignable, hA.superclasses, hA.declaredIn] at hcall ⊢
    exact hcall
