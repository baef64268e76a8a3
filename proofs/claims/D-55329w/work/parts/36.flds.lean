/-! ===== fields, classes, 'new', methods, by name (printed by tools/gen_flds.py) ===== -/
theorem cl_0 : j_Cl 0 := ⟨(RX0, TX0, 8), tyX0, rfl, tyX0_ok, nmX0⟩
theorem ft_0_0 : ∀ r : vw_C, jcl[(0 : Nat)]? = some r → parseFieldDescriptor (r.2.1 0).2.2.1 = some (.object "PittanceHouse$House") ∧ (r.2.1 0).2.2.2 = false ∧ (r.2.1 0).1 = "PittanceHouse" := by
  intro r hr
  cases hr
  exact ⟨tyX0_ok 0 (by decide), rfl, rfl⟩
theorem ft_0_1 : ∀ r : vw_C, jcl[(0 : Nat)]? = some r → parseFieldDescriptor (r.2.1 1).2.2.1 = some (.object "PittanceHouse$House") ∧ (r.2.1 1).2.2.2 = false ∧ (r.2.1 1).1 = "PittanceHouse" := by
  intro r hr
  cases hr
  exact ⟨tyX0_ok 1 (by decide), rfl, rfl⟩
theorem ft_0_2 : ∀ r : vw_C, jcl[(0 : Nat)]? = some r → parseFieldDescriptor (r.2.1 2).2.2.1 = some (.object "java/util/ArrayDeque") ∧ (r.2.1 2).2.2.2 = true ∧ (r.2.1 2).1 = "PittanceHouse" := by
  intro r hr
  cases hr
  exact ⟨tyX0_ok 2 (by decide), rfl, rfl⟩
theorem ft_0_3 : ∀ r : vw_C, jcl[(0 : Nat)]? = some r → parseFieldDescriptor (r.2.1 3).2.2.1 = some .int ∧ (r.2.1 3).2.2.2 = false ∧ (r.2.1 3).1 = "PittanceHouse" := by
  intro r hr
  cases hr
  exact ⟨tyX0_ok 3 (by decide), rfl, rfl⟩
theorem ft_0_4 : ∀ r : vw_C, jcl[(0 : Nat)]? = some r → parseFieldDescriptor (r.2.1 4).2.2.1 = some .int ∧ (r.2.1 4).2.2.2 = false ∧ (r.2.1 4).1 = "PittanceHouse" := by
  intro r hr
  cases hr
  exact ⟨tyX0_ok 4 (by decide), rfl, rfl⟩
theorem ft_0_5 : ∀ r : vw_C, jcl[(0 : Nat)]? = some r → parseFieldDescriptor (r.2.1 5).2.2.1 = some (.array (.object "PittanceHouse$Ahead")) ∧ (r.2.1 5).2.2.2 = true ∧ (r.2.1 5).1 = "PittanceHouse" := by
  intro r hr
  cases hr
  exact ⟨tyX0_ok 5 (by decide), rfl, rfl⟩
theorem ft_0_6 : ∀ r : vw_C, jcl[(0 : Nat)]? = some r → parseFieldDescriptor (r.2.1 6).2.2.1 = some (.object "java/lang/StringBuilder") ∧ (r.2.1 6).2.2.2 = true ∧ (r.2.1 6).1 = "PittanceHouse" := by
  intro r hr
  cases hr
  exact ⟨tyX0_ok 6 (by decide), rfl, rfl⟩
theorem ft_0_7 : ∀ r : vw_C, jcl[(0 : Nat)]? = some r → parseFieldDescriptor (r.2.1 7).2.2.1 = some (.object "java/lang/String") ∧ (r.2.1 7).2.2.2 = false ∧ (r.2.1 7).1 = "PittanceHouse" := by
  intro r hr
  cases hr
  exact ⟨tyX0_ok 7 (by decide), rfl, rfl⟩
theorem cl_1 : j_Cl 1 := ⟨(RX1, TX1, 13), tyX1, rfl, tyX1_ok, nmX1⟩
theorem ft_1_0 : ∀ r : vw_C, jcl[(1 : Nat)]? = some r → parseFieldDescriptor (r.2.1 0).2.2.1 = some (.object "java/util/ArrayList") ∧ (r.2.1 0).2.2.2 = true ∧ (r.2.1 0).1 = "PittanceHouse$House" := by
  intro r hr
  cases hr
  exact ⟨tyX1_ok 0 (by decide), rfl, rfl⟩
theorem ft_1_1 : ∀ r : vw_C, jcl[(1 : Nat)]? = some r → parseFieldDescriptor (r.2.1 1).2.2.1 = some (.object "java/util/LinkedList") ∧ (r.2.1 1).2.2.2 = true ∧ (r.2.1 1).1 = "PittanceHouse$House" := by
  intro r hr
  cases hr
  exact ⟨tyX1_ok 1 (by decide), rfl, rfl⟩
theorem ft_1_2 : ∀ r : vw_C, jcl[(1 : Nat)]? = some r → parseFieldDescriptor (r.2.1 2).2.2.1 = some (.object "java/util/LinkedList") ∧ (r.2.1 2).2.2.2 = true ∧ (r.2.1 2).1 = "PittanceHouse$House" := by
  intro r hr
  cases hr
  exact ⟨tyX1_ok 2 (by decide), rfl, rfl⟩
theorem ft_1_3 : ∀ r : vw_C, jcl[(1 : Nat)]? = some r → parseFieldDescriptor (r.2.1 3).2.2.1 = some (.array .int) ∧ (r.2.1 3).2.2.2 = true ∧ (r.2.1 3).1 = "PittanceHouse$House" := by
  intro r hr
  cases hr
  exact ⟨tyX1_ok 3 (by decide), rfl, rfl⟩
theorem ft_1_4 : ∀ r : vw_C, jcl[(1 : Nat)]? = some r → parseFieldDescriptor (r.2.1 4).2.2.1 = some (.array .int) ∧ (r.2.1 4).2.2.2 = true ∧ (r.2.1 4).1 = "PittanceHouse$House" := by
  intro r hr
  cases hr
  exact ⟨tyX1_ok 4 (by decide), rfl, rfl⟩
theorem ft_1_5 : ∀ r : vw_C, jcl[(1 : Nat)]? = some r → parseFieldDescriptor (r.2.1 5).2.2.1 = some .int ∧ (r.2.1 5).2.2.2 = false ∧ (r.2.1 5).1 = "PittanceHouse$House" := by
  intro r hr
  cases hr
  exact ⟨tyX1_ok 5 (by decide), rfl, rfl⟩
theorem ft_1_6 : ∀ r : vw_C, jcl[(1 : Nat)]? = some r → parseFieldDescriptor (r.2.1 6).2.2.1 = some .int ∧ (r.2.1 6).2.2.2 = false ∧ (r.2.1 6).1 = "PittanceHouse$House" := by
  intro r hr
  cases hr
  exact ⟨tyX1_ok 6 (by decide), rfl, rfl⟩
theorem ft_1_7 : ∀ r : vw_C, jcl[(1 : Nat)]? = some r → parseFieldDescriptor (r.2.1 7).2.2.1 = some .int ∧ (r.2.1 7).2.2.2 = false ∧ (r.2.1 7).1 = "PittanceHouse$House" := by
  intro r hr
  cases hr
  exact ⟨tyX1_ok 7 (by decide), rfl, rfl⟩
theorem ft_1_8 : ∀ r : vw_C, jcl[(1 : Nat)]? = some r → parseFieldDescriptor (r.2.1 8).2.2.1 = some .int ∧ (r.2.1 8).2.2.2 = false ∧ (r.2.1 8).1 = "PittanceHouse$House" := by
  intro r hr
  cases hr
  exact ⟨tyX1_ok 8 (by decide), rfl, rfl⟩
theorem ft_1_9 : ∀ r : vw_C, jcl[(1 : Nat)]? = some r → parseFieldDescriptor (r.2.1 9).2.2.1 = some .int ∧ (r.2.1 9).2.2.2 = false ∧ (r.2.1 9).1 = "PittanceHouse$House" := by
  intro r hr
  cases hr
  exact ⟨tyX1_ok 9 (by decide), rfl, rfl⟩
theorem ft_1_10 : ∀ r : vw_C, jcl[(1 : Nat)]? = some r → parseFieldDescriptor (r.2.1 10).2.2.1 = some .int ∧ (r.2.1 10).2.2.2 = false ∧ (r.2.1 10).1 = "PittanceHouse$House" := by
  intro r hr
  cases hr
  exact ⟨tyX1_ok 10 (by decide), rfl, rfl⟩
theorem ft_1_11 : ∀ r : vw_C, jcl[(1 : Nat)]? = some r → parseFieldDescriptor (r.2.1 11).2.2.1 = some .int ∧ (r.2.1 11).2.2.2 = false ∧ (r.2.1 11).1 = "PittanceHouse$House" := by
  intro r hr
  cases hr
  exact ⟨tyX1_ok 11 (by decide), rfl, rfl⟩
theorem ft_1_12 : ∀ r : vw_C, jcl[(1 : Nat)]? = some r → parseFieldDescriptor (r.2.1 12).2.2.1 = some .int ∧ (r.2.1 12).2.2.2 = false ∧ (r.2.1 12).1 = "PittanceHouse$House" := by
  intro r hr
  cases hr
  exact ⟨tyX1_ok 12 (by decide), rfl, rfl⟩
theorem cl_2 : j_Cl 2 := ⟨(RX2, TX2, 20), tyX2, rfl, tyX2_ok, nmX2⟩
theorem ft_2_0 : ∀ r : vw_C, jcl[(2 : Nat)]? = some r → parseFieldDescriptor (r.2.1 0).2.2.1 = some .int ∧ (r.2.1 0).2.2.2 = false ∧ (r.2.1 0).1 = "PittanceHouseModel" := by
  intro r hr
  cases hr
  exact ⟨tyX2_ok 0 (by decide), rfl, rfl⟩
theorem ft_2_1 : ∀ r : vw_C, jcl[(2 : Nat)]? = some r → parseFieldDescriptor (r.2.1 1).2.2.1 = some .int ∧ (r.2.1 1).2.2.2 = false ∧ (r.2.1 1).1 = "PittanceHouseModel" := by
  intro r hr
  cases hr
  exact ⟨tyX2_ok 1 (by decide), rfl, rfl⟩
theorem ft_2_2 : ∀ r : vw_C, jcl[(2 : Nat)]? = some r → parseFieldDescriptor (r.2.1 2).2.2.1 = some .int ∧ (r.2.1 2).2.2.2 = false ∧ (r.2.1 2).1 = "PittanceHouseModel" := by
  intro r hr
  cases hr
  exact ⟨tyX2_ok 2 (by decide), rfl, rfl⟩
theorem ft_2_3 : ∀ r : vw_C, jcl[(2 : Nat)]? = some r → parseFieldDescriptor (r.2.1 3).2.2.1 = some .int ∧ (r.2.1 3).2.2.2 = false ∧ (r.2.1 3).1 = "PittanceHouseModel" := by
  intro r hr
  cases hr
  exact ⟨tyX2_ok 3 (by decide), rfl, rfl⟩
theorem ft_2_4 : ∀ r : vw_C, jcl[(2 : Nat)]? = some r → parseFieldDescriptor (r.2.1 4).2.2.1 = some (.array .int) ∧ (r.2.1 4).2.2.2 = true ∧ (r.2.1 4).1 = "PittanceHouseModel" := by
  intro r hr
  cases hr
  exact ⟨tyX2_ok 4 (by decide), rfl, rfl⟩
theorem ft_2_5 : ∀ r : vw_C, jcl[(2 : Nat)]? = some r → parseFieldDescriptor (r.2.1 5).2.2.1 = some (.array .int) ∧ (r.2.1 5).2.2.2 = true ∧ (r.2.1 5).1 = "PittanceHouseModel" := by
  intro r hr
  cases hr
  exact ⟨tyX2_ok 5 (by decide), rfl, rfl⟩
theorem ft_2_6 : ∀ r : vw_C, jcl[(2 : Nat)]? = some r → parseFieldDescriptor (r.2.1 6).2.2.1 = some (.array .int) ∧ (r.2.1 6).2.2.2 = true ∧ (r.2.1 6).1 = "PittanceHouseModel" := by
  intro r hr
  cases hr
  exact ⟨tyX2_ok 6 (by decide), rfl, rfl⟩
theorem ft_2_7 : ∀ r : vw_C, jcl[(2 : Nat)]? = some r → parseFieldDescriptor (r.2.1 7).2.2.1 = some (.array .int) ∧ (r.2.1 7).2.2.2 = true ∧ (r.2.1 7).1 = "PittanceHouseModel" := by
  intro r hr
  cases hr
  exact ⟨tyX2_ok 7 (by decide), rfl, rfl⟩
theorem ft_2_8 : ∀ r : vw_C, jcl[(2 : Nat)]? = some r → parseFieldDescriptor (r.2.1 8).2.2.1 = some .int ∧ (r.2.1 8).2.2.2 = false ∧ (r.2.1 8).1 = "PittanceHouseModel" := by
  intro r hr
  cases hr
  exact ⟨tyX2_ok 8 (by decide), rfl, rfl⟩
theorem ft_2_9 : ∀ r : vw_C, jcl[(2 : Nat)]? = some r → parseFieldDescriptor (r.2.1 9).2.2.1 = some .int ∧ (r.2.1 9).2.2.2 = false ∧ (r.2.1 9).1 = "PittanceHouseModel" := by
  intro r hr
  cases hr
  exact ⟨tyX2_ok 9 (by decide), rfl, rfl⟩
theorem ft_2_10 : ∀ r : vw_C, jcl[(2 : Nat)]? = some r → parseFieldDescriptor (r.2.1 10).2.2.1 = some .boolean ∧ (r.2.1 10).2.2.2 = false ∧ (r.2.1 10).1 = "PittanceHouseModel" := by
  intro r hr
  cases hr
  exact ⟨tyX2_ok 10 (by decide), rfl, rfl⟩
theorem ft_2_11 : ∀ r : vw_C, jcl[(2 : Nat)]? = some r → parseFieldDescriptor (r.2.1 11).2.2.1 = some (.array .int) ∧ (r.2.1 11).2.2.2 = true ∧ (r.2.1 11).1 = "PittanceHouseModel" := by
  intro r hr
  cases hr
  exact ⟨tyX2_ok 11 (by decide), rfl, rfl⟩
theorem ft_2_12 : ∀ r : vw_C, jcl[(2 : Nat)]? = some r → parseFieldDescriptor (r.2.1 12).2.2.1 = some (.array .char) ∧ (r.2.1 12).2.2.2 = true ∧ (r.2.1 12).1 = "PittanceHouseModel" := by
  intro r hr
  cases hr
  exact ⟨tyX2_ok 12 (by decide), rfl, rfl⟩
theorem ft_2_13 : ∀ r : vw_C, jcl[(2 : Nat)]? = some r → parseFieldDescriptor (r.2.1 13).2.2.1 = some .int ∧ (r.2.1 13).2.2.2 = false ∧ (r.2.1 13).1 = "PittanceHouseModel" := by
  intro r hr
  cases hr
  exact ⟨tyX2_ok 13 (by decide), rfl, rfl⟩
theorem ft_2_14 : ∀ r : vw_C, jcl[(2 : Nat)]? = some r → parseFieldDescriptor (r.2.1 14).2.2.1 = some .int ∧ (r.2.1 14).2.2.2 = false ∧ (r.2.1 14).1 = "PittanceHouseModel" := by
  intro r hr
  cases hr
  exact ⟨tyX2_ok 14 (by decide), rfl, rfl⟩
theorem ft_2_15 : ∀ r : vw_C, jcl[(2 : Nat)]? = some r → parseFieldDescriptor (r.2.1 15).2.2.1 = some (.array .int) ∧ (r.2.1 15).2.2.2 = true ∧ (r.2.1 15).1 = "PittanceHouseModel" := by
  intro r hr
  cases hr
  exact ⟨tyX2_ok 15 (by decide), rfl, rfl⟩
theorem ft_2_16 : ∀ r : vw_C, jcl[(2 : Nat)]? = some r → parseFieldDescriptor (r.2.1 16).2.2.1 = some .int ∧ (r.2.1 16).2.2.2 = false ∧ (r.2.1 16).1 = "PittanceHouseModel" := by
  intro r hr
  cases hr
  exact ⟨tyX2_ok 16 (by decide), rfl, rfl⟩
theorem ft_2_17 : ∀ r : vw_C, jcl[(2 : Nat)]? = some r → parseFieldDescriptor (r.2.1 17).2.2.1 = some .int ∧ (r.2.1 17).2.2.2 = false ∧ (r.2.1 17).1 = "PittanceHouseModel" := by
  intro r hr
  cases hr
  exact ⟨tyX2_ok 17 (by decide), rfl, rfl⟩
theorem ft_2_18 : ∀ r : vw_C, jcl[(2 : Nat)]? = some r → parseFieldDescriptor (r.2.1 18).2.2.1 = some (.array .char) ∧ (r.2.1 18).2.2.2 = true ∧ (r.2.1 18).1 = "PittanceHouseModel" := by
  intro r hr
  cases hr
  exact ⟨tyX2_ok 18 (by decide), rfl, rfl⟩
theorem ft_2_19 : ∀ r : vw_C, jcl[(2 : Nat)]? = some r → parseFieldDescriptor (r.2.1 19).2.2.1 = some .int ∧ (r.2.1 19).2.2.2 = false ∧ (r.2.1 19).1 = "PittanceHouseModel" := by
  intro r hr
  cases hr
  exact ⟨tyX2_ok 19 (by decide), rfl, rfl⟩
theorem cl_3 : j_Cl 3 := ⟨(RX3, TX3, 10), tyX3, rfl, tyX3_ok, nmX3⟩
theorem ft_3_0 : ∀ r : vw_C, jcl[(3 : Nat)]? = some r → parseFieldDescriptor (r.2.1 0).2.2.1 = some .int ∧ (r.2.1 0).2.2.2 = true ∧ (r.2.1 0).1 = "PittanceHouse$Brother" := by
  intro r hr
  cases hr
  exact ⟨tyX3_ok 0 (by decide), rfl, rfl⟩
theorem ft_3_1 : ∀ r : vw_C, jcl[(3 : Nat)]? = some r → parseFieldDescriptor (r.2.1 1).2.2.1 = some .boolean ∧ (r.2.1 1).2.2.2 = true ∧ (r.2.1 1).1 = "PittanceHouse$Brother" := by
  intro r hr
  cases hr
  exact ⟨tyX3_ok 1 (by decide), rfl, rfl⟩
theorem ft_3_2 : ∀ r : vw_C, jcl[(3 : Nat)]? = some r → parseFieldDescriptor (r.2.1 2).2.2.1 = some .int ∧ (r.2.1 2).2.2.2 = false ∧ (r.2.1 2).1 = "PittanceHouse$Brother" := by
  intro r hr
  cases hr
  exact ⟨tyX3_ok 2 (by decide), rfl, rfl⟩
theorem ft_3_3 : ∀ r : vw_C, jcl[(3 : Nat)]? = some r → parseFieldDescriptor (r.2.1 3).2.2.1 = some .int ∧ (r.2.1 3).2.2.2 = false ∧ (r.2.1 3).1 = "PittanceHouse$Brother" := by
  intro r hr
  cases hr
  exact ⟨tyX3_ok 3 (by decide), rfl, rfl⟩
theorem ft_3_4 : ∀ r : vw_C, jcl[(3 : Nat)]? = some r → parseFieldDescriptor (r.2.1 4).2.2.1 = some .int ∧ (r.2.1 4).2.2.2 = false ∧ (r.2.1 4).1 = "PittanceHouse$Brother" := by
  intro r hr
  cases hr
  exact ⟨tyX3_ok 4 (by decide), rfl, rfl⟩
theorem ft_3_5 : ∀ r : vw_C, jcl[(3 : Nat)]? = some r → parseFieldDescriptor (r.2.1 5).2.2.1 = some .int ∧ (r.2.1 5).2.2.2 = false ∧ (r.2.1 5).1 = "PittanceHouse$Brother" := by
  intro r hr
  cases hr
  exact ⟨tyX3_ok 5 (by decide), rfl, rfl⟩
theorem ft_3_6 : ∀ r : vw_C, jcl[(3 : Nat)]? = some r → parseFieldDescriptor (r.2.1 6).2.2.1 = some .int ∧ (r.2.1 6).2.2.2 = false ∧ (r.2.1 6).1 = "PittanceHouse$Brother" := by
  intro r hr
  cases hr
  exact ⟨tyX3_ok 6 (by decide), rfl, rfl⟩
theorem ft_3_7 : ∀ r : vw_C, jcl[(3 : Nat)]? = some r → parseFieldDescriptor (r.2.1 7).2.2.1 = some .int ∧ (r.2.1 7).2.2.2 = false ∧ (r.2.1 7).1 = "PittanceHouse$Brother" := by
  intro r hr
  cases hr
  exact ⟨tyX3_ok 7 (by decide), rfl, rfl⟩
theorem ft_3_8 : ∀ r : vw_C, jcl[(3 : Nat)]? = some r → parseFieldDescriptor (r.2.1 8).2.2.1 = some .int ∧ (r.2.1 8).2.2.2 = false ∧ (r.2.1 8).1 = "PittanceHouse$Brother" := by
  intro r hr
  cases hr
  exact ⟨tyX3_ok 8 (by decide), rfl, rfl⟩
theorem ft_3_9 : ∀ r : vw_C, jcl[(3 : Nat)]? = some r → parseFieldDescriptor (r.2.1 9).2.2.1 = some (.array .int) ∧ (r.2.1 9).2.2.2 = true ∧ (r.2.1 9).1 = "PittanceHouse$Brother" := by
  intro r hr
  cases hr
  exact ⟨tyX3_ok 9 (by decide), rfl, rfl⟩
theorem cl_4 : j_Cl 4 := ⟨(RX4, TX4, 8), tyX4, rfl, tyX4_ok, nmX4⟩
theorem ft_4_0 : ∀ r : vw_C, jcl[(4 : Nat)]? = some r → parseFieldDescriptor (r.2.1 0).2.2.1 = some (.object "java/lang/Throwable") ∧ (r.2.1 0).2.2.2 = false ∧ (r.2.1 0).1 = "java/lang/Throwable" := by
  intro r hr
  cases hr
  exact ⟨tyX4_ok 0 (by decide), rfl, rfl⟩
theorem ft_4_1 : ∀ r : vw_C, jcl[(4 : Nat)]? = some r → parseFieldDescriptor (r.2.1 1).2.2.1 = some (.array (.object "java/lang/StackTraceElement")) ∧ (r.2.1 1).2.2.2 = false ∧ (r.2.1 1).1 = "java/lang/Throwable" := by
  intro r hr
  cases hr
  exact ⟨tyX4_ok 1 (by decide), rfl, rfl⟩
theorem ft_4_2 : ∀ r : vw_C, jcl[(4 : Nat)]? = some r → parseFieldDescriptor (r.2.1 2).2.2.1 = some (.object "java/util/List") ∧ (r.2.1 2).2.2.2 = false ∧ (r.2.1 2).1 = "java/lang/Throwable" := by
  intro r hr
  cases hr
  exact ⟨tyX4_ok 2 (by decide), rfl, rfl⟩
theorem ft_4_3 : ∀ r : vw_C, jcl[(4 : Nat)]? = some r → parseFieldDescriptor (r.2.1 3).2.2.1 = some (.object "java/lang/String") ∧ (r.2.1 3).2.2.2 = false ∧ (r.2.1 3).1 = "java/lang/Throwable" := by
  intro r hr
  cases hr
  exact ⟨tyX4_ok 3 (by decide), rfl, rfl⟩
theorem ft_4_4 : ∀ r : vw_C, jcl[(4 : Nat)]? = some r → parseFieldDescriptor (r.2.1 4).2.2.1 = some (.object "java/lang/Object") ∧ (r.2.1 4).2.2.2 = false ∧ (r.2.1 4).1 = "java/lang/Throwable" := by
  intro r hr
  cases hr
  exact ⟨tyX4_ok 4 (by decide), rfl, rfl⟩
theorem ft_4_5 : ∀ r : vw_C, jcl[(4 : Nat)]? = some r → parseFieldDescriptor (r.2.1 5).2.2.1 = some .int ∧ (r.2.1 5).2.2.2 = false ∧ (r.2.1 5).1 = "java/lang/Throwable" := by
  intro r hr
  cases hr
  exact ⟨tyX4_ok 5 (by decide), rfl, rfl⟩
theorem ft_4_6 : ∀ r : vw_C, jcl[(4 : Nat)]? = some r → parseFieldDescriptor (r.2.1 6).2.2.1 = some .int ∧ (r.2.1 6).2.2.2 = true ∧ (r.2.1 6).1 = "PittanceHouse$Refused" := by
  intro r hr
  cases hr
  exact ⟨tyX4_ok 6 (by decide), rfl, rfl⟩
theorem ft_4_7 : ∀ r : vw_C, jcl[(4 : Nat)]? = some r → parseFieldDescriptor (r.2.1 7).2.2.1 = some .int ∧ (r.2.1 7).2.2.2 = true ∧ (r.2.1 7).1 = "PittanceHouse$Refused" := by
  intro r hr
  cases hr
  exact ⟨tyX4_ok 7 (by decide), rfl, rfl⟩
theorem cl_5 : j_Cl 5 := ⟨(RX5, TX5, 2), tyX5, rfl, tyX5_ok, nmX5⟩
theorem ft_5_0 : ∀ r : vw_C, jcl[(5 : Nat)]? = some r → parseFieldDescriptor (r.2.1 0).2.2.1 = some .int ∧ (r.2.1 0).2.2.2 = false ∧ (r.2.1 0).1 = "PittanceHouse$House$1$1" := by
  intro r hr
  cases hr
  exact ⟨tyX5_ok 0 (by decide), rfl, rfl⟩
theorem ft_5_1 : ∀ r : vw_C, jcl[(5 : Nat)]? = some r → parseFieldDescriptor (r.2.1 1).2.2.1 = some (.object "PittanceHouse$House$1") ∧ (r.2.1 1).2.2.2 = true ∧ (r.2.1 1).1 = "PittanceHouse$House$1$1" := by
  intro r hr
  cases hr
  exact ⟨tyX5_ok 1 (by decide), rfl, rfl⟩
theorem cl_6 : j_Cl 6 := ⟨(RX6, TX6, 5), tyX6, rfl, tyX6_ok, nmX6⟩
theorem ft_6_0 : ∀ r : vw_C, jcl[(6 : Nat)]? = some r → parseFieldDescriptor (r.2.1 0).2.2.1 = some .int ∧ (r.2.1 0).2.2.2 = true ∧ (r.2.1 0).1 = "PittanceHouse$1Count" := by
  intro r hr
  cases hr
  exact ⟨tyX6_ok 0 (by decide), rfl, rfl⟩
theorem ft_6_1 : ∀ r : vw_C, jcl[(6 : Nat)]? = some r → parseFieldDescriptor (r.2.1 1).2.2.1 = some .boolean ∧ (r.2.1 1).2.2.2 = false ∧ (r.2.1 1).1 = "PittanceHouse$1Count" := by
  intro r hr
  cases hr
  exact ⟨tyX6_ok 1 (by decide), rfl, rfl⟩
theorem ft_6_2 : ∀ r : vw_C, jcl[(6 : Nat)]? = some r → parseFieldDescriptor (r.2.1 2).2.2.1 = some .int ∧ (r.2.1 2).2.2.2 = false ∧ (r.2.1 2).1 = "PittanceHouse$1Count" := by
  intro r hr
  cases hr
  exact ⟨tyX6_ok 2 (by decide), rfl, rfl⟩
theorem ft_6_3 : ∀ r : vw_C, jcl[(6 : Nat)]? = some r → parseFieldDescriptor (r.2.1 3).2.2.1 = some (.object "PittanceHouse$Ahead") ∧ (r.2.1 3).2.2.2 = true ∧ (r.2.1 3).1 = "PittanceHouse$1Count" := by
  intro r hr
  cases hr
  exact ⟨tyX6_ok 3 (by decide), rfl, rfl⟩
theorem ft_6_4 : ∀ r : vw_C, jcl[(6 : Nat)]? = some r → parseFieldDescriptor (r.2.1 4).2.2.1 = some (.array .int) ∧ (r.2.1 4).2.2.2 = true ∧ (r.2.1 4).1 = "PittanceHouse$1Count" := by
  intro r hr
  cases hr
  exact ⟨tyX6_ok 4 (by decide), rfl, rfl⟩
theorem cl_7 : j_Cl 7 := ⟨(RX7, TX7, 1), tyX7, rfl, tyX7_ok, nmX7⟩
theorem ft_7_0 : ∀ r : vw_C, jcl[(7 : Nat)]? = some r → parseFieldDescriptor (r.2.1 0).2.2.1 = some (.object "PittanceHouse$House") ∧ (r.2.1 0).2.2.2 = true ∧ (r.2.1 0).1 = "PittanceHouse$House$1" := by
  intro r hr
  cases hr
  exact ⟨tyX7_ok 0 (by decide), rfl, rfl⟩
theorem cl_8 : j_Cl 8 := ⟨(RX8, TX8, 3), tyX8, rfl, tyX8_ok, nmX8⟩
theorem ft_8_0 : ∀ r : vw_C, jcl[(8 : Nat)]? = some r → parseFieldDescriptor (r.2.1 0).2.2.1 = some (.array (.object "java/lang/String")) ∧ (r.2.1 0).2.2.2 = true ∧ (r.2.1 0).1 = "PittanceHouse$Reader" := by
  intro r hr
  cases hr
  exact ⟨tyX8_ok 0 (by decide), rfl, rfl⟩
theorem ft_8_1 : ∀ r : vw_C, jcl[(8 : Nat)]? = some r → parseFieldDescriptor (r.2.1 1).2.2.1 = some .int ∧ (r.2.1 1).2.2.2 = false ∧ (r.2.1 1).1 = "PittanceHouse$Reader" := by
  intro r hr
  cases hr
  exact ⟨tyX8_ok 1 (by decide), rfl, rfl⟩
theorem ft_8_2 : ∀ r : vw_C, jcl[(8 : Nat)]? = some r → parseFieldDescriptor (r.2.1 2).2.2.1 = some (.object "PittanceHouse") ∧ (r.2.1 2).2.2.2 = true ∧ (r.2.1 2).1 = "PittanceHouse$Reader" := by
  intro r hr
  cases hr
  exact ⟨tyX8_ok 2 (by decide), rfl, rfl⟩
theorem cl_9 : j_Cl 9 := ⟨(RX9, TX9, 3), tyX9, rfl, tyX9_ok, nmX9⟩
theorem ft_9_0 : ∀ r : vw_C, jcl[(9 : Nat)]? = some r → parseFieldDescriptor (r.2.1 0).2.2.1 = some (.object "java/lang/String") ∧ (r.2.1 0).2.2.2 = true ∧ (r.2.1 0).1 = "PittanceHouse$Order" := by
  intro r hr
  cases hr
  exact ⟨tyX9_ok 0 (by decide), rfl, rfl⟩
theorem ft_9_1 : ∀ r : vw_C, jcl[(9 : Nat)]? = some r → parseFieldDescriptor (r.2.1 1).2.2.1 = some .int ∧ (r.2.1 1).2.2.2 = false ∧ (r.2.1 1).1 = "PittanceHouse$Order" := by
  intro r hr
  cases hr
  exact ⟨tyX9_ok 1 (by decide), rfl, rfl⟩
theorem ft_9_2 : ∀ r : vw_C, jcl[(9 : Nat)]? = some r → parseFieldDescriptor (r.2.1 2).2.2.1 = some .int ∧ (r.2.1 2).2.2.2 = false ∧ (r.2.1 2).1 = "PittanceHouse$Order" := by
  intro r hr
  cases hr
  exact ⟨tyX9_ok 2 (by decide), rfl, rfl⟩
theorem cl_10 : j_Cl 10 := ⟨(RX10, TX10, 7), tyX10, rfl, tyX10_ok, nmX10⟩
theorem ft_10_0 : ∀ r : vw_C, jcl[(10 : Nat)]? = some r → parseFieldDescriptor (r.2.1 0).2.2.1 = some (.object "java/lang/Throwable") ∧ (r.2.1 0).2.2.2 = false ∧ (r.2.1 0).1 = "java/lang/Throwable" := by
  intro r hr
  cases hr
  exact ⟨tyX10_ok 0 (by decide), rfl, rfl⟩
theorem ft_10_1 : ∀ r : vw_C, jcl[(10 : Nat)]? = some r → parseFieldDescriptor (r.2.1 1).2.2.1 = some (.array (.object "java/lang/StackTraceElement")) ∧ (r.2.1 1).2.2.2 = false ∧ (r.2.1 1).1 = "java/lang/Throwable" := by
  intro r hr
  cases hr
  exact ⟨tyX10_ok 1 (by decide), rfl, rfl⟩
theorem ft_10_2 : ∀ r : vw_C, jcl[(10 : Nat)]? = some r → parseFieldDescriptor (r.2.1 2).2.2.1 = some (.object "java/util/List") ∧ (r.2.1 2).2.2.2 = false ∧ (r.2.1 2).1 = "java/lang/Throwable" := by
  intro r hr
  cases hr
  exact ⟨tyX10_ok 2 (by decide), rfl, rfl⟩
theorem ft_10_3 : ∀ r : vw_C, jcl[(10 : Nat)]? = some r → parseFieldDescriptor (r.2.1 3).2.2.1 = some (.object "java/lang/String") ∧ (r.2.1 3).2.2.2 = false ∧ (r.2.1 3).1 = "java/lang/Throwable" := by
  intro r hr
  cases hr
  exact ⟨tyX10_ok 3 (by decide), rfl, rfl⟩
theorem ft_10_4 : ∀ r : vw_C, jcl[(10 : Nat)]? = some r → parseFieldDescriptor (r.2.1 4).2.2.1 = some (.object "java/lang/Object") ∧ (r.2.1 4).2.2.2 = false ∧ (r.2.1 4).1 = "java/lang/Throwable" := by
  intro r hr
  cases hr
  exact ⟨tyX10_ok 4 (by decide), rfl, rfl⟩
theorem ft_10_5 : ∀ r : vw_C, jcl[(10 : Nat)]? = some r → parseFieldDescriptor (r.2.1 5).2.2.1 = some .int ∧ (r.2.1 5).2.2.2 = false ∧ (r.2.1 5).1 = "java/lang/Throwable" := by
  intro r hr
  cases hr
  exact ⟨tyX10_ok 5 (by decide), rfl, rfl⟩
theorem ft_10_6 : ∀ r : vw_C, jcl[(10 : Nat)]? = some r → parseFieldDescriptor (r.2.1 6).2.2.1 = some .int ∧ (r.2.1 6).2.2.2 = true ∧ (r.2.1 6).1 = "PittanceHouse$Wrong" := by
  intro r hr
  cases hr
  exact ⟨tyX10_ok 6 (by decide), rfl, rfl⟩
theorem cl_11 : j_Cl 11 := ⟨(RJ2, TJ2, 3), tyJ2, rfl, tyJ2_ok, nmJ2⟩
theorem ft_11_0 : ∀ r : vw_C, jcl[(11 : Nat)]? = some r → parseFieldDescriptor (r.2.1 0).2.2.1 = some .int ∧ (r.2.1 0).2.2.2 = false ∧ (r.2.1 0).1 = "java/util/AbstractList" := by
  intro r hr
  cases hr
  exact ⟨tyJ2_ok 0 (by decide), rfl, rfl⟩
theorem ft_11_1 : ∀ r : vw_C, jcl[(11 : Nat)]? = some r → parseFieldDescriptor (r.2.1 1).2.2.1 = some (.array (.object "java/lang/Object")) ∧ (r.2.1 1).2.2.2 = false ∧ (r.2.1 1).1 = "java/util/ArrayList" := by
  intro r hr
  cases hr
  exact ⟨tyJ2_ok 1 (by decide), rfl, rfl⟩
theorem ft_11_2 : ∀ r : vw_C, jcl[(11 : Nat)]? = some r → parseFieldDescriptor (r.2.1 2).2.2.1 = some .int ∧ (r.2.1 2).2.2.2 = false ∧ (r.2.1 2).1 = "java/util/ArrayList" := by
  intro r hr
  cases hr
  exact ⟨tyJ2_ok 2 (by decide), rfl, rfl⟩
theorem cl_12 : j_Cl 12 := ⟨(RJ4, TJ4, 4), tyJ4, rfl, tyJ4_ok, nmJ4⟩
theorem ft_12_0 : ∀ r : vw_C, jcl[(12 : Nat)]? = some r → parseFieldDescriptor (r.2.1 0).2.2.1 = some .int ∧ (r.2.1 0).2.2.2 = false ∧ (r.2.1 0).1 = "java/util/AbstractList" := by
  intro r hr
  cases hr
  exact ⟨tyJ4_ok 0 (by decide), rfl, rfl⟩
theorem ft_12_1 : ∀ r : vw_C, jcl[(12 : Nat)]? = some r → parseFieldDescriptor (r.2.1 1).2.2.1 = some .int ∧ (r.2.1 1).2.2.2 = false ∧ (r.2.1 1).1 = "java/util/LinkedList" := by
  intro r hr
  cases hr
  exact ⟨tyJ4_ok 1 (by decide), rfl, rfl⟩
theorem ft_12_2 : ∀ r : vw_C, jcl[(12 : Nat)]? = some r → parseFieldDescriptor (r.2.1 2).2.2.1 = some (.object "java/util/LinkedList$Node") ∧ (r.2.1 2).2.2.2 = false ∧ (r.2.1 2).1 = "java/util/LinkedList" := by
  intro r hr
  cases hr
  exact ⟨tyJ4_ok 2 (by decide), rfl, rfl⟩
theorem ft_12_3 : ∀ r : vw_C, jcl[(12 : Nat)]? = some r → parseFieldDescriptor (r.2.1 3).2.2.1 = some (.object "java/util/LinkedList$Node") ∧ (r.2.1 3).2.2.2 = false ∧ (r.2.1 3).1 = "java/util/LinkedList" := by
  intro r hr
  cases hr
  exact ⟨tyJ4_ok 3 (by decide), rfl, rfl⟩
theorem cl_13 : j_Cl 13 := ⟨(RJ5, TJ5, 3), tyJ5, rfl, tyJ5_ok, nmJ5⟩
theorem ft_13_0 : ∀ r : vw_C, jcl[(13 : Nat)]? = some r → parseFieldDescriptor (r.2.1 0).2.2.1 = some (.array (.object "java/lang/Object")) ∧ (r.2.1 0).2.2.2 = false ∧ (r.2.1 0).1 = "java/util/ArrayDeque" := by
  intro r hr
  cases hr
  exact ⟨tyJ5_ok 0 (by decide), rfl, rfl⟩
theorem ft_13_1 : ∀ r : vw_C, jcl[(13 : Nat)]? = some r → parseFieldDescriptor (r.2.1 1).2.2.1 = some .int ∧ (r.2.1 1).2.2.2 = false ∧ (r.2.1 1).1 = "java/util/ArrayDeque" := by
  intro r hr
  cases hr
  exact ⟨tyJ5_ok 1 (by decide), rfl, rfl⟩
theorem ft_13_2 : ∀ r : vw_C, jcl[(13 : Nat)]? = some r → parseFieldDescriptor (r.2.1 2).2.2.1 = some .int ∧ (r.2.1 2).2.2.2 = false ∧ (r.2.1 2).1 = "java/util/ArrayDeque" := by
  intro r hr
  cases hr
  exact ⟨tyJ5_ok 2 (by decide), rfl, rfl⟩
theorem cl_14 : j_Cl 14 := ⟨(RJ7, TJ7, 4), tyJ7, rfl, tyJ7_ok, nmJ7⟩
theorem ft_14_0 : ∀ r : vw_C, jcl[(14 : Nat)]? = some r → parseFieldDescriptor (r.2.1 0).2.2.1 = some (.array .byte) ∧ (r.2.1 0).2.2.2 = false ∧ (r.2.1 0).1 = "java/lang/AbstractStringBuilder" := by
  intro r hr
  cases hr
  exact ⟨tyJ7_ok 0 (by decide), rfl, rfl⟩
theorem ft_14_1 : ∀ r : vw_C, jcl[(14 : Nat)]? = some r → parseFieldDescriptor (r.2.1 1).2.2.1 = some .byte ∧ (r.2.1 1).2.2.2 = false ∧ (r.2.1 1).1 = "java/lang/AbstractStringBuilder" := by
  intro r hr
  cases hr
  exact ⟨tyJ7_ok 1 (by decide), rfl, rfl⟩
theorem ft_14_2 : ∀ r : vw_C, jcl[(14 : Nat)]? = some r → parseFieldDescriptor (r.2.1 2).2.2.1 = some .boolean ∧ (r.2.1 2).2.2.2 = false ∧ (r.2.1 2).1 = "java/lang/AbstractStringBuilder" := by
  intro r hr
  cases hr
  exact ⟨tyJ7_ok 2 (by decide), rfl, rfl⟩
theorem ft_14_3 : ∀ r : vw_C, jcl[(14 : Nat)]? = some r → parseFieldDescriptor (r.2.1 3).2.2.1 = some .int ∧ (r.2.1 3).2.2.2 = false ∧ (r.2.1 3).1 = "java/lang/AbstractStringBuilder" := by
  intro r hr
  cases hr
  exact ⟨tyJ7_ok 3 (by decide), rfl, rfl⟩
theorem cl_15 : j_Cl 15 := ⟨(RJ8, TJ8, 4), tyJ8, rfl, tyJ8_ok, nmJ8⟩
theorem ft_15_0 : ∀ r : vw_C, jcl[(15 : Nat)]? = some r → parseFieldDescriptor (r.2.1 0).2.2.1 = some (.array .byte) ∧ (r.2.1 0).2.2.2 = true ∧ (r.2.1 0).1 = "java/lang/String" := by
  intro r hr
  cases hr
  exact ⟨tyJ8_ok 0 (by decide), rfl, rfl⟩
theorem ft_15_1 : ∀ r : vw_C, jcl[(15 : Nat)]? = some r → parseFieldDescriptor (r.2.1 1).2.2.1 = some .byte ∧ (r.2.1 1).2.2.2 = true ∧ (r.2.1 1).1 = "java/lang/String" := by
  intro r hr
  cases hr
  exact ⟨tyJ8_ok 1 (by decide), rfl, rfl⟩
theorem ft_15_2 : ∀ r : vw_C, jcl[(15 : Nat)]? = some r → parseFieldDescriptor (r.2.1 2).2.2.1 = some .int ∧ (r.2.1 2).2.2.2 = false ∧ (r.2.1 2).1 = "java/lang/String" := by
  intro r hr
  cases hr
  exact ⟨tyJ8_ok 2 (by decide), rfl, rfl⟩
theorem ft_15_3 : ∀ r : vw_C, jcl[(15 : Nat)]? = some r → parseFieldDescriptor (r.2.1 3).2.2.1 = some .boolean ∧ (r.2.1 3).2.2.2 = false ∧ (r.2.1 3).1 = "java/lang/String" := by
  intro r hr
  cases hr
  exact ⟨tyJ8_ok 3 (by decide), rfl, rfl⟩
theorem cl_16 : j_Cl 16 := ⟨(RJ10, TJ10, 4), tyJ10, rfl, tyJ10_ok, nmJ10⟩
theorem ft_16_0 : ∀ r : vw_C, jcl[(16 : Nat)]? = some r → parseFieldDescriptor (r.2.1 0).2.2.1 = some .int ∧ (r.2.1 0).2.2.2 = false ∧ (r.2.1 0).1 = "java/util/ArrayList$Itr" := by
  intro r hr
  cases hr
  exact ⟨tyJ10_ok 0 (by decide), rfl, rfl⟩
theorem ft_16_1 : ∀ r : vw_C, jcl[(16 : Nat)]? = some r → parseFieldDescriptor (r.2.1 1).2.2.1 = some .int ∧ (r.2.1 1).2.2.2 = false ∧ (r.2.1 1).1 = "java/util/ArrayList$Itr" := by
  intro r hr
  cases hr
  exact ⟨tyJ10_ok 1 (by decide), rfl, rfl⟩
theorem ft_16_2 : ∀ r : vw_C, jcl[(16 : Nat)]? = some r → parseFieldDescriptor (r.2.1 2).2.2.1 = some .int ∧ (r.2.1 2).2.2.2 = false ∧ (r.2.1 2).1 = "java/util/ArrayList$Itr" := by
  intro r hr
  cases hr
  exact ⟨tyJ10_ok 2 (by decide), rfl, rfl⟩
theorem ft_16_3 : ∀ r : vw_C, jcl[(16 : Nat)]? = some r → parseFieldDescriptor (r.2.1 3).2.2.1 = some (.object "java/util/ArrayList") ∧ (r.2.1 3).2.2.2 = true ∧ (r.2.1 3).1 = "java/util/ArrayList$Itr" := by
  intro r hr
  cases hr
  exact ⟨tyJ10_ok 3 (by decide), rfl, rfl⟩
theorem cl_17 : j_Cl 17 := ⟨(RJ23, TJ23, 5), tyJ23, rfl, tyJ23_ok, nmJ23⟩
theorem ft_17_0 : ∀ r : vw_C, jcl[(17 : Nat)]? = some r → parseFieldDescriptor (r.2.1 0).2.2.1 = some (.object "java/util/LinkedList$Node") ∧ (r.2.1 0).2.2.2 = false ∧ (r.2.1 0).1 = "java/util/LinkedList$ListItr" := by
  intro r hr
  cases hr
  exact ⟨tyJ23_ok 0 (by decide), rfl, rfl⟩
theorem ft_17_1 : ∀ r : vw_C, jcl[(17 : Nat)]? = some r → parseFieldDescriptor (r.2.1 1).2.2.1 = some (.object "java/util/LinkedList$Node") ∧ (r.2.1 1).2.2.2 = false ∧ (r.2.1 1).1 = "java/util/LinkedList$ListItr" := by
  intro r hr
  cases hr
  exact ⟨tyJ23_ok 1 (by decide), rfl, rfl⟩
theorem ft_17_2 : ∀ r : vw_C, jcl[(17 : Nat)]? = some r → parseFieldDescriptor (r.2.1 2).2.2.1 = some .int ∧ (r.2.1 2).2.2.2 = false ∧ (r.2.1 2).1 = "java/util/LinkedList$ListItr" := by
  intro r hr
  cases hr
  exact ⟨tyJ23_ok 2 (by decide), rfl, rfl⟩
theorem ft_17_3 : ∀ r : vw_C, jcl[(17 : Nat)]? = some r → parseFieldDescriptor (r.2.1 3).2.2.1 = some .int ∧ (r.2.1 3).2.2.2 = false ∧ (r.2.1 3).1 = "java/util/LinkedList$ListItr" := by
  intro r hr
  cases hr
  exact ⟨tyJ23_ok 3 (by decide), rfl, rfl⟩
theorem ft_17_4 : ∀ r : vw_C, jcl[(17 : Nat)]? = some r → parseFieldDescriptor (r.2.1 4).2.2.1 = some (.object "java/util/LinkedList") ∧ (r.2.1 4).2.2.2 = true ∧ (r.2.1 4).1 = "java/util/LinkedList$ListItr" := by
  intro r hr
  cases hr
  exact ⟨tyJ23_ok 4 (by decide), rfl, rfl⟩
theorem cl_18 : j_Cl 18 := ⟨(RJ25, TJ25, 1), tyJ25, rfl, tyJ25_ok, nmJ25⟩
theorem ft_18_0 : ∀ r : vw_C, jcl[(18 : Nat)]? = some r → parseFieldDescriptor (r.2.1 0).2.2.1 = some .int ∧ (r.2.1 0).2.2.2 = true ∧ (r.2.1 0).1 = "java/lang/Integer" := by
  intro r hr
  cases hr
  exact ⟨tyJ25_ok 0 (by decide), rfl, rfl⟩
theorem cl_19 : j_Cl 19 := ⟨(RJ26, TJ26, 3), tyJ26, rfl, tyJ26_ok, nmJ26⟩
theorem ft_19_0 : ∀ r : vw_C, jcl[(19 : Nat)]? = some r → parseFieldDescriptor (r.2.1 0).2.2.1 = some (.object "java/lang/Object") ∧ (r.2.1 0).2.2.2 = false ∧ (r.2.1 0).1 = "java/util/LinkedList$Node" := by
  intro r hr
  cases hr
  exact ⟨tyJ26_ok 0 (by decide), rfl, rfl⟩
theorem ft_19_1 : ∀ r : vw_C, jcl[(19 : Nat)]? = some r → parseFieldDescriptor (r.2.1 1).2.2.1 = some (.object "java/util/LinkedList$Node") ∧ (r.2.1 1).2.2.2 = false ∧ (r.2.1 1).1 = "java/util/LinkedList$Node" := by
  intro r hr
  cases hr
  exact ⟨tyJ26_ok 1 (by decide), rfl, rfl⟩
theorem ft_19_2 : ∀ r : vw_C, jcl[(19 : Nat)]? = some r → parseFieldDescriptor (r.2.1 2).2.2.1 = some (.object "java/util/LinkedList$Node") ∧ (r.2.1 2).2.2.2 = false ∧ (r.2.1 2).1 = "java/util/LinkedList$Node" := by
  intro r hr
  cases hr
  exact ⟨tyJ26_ok 2 (by decide), rfl, rfl⟩
theorem cl_20 : j_Cl 20 := ⟨(RJ30, TJ30, 3), tyJ30, rfl, tyJ30_ok, nmJ30⟩
theorem ft_20_0 : ∀ r : vw_C, jcl[(20 : Nat)]? = some r → parseFieldDescriptor (r.2.1 0).2.2.1 = some (.array .long) ∧ (r.2.1 0).2.2.2 = false ∧ (r.2.1 0).1 = "java/util/BitSet" := by
  intro r hr
  cases hr
  exact ⟨tyJ30_ok 0 (by decide), rfl, rfl⟩
theorem ft_20_1 : ∀ r : vw_C, jcl[(20 : Nat)]? = some r → parseFieldDescriptor (r.2.1 1).2.2.1 = some .int ∧ (r.2.1 1).2.2.2 = false ∧ (r.2.1 1).1 = "java/util/BitSet" := by
  intro r hr
  cases hr
  exact ⟨tyJ30_ok 1 (by decide), rfl, rfl⟩
theorem ft_20_2 : ∀ r : vw_C, jcl[(20 : Nat)]? = some r → parseFieldDescriptor (r.2.1 2).2.2.1 = some .boolean ∧ (r.2.1 2).2.2.2 = false ∧ (r.2.1 2).1 = "java/util/BitSet" := by
  intro r hr
  cases hr
  exact ⟨tyJ30_ok 2 (by decide), rfl, rfl⟩
theorem fd_J2_9_11 : j_Fd "java/util/ArrayList" 9 11 1 := ⟨(RJ2, TJ2, 3), "java/util/ArrayList", by decide, rfl, by decide, in_J2, Or.inl q174, Or.inl rfl⟩
theorem fd_J10_37_11 : j_Fd "java/util/ArrayList$Itr" 37 11 1 := ⟨(RJ2, TJ2, 3), "java/util/ArrayList", by decide, rfl, by decide, in_J2, Or.inl q175, Or.inl rfl⟩
theorem fd_J2_48_11 : j_Fd "java/util/ArrayList" 48 11 2 := ⟨(RJ2, TJ2, 3), "java/util/ArrayList", by decide, rfl, by decide, in_J2, Or.inl q177, Or.inl rfl⟩
theorem fd_J1_7_11 : j_Fd "java/util/AbstractList" 7 11 0 := ⟨(RJ2, TJ2, 3), "java/util/AbstractList", by decide, rfl, by decide, in_J2, Or.inl q178, Or.inl rfl⟩
theorem fd_J1_7_12 : j_Fd "java/util/AbstractList" 7 12 0 := ⟨(RJ4, TJ4, 4), "java/util/AbstractList", by decide, rfl, by decide, in_J4, Or.inl q178, Or.inl rfl⟩
theorem fd_J23_13_11 : j_Fd "java/util/LinkedList$ListItr" 13 11 0 := ⟨(RJ2, TJ2, 3), "java/util/LinkedList", by decide, rfl, by decide, in_J2, Or.inl q179, Or.inr q180⟩
theorem fd_J23_13_12 : j_Fd "java/util/LinkedList$ListItr" 13 12 0 := ⟨(RJ4, TJ4, 4), "java/util/LinkedList", by decide, rfl, by decide, in_J4, Or.inl q179, Or.inr q180⟩
theorem fd_J10_17_11 : j_Fd "java/util/ArrayList$Itr" 17 11 0 := ⟨(RJ2, TJ2, 3), "java/util/ArrayList", by decide, rfl, by decide, in_J2, Or.inl q181, Or.inr q182⟩
theorem fd_J10_17_12 : j_Fd "java/util/ArrayList$Itr" 17 12 0 := ⟨(RJ4, TJ4, 4), "java/util/ArrayList", by decide, rfl, by decide, in_J4, Or.inl q181, Or.inr q182⟩
theorem fd_J21_20_11 : j_Fd "java/util/AbstractList$Itr" 20 11 0 := ⟨(RJ2, TJ2, 3), "java/util/AbstractList", by decide, rfl, by decide, in_J2, Or.inl q183, Or.inl rfl⟩
theorem fd_J21_20_12 : j_Fd "java/util/AbstractList$Itr" 20 12 0 := ⟨(RJ4, TJ4, 4), "java/util/AbstractList", by decide, rfl, by decide, in_J4, Or.inl q183, Or.inl rfl⟩
theorem fd_J4_33_11 : j_Fd "java/util/LinkedList" 33 11 0 := ⟨(RJ2, TJ2, 3), "java/util/LinkedList", by decide, rfl, by decide, in_J2, Or.inl q184, Or.inr q180⟩
theorem fd_J4_33_12 : j_Fd "java/util/LinkedList" 33 12 0 := ⟨(RJ4, TJ4, 4), "java/util/LinkedList", by decide, rfl, by decide, in_J4, Or.inl q184, Or.inr q180⟩
theorem fd_J2_63_11 : j_Fd "java/util/ArrayList" 63 11 0 := ⟨(RJ2, TJ2, 3), "java/util/ArrayList", by decide, rfl, by decide, in_J2, Or.inl q185, Or.inr q182⟩
theorem fd_J2_63_12 : j_Fd "java/util/ArrayList" 63 12 0 := ⟨(RJ4, TJ4, 4), "java/util/ArrayList", by decide, rfl, by decide, in_J4, Or.inl q185, Or.inr q182⟩
theorem fd_J4_7_12 : j_Fd "java/util/LinkedList" 7 12 1 := ⟨(RJ4, TJ4, 4), "java/util/LinkedList", by decide, rfl, by decide, in_J4, Or.inl q202, Or.inl rfl⟩
theorem fd_J23_22_12 : j_Fd "java/util/LinkedList$ListItr" 22 12 1 := ⟨(RJ4, TJ4, 4), "java/util/LinkedList", by decide, rfl, by decide, in_J4, Or.inl q203, Or.inl rfl⟩
theorem fd_J4_18_12 : j_Fd "java/util/LinkedList" 18 12 2 := ⟨(RJ4, TJ4, 4), "java/util/LinkedList", by decide, rfl, by decide, in_J4, Or.inl q204, Or.inl rfl⟩
theorem fd_J4_27_12 : j_Fd "java/util/LinkedList" 27 12 3 := ⟨(RJ4, TJ4, 4), "java/util/LinkedList", by decide, rfl, by decide, in_J4, Or.inl q205, Or.inl rfl⟩
theorem fd_X1_14_1 : j_Fd "PittanceHouse$House" 14 1 0 := ⟨(RX1, TX1, 13), "PittanceHouse$House", by decide, rfl, by decide, in_X1, Or.inl q214, Or.inl rfl⟩
theorem fd_X1_23_1 : j_Fd "PittanceHouse$House" 23 1 1 := ⟨(RX1, TX1, 13), "PittanceHouse$House", by decide, rfl, by decide, in_X1, Or.inl q217, Or.inl rfl⟩
theorem fd_X1_27_1 : j_Fd "PittanceHouse$House" 27 1 2 := ⟨(RX1, TX1, 13), "PittanceHouse$House", by decide, rfl, by decide, in_X1, Or.inl q218, Or.inl rfl⟩
theorem fd_X1_30_1 : j_Fd "PittanceHouse$House" 30 1 3 := ⟨(RX1, TX1, 13), "PittanceHouse$House", by decide, rfl, by decide, in_X1, Or.inl q220, Or.inl rfl⟩
theorem fd_X1_34_1 : j_Fd "PittanceHouse$House" 34 1 4 := ⟨(RX1, TX1, 13), "PittanceHouse$House", by decide, rfl, by decide, in_X1, Or.inl q223, Or.inl rfl⟩
theorem fd_X1_91_1 : j_Fd "PittanceHouse$House" 91 1 5 := ⟨(RX1, TX1, 13), "PittanceHouse$House", by decide, rfl, by decide, in_X1, Or.inl q224, Or.inl rfl⟩
theorem fd_X1_94_1 : j_Fd "PittanceHouse$House" 94 1 6 := ⟨(RX1, TX1, 13), "PittanceHouse$House", by decide, rfl, by decide, in_X1, Or.inl q226, Or.inl rfl⟩
theorem fd_X1_37_1 : j_Fd "PittanceHouse$House" 37 1 7 := ⟨(RX1, TX1, 13), "PittanceHouse$House", by decide, rfl, by decide, in_X1, Or.inl q228, Or.inl rfl⟩
theorem fd_X1_97_1 : j_Fd "PittanceHouse$House" 97 1 8 := ⟨(RX1, TX1, 13), "PittanceHouse$House", by decide, rfl, by decide, in_X1, Or.inl q230, Or.inl rfl⟩
theorem fd_X1_100_1 : j_Fd "PittanceHouse$House" 100 1 9 := ⟨(RX1, TX1, 13), "PittanceHouse$House", by decide, rfl, by decide, in_X1, Or.inl q232, Or.inl rfl⟩
theorem fd_X1_103_1 : j_Fd "PittanceHouse$House" 103 1 10 := ⟨(RX1, TX1, 13), "PittanceHouse$House", by decide, rfl, by decide, in_X1, Or.inl q234, Or.inl rfl⟩
theorem fd_X1_106_1 : j_Fd "PittanceHouse$House" 106 1 11 := ⟨(RX1, TX1, 13), "PittanceHouse$House", by decide, rfl, by decide, in_X1, Or.inl q236, Or.inl rfl⟩
theorem fd_X1_109_1 : j_Fd "PittanceHouse$House" 109 1 12 := ⟨(RX1, TX1, 13), "PittanceHouse$House", by decide, rfl, by decide, in_X1, Or.inl q238, Or.inl rfl⟩
theorem fd_J5_3_13 : j_Fd "java/util/ArrayDeque" 3 13 0 := ⟨(RJ5, TJ5, 3), "java/util/ArrayDeque", by decide, rfl, by decide, in_J5, Or.inl q275, Or.inl rfl⟩
theorem fd_J29_35_13 : j_Fd "java/util/ArrayDeque$DeqIterator" 35 13 0 := ⟨(RJ5, TJ5, 3), "java/util/ArrayDeque", by decide, rfl, by decide, in_J5, Or.inl q276, Or.inl rfl⟩
theorem fd_J29_26_13 : j_Fd "java/util/ArrayDeque$DeqIterator" 26 13 1 := ⟨(RJ5, TJ5, 3), "java/util/ArrayDeque", by decide, rfl, by decide, in_J5, Or.inl q277, Or.inl rfl⟩
theorem fd_J5_24_13 : j_Fd "java/util/ArrayDeque" 24 13 1 := ⟨(RJ5, TJ5, 3), "java/util/ArrayDeque", by decide, rfl, by decide, in_J5, Or.inl q278, Or.inl rfl⟩
theorem fd_J5_20_13 : j_Fd "java/util/ArrayDeque" 20 13 2 := ⟨(RJ5, TJ5, 3), "java/util/ArrayDeque", by decide, rfl, by decide, in_J5, Or.inl q279, Or.inl rfl⟩
theorem fd_J6_15_14 : j_Fd "java/lang/AbstractStringBuilder" 15 14 0 := ⟨(RJ7, TJ7, 4), "java/lang/AbstractStringBuilder", by decide, rfl, by decide, in_J7, Or.inl q307, Or.inl rfl⟩
theorem fd_J6_22_14 : j_Fd "java/lang/AbstractStringBuilder" 22 14 1 := ⟨(RJ7, TJ7, 4), "java/lang/AbstractStringBuilder", by decide, rfl, by decide, in_J7, Or.inl q308, Or.inl rfl⟩
theorem fd_J6_73_14 : j_Fd "java/lang/AbstractStringBuilder" 73 14 2 := ⟨(RJ7, TJ7, 4), "java/lang/AbstractStringBuilder", by decide, rfl, by decide, in_J7, Or.inl q309, Or.inl rfl⟩
theorem fd_J8_1048_14 : j_Fd "java/lang/String" 1048 14 2 := ⟨(RJ7, TJ7, 4), "java/lang/AbstractStringBuilder", by decide, rfl, by decide, in_J7, Or.inl q310, Or.inl rfl⟩
theorem fd_J6_79_14 : j_Fd "java/lang/AbstractStringBuilder" 79 14 3 := ⟨(RJ7, TJ7, 4), "java/lang/AbstractStringBuilder", by decide, rfl, by decide, in_J7, Or.inl q311, Or.inl rfl⟩
theorem fd_X0_10_0 : j_Fd "PittanceHouse" 10 0 0 := ⟨(RX0, TX0, 8), "PittanceHouse", by decide, rfl, by decide, in_X0, Or.inl q327, Or.inl rfl⟩
theorem fd_X0_345_0 : j_Fd "PittanceHouse" 345 0 1 := ⟨(RX0, TX0, 8), "PittanceHouse", by decide, rfl, by decide, in_X0, Or.inl q328, Or.inl rfl⟩
theorem fd_X0_19_0 : j_Fd "PittanceHouse" 19 0 2 := ⟨(RX0, TX0, 8), "PittanceHouse", by decide, rfl, by decide, in_X0, Or.inl q329, Or.inl rfl⟩
theorem fd_X0_60_0 : j_Fd "PittanceHouse" 60 0 3 := ⟨(RX0, TX0, 8), "PittanceHouse", by decide, rfl, by decide, in_X0, Or.inl q330, Or.inl rfl⟩
theorem fd_X0_64_0 : j_Fd "PittanceHouse" 64 0 4 := ⟨(RX0, TX0, 8), "PittanceHouse", by decide, rfl, by decide, in_X0, Or.inl q331, Or.inl rfl⟩
theorem fd_X0_25_0 : j_Fd "PittanceHouse" 25 0 5 := ⟨(RX0, TX0, 8), "PittanceHouse", by decide, rfl, by decide, in_X0, Or.inl q332, Or.inl rfl⟩
theorem fd_X0_32_0 : j_Fd "PittanceHouse" 32 0 6 := ⟨(RX0, TX0, 8), "PittanceHouse", by decide, rfl, by decide, in_X0, Or.inl q333, Or.inl rfl⟩
theorem fd_X0_38_0 : j_Fd "PittanceHouse" 38 0 7 := ⟨(RX0, TX0, 8), "PittanceHouse", by decide, rfl, by decide, in_X0, Or.inl q335, Or.inl rfl⟩
theorem fd_J22_13_16 : j_Fd "java/util/ArrayList$ListItr" 13 16 0 := ⟨(RJ10, TJ10, 4), "java/util/ArrayList$ListItr", by decide, rfl, by decide, in_J10, Or.inl q377, Or.inr q378⟩
theorem fd_J10_25_16 : j_Fd "java/util/ArrayList$Itr" 25 16 0 := ⟨(RJ10, TJ10, 4), "java/util/ArrayList$Itr", by decide, rfl, by decide, in_J10, Or.inl q379, Or.inl rfl⟩
theorem fd_J10_13_16 : j_Fd "java/util/ArrayList$Itr" 13 16 1 := ⟨(RJ10, TJ10, 4), "java/util/ArrayList$Itr", by decide, rfl, by decide, in_J10, Or.inl q380, Or.inl rfl⟩
theorem fd_J10_22_16 : j_Fd "java/util/ArrayList$Itr" 22 16 2 := ⟨(RJ10, TJ10, 4), "java/util/ArrayList$Itr", by decide, rfl, by decide, in_J10, Or.inl q381, Or.inl rfl⟩
theorem fd_J10_1_16 : j_Fd "java/util/ArrayList$Itr" 1 16 3 := ⟨(RJ10, TJ10, 4), "java/util/ArrayList$Itr", by decide, rfl, by decide, in_J10, Or.inl q382, Or.inl rfl⟩
theorem fd_J11_198_4 : j_Fd "java/lang/Throwable" 198 4 4 := ⟨(RX4, TX4, 8), "java/lang/Throwable", by decide, rfl, by decide, in_X4, Or.inl q504, Or.inl rfl⟩
theorem fd_J11_198_10 : j_Fd "java/lang/Throwable" 198 10 4 := ⟨(RX10, TX10, 7), "java/lang/Throwable", by decide, rfl, by decide, in_X10, Or.inl q504, Or.inl rfl⟩
theorem fd_J11_31_4 : j_Fd "java/lang/Throwable" 31 4 3 := ⟨(RX4, TX4, 8), "java/lang/Throwable", by decide, rfl, by decide, in_X4, Or.inl q505, Or.inl rfl⟩
theorem fd_J11_31_10 : j_Fd "java/lang/Throwable" 31 10 3 := ⟨(RX10, TX10, 7), "java/lang/Throwable", by decide, rfl, by decide, in_X10, Or.inl q505, Or.inl rfl⟩
theorem fd_J11_7_4 : j_Fd "java/lang/Throwable" 7 4 0 := ⟨(RX4, TX4, 8), "java/lang/Throwable", by decide, rfl, by decide, in_X4, Or.inl q506, Or.inl rfl⟩
theorem fd_J11_7_10 : j_Fd "java/lang/Throwable" 7 10 0 := ⟨(RX10, TX10, 7), "java/lang/Throwable", by decide, rfl, by decide, in_X10, Or.inl q506, Or.inl rfl⟩
theorem fd_J11_17_4 : j_Fd "java/lang/Throwable" 17 4 1 := ⟨(RX4, TX4, 8), "java/lang/Throwable", by decide, rfl, by decide, in_X4, Or.inl q507, Or.inl rfl⟩
theorem fd_J11_17_10 : j_Fd "java/lang/Throwable" 17 10 1 := ⟨(RX10, TX10, 7), "java/lang/Throwable", by decide, rfl, by decide, in_X10, Or.inl q507, Or.inl rfl⟩
theorem fd_J11_24_4 : j_Fd "java/lang/Throwable" 24 4 2 := ⟨(RX4, TX4, 8), "java/lang/Throwable", by decide, rfl, by decide, in_X4, Or.inl q508, Or.inl rfl⟩
theorem fd_J11_24_10 : j_Fd "java/lang/Throwable" 24 10 2 := ⟨(RX10, TX10, 7), "java/lang/Throwable", by decide, rfl, by decide, in_X10, Or.inl q508, Or.inl rfl⟩
theorem fd_J8_9_15 : j_Fd "java/lang/String" 9 15 0 := ⟨(RJ8, TJ8, 4), "java/lang/String", by decide, rfl, by decide, in_J8, Or.inl q810, Or.inl rfl⟩
theorem fd_J8_15_15 : j_Fd "java/lang/String" 15 15 1 := ⟨(RJ8, TJ8, 4), "java/lang/String", by decide, rfl, by decide, in_J8, Or.inl q811, Or.inl rfl⟩
theorem fd_J8_19_15 : j_Fd "java/lang/String" 19 15 2 := ⟨(RJ8, TJ8, 4), "java/lang/String", by decide, rfl, by decide, in_J8, Or.inl q812, Or.inl rfl⟩
theorem fd_J8_23_15 : j_Fd "java/lang/String" 23 15 3 := ⟨(RJ8, TJ8, 4), "java/lang/String", by decide, rfl, by decide, in_J8, Or.inl q813, Or.inl rfl⟩
theorem fd_X3_25_3 : j_Fd "PittanceHouse$Brother" 25 3 0 := ⟨(RX3, TX3, 10), "PittanceHouse$Brother", by decide, rfl, by decide, in_X3, Or.inl q868, Or.inl rfl⟩
theorem fd_X3_31_3 : j_Fd "PittanceHouse$Brother" 31 3 1 := ⟨(RX3, TX3, 10), "PittanceHouse$Brother", by decide, rfl, by decide, in_X3, Or.inl q870, Or.inl rfl⟩
theorem fd_X3_28_3 : j_Fd "PittanceHouse$Brother" 28 3 2 := ⟨(RX3, TX3, 10), "PittanceHouse$Brother", by decide, rfl, by decide, in_X3, Or.inl q872, Or.inl rfl⟩
theorem fd_X3_9_3 : j_Fd "PittanceHouse$Brother" 9 3 3 := ⟨(RX3, TX3, 10), "PittanceHouse$Brother", by decide, rfl, by decide, in_X3, Or.inl q874, Or.inl rfl⟩
theorem fd_X3_15_3 : j_Fd "PittanceHouse$Brother" 15 3 4 := ⟨(RX3, TX3, 10), "PittanceHouse$Brother", by decide, rfl, by decide, in_X3, Or.inl q876, Or.inl rfl⟩
theorem fd_X3_38_3 : j_Fd "PittanceHouse$Brother" 38 3 5 := ⟨(RX3, TX3, 10), "PittanceHouse$Brother", by decide, rfl, by decide, in_X3, Or.inl q878, Or.inl rfl⟩
theorem fd_X3_41_3 : j_Fd "PittanceHouse$Brother" 41 3 6 := ⟨(RX3, TX3, 10), "PittanceHouse$Brother", by decide, rfl, by decide, in_X3, Or.inl q880, Or.inl rfl⟩
theorem fd_X3_44_3 : j_Fd "PittanceHouse$Brother" 44 3 7 := ⟨(RX3, TX3, 10), "PittanceHouse$Brother", by decide, rfl, by decide, in_X3, Or.inl q882, Or.inl rfl⟩
theorem fd_X3_18_3 : j_Fd "PittanceHouse$Brother" 18 3 8 := ⟨(RX3, TX3, 10), "PittanceHouse$Brother", by decide, rfl, by decide, in_X3, Or.inl q885, Or.inl rfl⟩
theorem fd_X3_21_3 : j_Fd "PittanceHouse$Brother" 21 3 9 := ⟨(RX3, TX3, 10), "PittanceHouse$Brother", by decide, rfl, by decide, in_X3, Or.inl q887, Or.inl rfl⟩
theorem fd_J23_46_17 : j_Fd "java/util/LinkedList$ListItr" 46 17 0 := ⟨(RJ23, TJ23, 5), "java/util/LinkedList$ListItr", by decide, rfl, by decide, in_J23, Or.inl q994, Or.inl rfl⟩
theorem fd_J23_29_17 : j_Fd "java/util/LinkedList$ListItr" 29 17 1 := ⟨(RJ23, TJ23, 5), "java/util/LinkedList$ListItr", by decide, rfl, by decide, in_J23, Or.inl q995, Or.inl rfl⟩
theorem fd_J23_33_17 : j_Fd "java/util/LinkedList$ListItr" 33 17 2 := ⟨(RJ23, TJ23, 5), "java/util/LinkedList$ListItr", by decide, rfl, by decide, in_J23, Or.inl q996, Or.inl rfl⟩
theorem fd_J23_19_17 : j_Fd "java/util/LinkedList$ListItr" 19 17 3 := ⟨(RJ23, TJ23, 5), "java/util/LinkedList$ListItr", by decide, rfl, by decide, in_J23, Or.inl q997, Or.inl rfl⟩
theorem fd_J23_1_17 : j_Fd "java/util/LinkedList$ListItr" 1 17 4 := ⟨(RJ23, TJ23, 5), "java/util/LinkedList$ListItr", by decide, rfl, by decide, in_J23, Or.inl q998, Or.inl rfl⟩
theorem fd_J25_205_18 : j_Fd "java/lang/Integer" 205 18 0 := ⟨(RJ25, TJ25, 1), "java/lang/Integer", by decide, rfl, by decide, in_J25, Or.inl q1032, Or.inl rfl⟩
theorem fd_J26_7_19 : j_Fd "java/util/LinkedList$Node" 7 19 0 := ⟨(RJ26, TJ26, 3), "java/util/LinkedList$Node", by decide, rfl, by decide, in_J26, Or.inl q1050, Or.inl rfl⟩
theorem fd_J23_52_19 : j_Fd "java/util/LinkedList$ListItr" 52 19 0 := ⟨(RJ26, TJ26, 3), "java/util/LinkedList$Node", by decide, rfl, by decide, in_J26, Or.inl q1051, Or.inl rfl⟩
theorem fd_J4_39_19 : j_Fd "java/util/LinkedList" 39 19 0 := ⟨(RJ26, TJ26, 3), "java/util/LinkedList$Node", by decide, rfl, by decide, in_J26, Or.inl q1052, Or.inl rfl⟩
theorem fd_J26_13_19 : j_Fd "java/util/LinkedList$Node" 13 19 1 := ⟨(RJ26, TJ26, 3), "java/util/LinkedList$Node", by decide, rfl, by decide, in_J26, Or.inl q1053, Or.inl rfl⟩
theorem fd_J23_49_19 : j_Fd "java/util/LinkedList$ListItr" 49 19 1 := ⟨(RJ26, TJ26, 3), "java/util/LinkedList$Node", by decide, rfl, by decide, in_J26, Or.inl q1054, Or.inl rfl⟩
theorem fd_J4_36_19 : j_Fd "java/util/LinkedList" 36 19 1 := ⟨(RJ26, TJ26, 3), "java/util/LinkedList$Node", by decide, rfl, by decide, in_J26, Or.inl q1055, Or.inl rfl⟩
theorem fd_J26_17_19 : j_Fd "java/util/LinkedList$Node" 17 19 2 := ⟨(RJ26, TJ26, 3), "java/util/LinkedList$Node", by decide, rfl, by decide, in_J26, Or.inl q1056, Or.inl rfl⟩
theorem fd_J4_30_19 : j_Fd "java/util/LinkedList" 30 19 2 := ⟨(RJ26, TJ26, 3), "java/util/LinkedList$Node", by decide, rfl, by decide, in_J26, Or.inl q1057, Or.inl rfl⟩
theorem fd_X4_7_4 : j_Fd "PittanceHouse$Refused" 7 4 6 := ⟨(RX4, TX4, 8), "PittanceHouse$Refused", by decide, rfl, by decide, in_X4, Or.inl q1095, Or.inl rfl⟩
theorem fd_X4_13_4 : j_Fd "PittanceHouse$Refused" 13 4 7 := ⟨(RX4, TX4, 8), "PittanceHouse$Refused", by decide, rfl, by decide, in_X4, Or.inl q1097, Or.inl rfl⟩
theorem fd_X5_19_5 : j_Fd "PittanceHouse$House$1$1" 19 5 0 := ⟨(RX5, TX5, 2), "PittanceHouse$House$1$1", by decide, rfl, by decide, in_X5, Or.inl q1337, Or.inl rfl⟩
theorem fd_X5_3_5 : j_Fd "PittanceHouse$House$1$1" 3 5 1 := ⟨(RX5, TX5, 2), "PittanceHouse$House$1$1", by decide, rfl, by decide, in_X5, Or.inl q1338, Or.inl rfl⟩
theorem fd_X6_17_6 : j_Fd "PittanceHouse$1Count" 17 6 0 := ⟨(RX6, TX6, 5), "PittanceHouse$1Count", by decide, rfl, by decide, in_X6, Or.inl q1390, Or.inl rfl⟩
theorem fd_X6_27_6 : j_Fd "PittanceHouse$1Count" 27 6 1 := ⟨(RX6, TX6, 5), "PittanceHouse$1Count", by decide, rfl, by decide, in_X6, Or.inl q1391, Or.inl rfl⟩
theorem fd_X6_31_6 : j_Fd "PittanceHouse$1Count" 31 6 2 := ⟨(RX6, TX6, 5), "PittanceHouse$1Count", by decide, rfl, by decide, in_X6, Or.inl q1392, Or.inl rfl⟩
theorem fd_X6_1_6 : j_Fd "PittanceHouse$1Count" 1 6 3 := ⟨(RX6, TX6, 5), "PittanceHouse$1Count", by decide, rfl, by decide, in_X6, Or.inl q1394, Or.inl rfl⟩
theorem fd_X6_7_6 : j_Fd "PittanceHouse$1Count" 7 6 4 := ⟨(RX6, TX6, 5), "PittanceHouse$1Count", by decide, rfl, by decide, in_X6, Or.inl q1395, Or.inl rfl⟩
theorem fd_X7_1_7 : j_Fd "PittanceHouse$House$1" 1 7 0 := ⟨(RX7, TX7, 1), "PittanceHouse$House$1", by decide, rfl, by decide, in_X7, Or.inl q1518, Or.inl rfl⟩
theorem fd_X5_23_7 : j_Fd "PittanceHouse$House$1$1" 23 7 0 := ⟨(RX7, TX7, 1), "PittanceHouse$House$1", by decide, rfl, by decide, in_X7, Or.inl q1519, Or.inl rfl⟩
theorem fd_J30_11_20 : j_Fd "java/util/BitSet" 11 20 0 := ⟨(RJ30, TJ30, 3), "java/util/BitSet", by decide, rfl, by decide, in_J30, Or.inl q1596, Or.inl rfl⟩
theorem fd_J30_7_20 : j_Fd "java/util/BitSet" 7 20 1 := ⟨(RJ30, TJ30, 3), "java/util/BitSet", by decide, rfl, by decide, in_J30, Or.inl q1597, Or.inl rfl⟩
theorem fd_J30_24_20 : j_Fd "java/util/BitSet" 24 20 2 := ⟨(RJ30, TJ30, 3), "java/util/BitSet", by decide, rfl, by decide, in_J30, Or.inl q1598, Or.inl rfl⟩
theorem fd_X8_33_8 : j_Fd "PittanceHouse$Reader" 33 8 0 := ⟨(RX8, TX8, 3), "PittanceHouse$Reader", by decide, rfl, by decide, in_X8, Or.inl q1762, Or.inl rfl⟩
theorem fd_X8_37_8 : j_Fd "PittanceHouse$Reader" 37 8 1 := ⟨(RX8, TX8, 3), "PittanceHouse$Reader", by decide, rfl, by decide, in_X8, Or.inl q1763, Or.inl rfl⟩
theorem fd_X8_3_8 : j_Fd "PittanceHouse$Reader" 3 8 2 := ⟨(RX8, TX8, 3), "PittanceHouse$Reader", by decide, rfl, by decide, in_X8, Or.inl q1764, Or.inl rfl⟩
theorem fd_X10_7_10 : j_Fd "PittanceHouse$Wrong" 7 10 6 := ⟨(RX10, TX10, 7), "PittanceHouse$Wrong", by decide, rfl, by decide, in_X10, Or.inl q1840, Or.inl rfl⟩
theorem fd_X9_7_9 : j_Fd "PittanceHouse$Order" 7 9 0 := ⟨(RX9, TX9, 3), "PittanceHouse$Order", by decide, rfl, by decide, in_X9, Or.inl q1850, Or.inl rfl⟩
theorem fd_X9_37_9 : j_Fd "PittanceHouse$Order" 37 9 1 := ⟨(RX9, TX9, 3), "PittanceHouse$Order", by decide, rfl, by decide, in_X9, Or.inl q1852, Or.inl rfl⟩
theorem fd_X9_47_9 : j_Fd "PittanceHouse$Order" 47 9 2 := ⟨(RX9, TX9, 3), "PittanceHouse$Order", by decide, rfl, by decide, in_X9, Or.inl q1854, Or.inl rfl⟩
theorem fd_X2_42_2 : j_Fd "PittanceHouseModel" 42 2 0 := ⟨(RX2, TX2, 20), "PittanceHouseModel", by decide, rfl, by decide, in_X2, Or.inl q2135, Or.inl rfl⟩
theorem fd_X2_45_2 : j_Fd "PittanceHouseModel" 45 2 1 := ⟨(RX2, TX2, 20), "PittanceHouseModel", by decide, rfl, by decide, in_X2, Or.inl q2136, Or.inl rfl⟩
theorem fd_X2_35_2 : j_Fd "PittanceHouseModel" 35 2 2 := ⟨(RX2, TX2, 20), "PittanceHouseModel", by decide, rfl, by decide, in_X2, Or.inl q2137, Or.inl rfl⟩
theorem fd_X2_39_2 : j_Fd "PittanceHouseModel" 39 2 3 := ⟨(RX2, TX2, 20), "PittanceHouseModel", by decide, rfl, by decide, in_X2, Or.inl q2138, Or.inl rfl⟩
theorem fd_X2_7_2 : j_Fd "PittanceHouseModel" 7 2 4 := ⟨(RX2, TX2, 20), "PittanceHouseModel", by decide, rfl, by decide, in_X2, Or.inl q2139, Or.inl rfl⟩
theorem fd_X2_13_2 : j_Fd "PittanceHouseModel" 13 2 5 := ⟨(RX2, TX2, 20), "PittanceHouseModel", by decide, rfl, by decide, in_X2, Or.inl q2140, Or.inl rfl⟩
theorem fd_X2_16_2 : j_Fd "PittanceHouseModel" 16 2 6 := ⟨(RX2, TX2, 20), "PittanceHouseModel", by decide, rfl, by decide, in_X2, Or.inl q2141, Or.inl rfl⟩
theorem fd_X2_19_2 : j_Fd "PittanceHouseModel" 19 2 7 := ⟨(RX2, TX2, 20), "PittanceHouseModel", by decide, rfl, by decide, in_X2, Or.inl q2142, Or.inl rfl⟩
theorem fd_X2_48_2 : j_Fd "PittanceHouseModel" 48 2 8 := ⟨(RX2, TX2, 20), "PittanceHouseModel", by decide, rfl, by decide, in_X2, Or.inl q2143, Or.inl rfl⟩
theorem fd_X2_51_2 : j_Fd "PittanceHouseModel" 51 2 9 := ⟨(RX2, TX2, 20), "PittanceHouseModel", by decide, rfl, by decide, in_X2, Or.inl q2144, Or.inl rfl⟩
theorem fd_X2_265_2 : j_Fd "PittanceHouseModel" 265 2 10 := ⟨(RX2, TX2, 20), "PittanceHouseModel", by decide, rfl, by decide, in_X2, Or.inl q2145, Or.inl rfl⟩
theorem fd_X2_22_2 : j_Fd "PittanceHouseModel" 22 2 11 := ⟨(RX2, TX2, 20), "PittanceHouseModel", by decide, rfl, by decide, in_X2, Or.inl q2146, Or.inl rfl⟩
theorem fd_X2_25_2 : j_Fd "PittanceHouseModel" 25 2 12 := ⟨(RX2, TX2, 20), "PittanceHouseModel", by decide, rfl, by decide, in_X2, Or.inl q2147, Or.inl rfl⟩
theorem fd_X2_204_2 : j_Fd "PittanceHouseModel" 204 2 13 := ⟨(RX2, TX2, 20), "PittanceHouseModel", by decide, rfl, by decide, in_X2, Or.inl q2148, Or.inl rfl⟩
theorem fd_X2_207_2 : j_Fd "PittanceHouseModel" 207 2 14 := ⟨(RX2, TX2, 20), "PittanceHouseModel", by decide, rfl, by decide, in_X2, Or.inl q2149, Or.inl rfl⟩
theorem fd_X2_29_2 : j_Fd "PittanceHouseModel" 29 2 15 := ⟨(RX2, TX2, 20), "PittanceHouseModel", by decide, rfl, by decide, in_X2, Or.inl q2150, Or.inl rfl⟩
theorem fd_X2_216_2 : j_Fd "PittanceHouseModel" 216 2 16 := ⟨(RX2, TX2, 20), "PittanceHouseModel", by decide, rfl, by decide, in_X2, Or.inl q2151, Or.inl rfl⟩
theorem fd_X2_229_2 : j_Fd "PittanceHouseModel" 229 2 17 := ⟨(RX2, TX2, 20), "PittanceHouseModel", by decide, rfl, by decide, in_X2, Or.inl q2152, Or.inl rfl⟩
theorem fd_X2_32_2 : j_Fd "PittanceHouseModel" 32 2 18 := ⟨(RX2, TX2, 20), "PittanceHouseModel", by decide, rfl, by decide, in_X2, Or.inl q2153, Or.inl rfl⟩
theorem fd_X2_244_2 : j_Fd "PittanceHouseModel" 244 2 19 := ⟨(RX2, TX2, 20), "PittanceHouseModel", by decide, rfl, by decide, in_X2, Or.inl q2154, Or.inl rfl⟩
theorem fd_J10_28_11 : j_Fd "java/util/ArrayList$Itr" 28 11 2 := ⟨(RJ2, TJ2, 3), "java/util/ArrayList", by decide, rfl, by decide, in_J2, Or.inr ⟨_, q176⟩, Or.inl rfl⟩
theorem fd_X5_38_1 : j_Fd "PittanceHouse$House$1$1" 38 1 0 := ⟨(RX1, TX1, 13), "PittanceHouse$House", by decide, rfl, by decide, in_X1, Or.inr ⟨_, q215⟩, Or.inl rfl⟩
theorem fd_X0_178_1 : j_Fd "PittanceHouse" 178 1 0 := ⟨(RX1, TX1, 13), "PittanceHouse$House", by decide, rfl, by decide, in_X1, Or.inr ⟨_, q216⟩, Or.inl rfl⟩
theorem fd_X0_223_1 : j_Fd "PittanceHouse" 223 1 2 := ⟨(RX1, TX1, 13), "PittanceHouse$House", by decide, rfl, by decide, in_X1, Or.inr ⟨_, q219⟩, Or.inl rfl⟩
theorem fd_X5_29_1 : j_Fd "PittanceHouse$House$1$1" 29 1 3 := ⟨(RX1, TX1, 13), "PittanceHouse$House", by decide, rfl, by decide, in_X1, Or.inr ⟨_, q221⟩, Or.inl rfl⟩
theorem fd_X0_194_1 : j_Fd "PittanceHouse" 194 1 3 := ⟨(RX1, TX1, 13), "PittanceHouse$House", by decide, rfl, by decide, in_X1, Or.inr ⟨_, q222⟩, Or.inl rfl⟩
theorem fd_X0_298_1 : j_Fd "PittanceHouse" 298 1 5 := ⟨(RX1, TX1, 13), "PittanceHouse$House", by decide, rfl, by decide, in_X1, Or.inr ⟨_, q225⟩, Or.inl rfl⟩
theorem fd_X0_301_1 : j_Fd "PittanceHouse" 301 1 6 := ⟨(RX1, TX1, 13), "PittanceHouse$House", by decide, rfl, by decide, in_X1, Or.inr ⟨_, q227⟩, Or.inl rfl⟩
theorem fd_X0_247_1 : j_Fd "PittanceHouse" 247 1 7 := ⟨(RX1, TX1, 13), "PittanceHouse$House", by decide, rfl, by decide, in_X1, Or.inr ⟨_, q229⟩, Or.inl rfl⟩
theorem fd_X0_314_1 : j_Fd "PittanceHouse" 314 1 8 := ⟨(RX1, TX1, 13), "PittanceHouse$House", by decide, rfl, by decide, in_X1, Or.inr ⟨_, q231⟩, Or.inl rfl⟩
theorem fd_X0_317_1 : j_Fd "PittanceHouse" 317 1 9 := ⟨(RX1, TX1, 13), "PittanceHouse$House", by decide, rfl, by decide, in_X1, Or.inr ⟨_, q233⟩, Or.inl rfl⟩
theorem fd_X0_320_1 : j_Fd "PittanceHouse" 320 1 10 := ⟨(RX1, TX1, 13), "PittanceHouse$House", by decide, rfl, by decide, in_X1, Or.inr ⟨_, q235⟩, Or.inl rfl⟩
theorem fd_X0_323_1 : j_Fd "PittanceHouse" 323 1 11 := ⟨(RX1, TX1, 13), "PittanceHouse$House", by decide, rfl, by decide, in_X1, Or.inr ⟨_, q237⟩, Or.inl rfl⟩
theorem fd_X0_326_1 : j_Fd "PittanceHouse" 326 1 12 := ⟨(RX1, TX1, 13), "PittanceHouse$House", by decide, rfl, by decide, in_X1, Or.inr ⟨_, q239⟩, Or.inl rfl⟩
theorem fd_X8_41_0 : j_Fd "PittanceHouse$Reader" 41 0 6 := ⟨(RX0, TX0, 8), "PittanceHouse", by decide, rfl, by decide, in_X0, Or.inr ⟨_, q334⟩, Or.inl rfl⟩
theorem fd_X1_189_3 : j_Fd "PittanceHouse$House" 189 3 0 := ⟨(RX3, TX3, 10), "PittanceHouse$Brother", by decide, rfl, by decide, in_X3, Or.inr ⟨_, q869⟩, Or.inl rfl⟩
theorem fd_X1_154_3 : j_Fd "PittanceHouse$House" 154 3 1 := ⟨(RX3, TX3, 10), "PittanceHouse$Brother", by decide, rfl, by decide, in_X3, Or.inr ⟨_, q871⟩, Or.inl rfl⟩
theorem fd_X1_235_3 : j_Fd "PittanceHouse$House" 235 3 2 := ⟨(RX3, TX3, 10), "PittanceHouse$Brother", by decide, rfl, by decide, in_X3, Or.inr ⟨_, q873⟩, Or.inl rfl⟩
theorem fd_X1_241_3 : j_Fd "PittanceHouse$House" 241 3 3 := ⟨(RX3, TX3, 10), "PittanceHouse$Brother", by decide, rfl, by decide, in_X3, Or.inr ⟨_, q875⟩, Or.inl rfl⟩
theorem fd_X1_186_3 : j_Fd "PittanceHouse$House" 186 3 4 := ⟨(RX3, TX3, 10), "PittanceHouse$Brother", by decide, rfl, by decide, in_X3, Or.inr ⟨_, q877⟩, Or.inl rfl⟩
theorem fd_X1_226_3 : j_Fd "PittanceHouse$House" 226 3 5 := ⟨(RX3, TX3, 10), "PittanceHouse$Brother", by decide, rfl, by decide, in_X3, Or.inr ⟨_, q879⟩, Or.inl rfl⟩
theorem fd_X1_161_3 : j_Fd "PittanceHouse$House" 161 3 6 := ⟨(RX3, TX3, 10), "PittanceHouse$Brother", by decide, rfl, by decide, in_X3, Or.inr ⟨_, q881⟩, Or.inl rfl⟩
theorem fd_X1_223_3 : j_Fd "PittanceHouse$House" 223 3 7 := ⟨(RX3, TX3, 10), "PittanceHouse$Brother", by decide, rfl, by decide, in_X3, Or.inr ⟨_, q883⟩, Or.inl rfl⟩
theorem fd_X0_244_3 : j_Fd "PittanceHouse" 244 3 7 := ⟨(RX3, TX3, 10), "PittanceHouse$Brother", by decide, rfl, by decide, in_X3, Or.inr ⟨_, q884⟩, Or.inl rfl⟩
theorem fd_X1_133_3 : j_Fd "PittanceHouse$House" 133 3 8 := ⟨(RX3, TX3, 10), "PittanceHouse$Brother", by decide, rfl, by decide, in_X3, Or.inr ⟨_, q886⟩, Or.inl rfl⟩
theorem fd_X0_190_3 : j_Fd "PittanceHouse" 190 3 9 := ⟨(RX3, TX3, 10), "PittanceHouse$Brother", by decide, rfl, by decide, in_X3, Or.inr ⟨_, q888⟩, Or.inl rfl⟩
theorem fd_X0_56_4 : j_Fd "PittanceHouse" 56 4 6 := ⟨(RX4, TX4, 8), "PittanceHouse$Refused", by decide, rfl, by decide, in_X4, Or.inr ⟨_, q1096⟩, Or.inl rfl⟩
theorem fd_X0_61_4 : j_Fd "PittanceHouse" 61 4 7 := ⟨(RX4, TX4, 8), "PittanceHouse$Refused", by decide, rfl, by decide, in_X4, Or.inr ⟨_, q1098⟩, Or.inl rfl⟩
theorem fd_X0_96_6 : j_Fd "PittanceHouse" 96 6 2 := ⟨(RX6, TX6, 5), "PittanceHouse$1Count", by decide, rfl, by decide, in_X6, Or.inr ⟨_, q1393⟩, Or.inl rfl⟩
theorem fd_X0_281_10 : j_Fd "PittanceHouse" 281 10 6 := ⟨(RX10, TX10, 7), "PittanceHouse$Wrong", by decide, rfl, by decide, in_X10, Or.inr ⟨_, q1841⟩, Or.inl rfl⟩
theorem fd_X8_90_9 : j_Fd "PittanceHouse$Reader" 90 9 0 := ⟨(RX9, TX9, 3), "PittanceHouse$Order", by decide, rfl, by decide, in_X9, Or.inr ⟨_, q1851⟩, Or.inl rfl⟩
theorem fd_X8_100_9 : j_Fd "PittanceHouse$Reader" 100 9 1 := ⟨(RX9, TX9, 3), "PittanceHouse$Order", by decide, rfl, by decide, in_X9, Or.inr ⟨_, q1853⟩, Or.inl rfl⟩
theorem fd_X8_106_9 : j_Fd "PittanceHouse$Reader" 106 9 2 := ⟨(RX9, TX9, 3), "PittanceHouse$Order", by decide, rfl, by decide, in_X9, Or.inr ⟨_, q1855⟩, Or.inl rfl⟩
theorem dv_0 : ∀ j, j < (((RX0, TX0, 8) : vw_C).2.2) → defaultValue (tyX0 j) = vp_V [.null, .null, .null, .int 0, .int 0, .null, .null, .null] j := by
  intro j hj
  have hj : j < 8 := hj
  match j, hj with
  | 0, _ => rfl
  | 1, _ => rfl
  | 2, _ => rfl
  | 3, _ => rfl
  | 4, _ => rfl
  | 5, _ => rfl
  | 6, _ => rfl
  | 7, _ => rfl
  | j + 8, h => exact absurd h (by omega)
theorem dv_1 : ∀ j, j < (((RX1, TX1, 13) : vw_C).2.2) → defaultValue (tyX1 j) = vp_V [.null, .null, .null, .null, .null, .int 0, .int 0, .int 0, .int 0, .int 0, .int 0, .int 0, .int 0] j := by
  intro j hj
  have hj : j < 13 := hj
  match j, hj with
  | 0, _ => rfl
  | 1, _ => rfl
  | 2, _ => rfl
  | 3, _ => rfl
  | 4, _ => rfl
  | 5, _ => rfl
  | 6, _ => rfl
  | 7, _ => rfl
  | 8, _ => rfl
  | 9, _ => rfl
  | 10, _ => rfl
  | 11, _ => rfl
  | 12, _ => rfl
  | j + 13, h => exact absurd h (by omega)
theorem dv_2 : ∀ j, j < (((RX2, TX2, 20) : vw_C).2.2) → defaultValue (tyX2 j) = vp_V [.int 0, .int 0, .int 0, .int 0, .null, .null, .null, .null, .int 0, .int 0, .int 0, .null, .null, .int 0, .int 0, .null, .int 0, .int 0, .null, .int 0] j := by
  intro j hj
  have hj : j < 20 := hj
  match j, hj with
  | 0, _ => rfl
  | 1, _ => rfl
  | 2, _ => rfl
  | 3, _ => rfl
  | 4, _ => rfl
  | 5, _ => rfl
  | 6, _ => rfl
  | 7, _ => rfl
  | 8, _ => rfl
  | 9, _ => rfl
  | 10, _ => rfl
  | 11, _ => rfl
  | 12, _ => rfl
  | 13, _ => rfl
  | 14, _ => rfl
  | 15, _ => rfl
  | 16, _ => rfl
  | 17, _ => rfl
  | 18, _ => rfl
  | 19, _ => rfl
  | j + 20, h => exact absurd h (by omega)
theorem dv_3 : ∀ j, j < (((RX3, TX3, 10) : vw_C).2.2) → defaultValue (tyX3 j) = vp_V [.int 0, .int 0, .int 0, .int 0, .int 0, .int 0, .int 0, .int 0, .int 0, .null] j := by
  intro j hj
  have hj : j < 10 := hj
  match j, hj with
  | 0, _ => rfl
  | 1, _ => rfl
  | 2, _ => rfl
  | 3, _ => rfl
  | 4, _ => rfl
  | 5, _ => rfl
  | 6, _ => rfl
  | 7, _ => rfl
  | 8, _ => rfl
  | 9, _ => rfl
  | j + 10, h => exact absurd h (by omega)
theorem dv_4 : ∀ j, j < (((RX4, TX4, 8) : vw_C).2.2) → defaultValue (tyX4 j) = vp_V [.null, .null, .null, .null, .null, .int 0, .int 0, .int 0] j := by
  intro j hj
  have hj : j < 8 := hj
  match j, hj with
  | 0, _ => rfl
  | 1, _ => rfl
  | 2, _ => rfl
  | 3, _ => rfl
  | 4, _ => rfl
  | 5, _ => rfl
  | 6, _ => rfl
  | 7, _ => rfl
  | j + 8, h => exact absurd h (by omega)
theorem dv_5 : ∀ j, j < (((RX5, TX5, 2) : vw_C).2.2) → defaultValue (tyX5 j) = vp_V [.int 0, .null] j := by
  intro j hj
  have hj : j < 2 := hj
  match j, hj with
  | 0, _ => rfl
  | 1, _ => rfl
  | j + 2, h => exact absurd h (by omega)
theorem dv_6 : ∀ j, j < (((RX6, TX6, 5) : vw_C).2.2) → defaultValue (tyX6 j) = vp_V [.int 0, .int 0, .int 0, .null, .null] j := by
  intro j hj
  have hj : j < 5 := hj
  match j, hj with
  | 0, _ => rfl
  | 1, _ => rfl
  | 2, _ => rfl
  | 3, _ => rfl
  | 4, _ => rfl
  | j + 5, h => exact absurd h (by omega)
theorem dv_7 : ∀ j, j < (((RX7, TX7, 1) : vw_C).2.2) → defaultValue (tyX7 j) = vp_V [.null] j := by
  intro j hj
  have hj : j < 1 := hj
  match j, hj with
  | 0, _ => rfl
  | j + 1, h => exact absurd h (by omega)
theorem dv_8 : ∀ j, j < (((RX8, TX8, 3) : vw_C).2.2) → defaultValue (tyX8 j) = vp_V [.null, .int 0, .null] j := by
  intro j hj
  have hj : j < 3 := hj
  match j, hj with
  | 0, _ => rfl
  | 1, _ => rfl
  | 2, _ => rfl
  | j + 3, h => exact absurd h (by omega)
theorem dv_9 : ∀ j, j < (((RX9, TX9, 3) : vw_C).2.2) → defaultValue (tyX9 j) = vp_V [.null, .int 0, .int 0] j := by
  intro j hj
  have hj : j < 3 := hj
  match j, hj with
  | 0, _ => rfl
  | 1, _ => rfl
  | 2, _ => rfl
  | j + 3, h => exact absurd h (by omega)
theorem dv_10 : ∀ j, j < (((RX10, TX10, 7) : vw_C).2.2) → defaultValue (tyX10 j) = vp_V [.null, .null, .null, .null, .null, .int 0, .int 0] j := by
  intro j hj
  have hj : j < 7 := hj
  match j, hj with
  | 0, _ => rfl
  | 1, _ => rfl
  | 2, _ => rfl
  | 3, _ => rfl
  | 4, _ => rfl
  | 5, _ => rfl
  | 6, _ => rfl
  | j + 7, h => exact absurd h (by omega)
theorem dv_11 : ∀ j, j < (((RJ2, TJ2, 3) : vw_C).2.2) → defaultValue (tyJ2 j) = vp_V [.int 0, .null, .int 0] j := by
  intro j hj
  have hj : j < 3 := hj
  match j, hj with
  | 0, _ => rfl
  | 1, _ => rfl
  | 2, _ => rfl
  | j + 3, h => exact absurd h (by omega)
theorem dv_12 : ∀ j, j < (((RJ4, TJ4, 4) : vw_C).2.2) → defaultValue (tyJ4 j) = vp_V [.int 0, .int 0, .null, .null] j := by
  intro j hj
  have hj : j < 4 := hj
  match j, hj with
  | 0, _ => rfl
  | 1, _ => rfl
  | 2, _ => rfl
  | 3, _ => rfl
  | j + 4, h => exact absurd h (by omega)
theorem dv_13 : ∀ j, j < (((RJ5, TJ5, 3) : vw_C).2.2) → defaultValue (tyJ5 j) = vp_V [.null, .int 0, .int 0] j := by
  intro j hj
  have hj : j < 3 := hj
  match j, hj with
  | 0, _ => rfl
  | 1, _ => rfl
  | 2, _ => rfl
  | j + 3, h => exact absurd h (by omega)
theorem dv_14 : ∀ j, j < (((RJ7, TJ7, 4) : vw_C).2.2) → defaultValue (tyJ7 j) = vp_V [.null, .int 0, .int 0, .int 0] j := by
  intro j hj
  have hj : j < 4 := hj
  match j, hj with
  | 0, _ => rfl
  | 1, _ => rfl
  | 2, _ => rfl
  | 3, _ => rfl
  | j + 4, h => exact absurd h (by omega)
theorem dv_15 : ∀ j, j < (((RJ8, TJ8, 4) : vw_C).2.2) → defaultValue (tyJ8 j) = vp_V [.null, .int 0, .int 0, .int 0] j := by
  intro j hj
  have hj : j < 4 := hj
  match j, hj with
  | 0, _ => rfl
  | 1, _ => rfl
  | 2, _ => rfl
  | 3, _ => rfl
  | j + 4, h => exact absurd h (by omega)
theorem dv_16 : ∀ j, j < (((RJ10, TJ10, 4) : vw_C).2.2) → defaultValue (tyJ10 j) = vp_V [.int 0, .int 0, .int 0, .null] j := by
  intro j hj
  have hj : j < 4 := hj
  match j, hj with
  | 0, _ => rfl
  | 1, _ => rfl
  | 2, _ => rfl
  | 3, _ => rfl
  | j + 4, h => exact absurd h (by omega)
theorem dv_17 : ∀ j, j < (((RJ23, TJ23, 5) : vw_C).2.2) → defaultValue (tyJ23 j) = vp_V [.null, .null, .int 0, .int 0, .null] j := by
  intro j hj
  have hj : j < 5 := hj
  match j, hj with
  | 0, _ => rfl
  | 1, _ => rfl
  | 2, _ => rfl
  | 3, _ => rfl
  | 4, _ => rfl
  | j + 5, h => exact absurd h (by omega)
theorem dv_18 : ∀ j, j < (((RJ25, TJ25, 1) : vw_C).2.2) → defaultValue (tyJ25 j) = vp_V [.int 0] j := by
  intro j hj
  have hj : j < 1 := hj
  match j, hj with
  | 0, _ => rfl
  | j + 1, h => exact absurd h (by omega)
theorem dv_19 : ∀ j, j < (((RJ26, TJ26, 3) : vw_C).2.2) → defaultValue (tyJ26 j) = vp_V [.null, .null, .null] j := by
  intro j hj
  have hj : j < 3 := hj
  match j, hj with
  | 0, _ => rfl
  | 1, _ => rfl
  | 2, _ => rfl
  | j + 3, h => exact absurd h (by omega)
theorem dv_20 : ∀ j, j < (((RJ30, TJ30, 3) : vw_C).2.2) → defaultValue (tyJ30 j) = vp_V [.null, .int 0, .int 0] j := by
  intro j hj
  have hj : j < 3 := hj
  match j, hj with
  | 0, _ => rfl
  | 1, _ => rfl
  | 2, _ => rfl
  | j + 3, h => exact absurd h (by omega)
theorem nw_PittanceHouseLaw_7 : j_Nw "PittanceHouseLaw" 7 0 [.null, .null, .null, .int 0, .int 0, .null, .null, .null] 8 := ⟨(RX0, TX0, 8), tyX0, by decide, rfl, rfl, in_X0, tyX0_ok, dv_0, q144, q145, q98⟩
theorem nw_X0_7 : j_Nw "PittanceHouse" 7 1 [.null, .null, .null, .null, .null, .int 0, .int 0, .int 0, .int 0, .int 0, .int 0, .int 0, .int 0] 13 := ⟨(RX1, TX1, 13), tyX1, by decide, rfl, rfl, in_X1, tyX1_ok, dv_1, q152, q153, q99⟩
theorem nw_X1_9 : j_Nw "PittanceHouse$House" 9 11 [.int 0, .null, .int 0] 3 := ⟨(RJ2, TJ2, 3), tyJ2, by decide, rfl, rfl, in_J2, tyJ2_ok, dv_11, q158, q159, q102⟩
theorem nw_X1_20 : j_Nw "PittanceHouse$House" 20 12 [.int 0, .int 0, .null, .null] 4 := ⟨(RJ4, TJ4, 4), tyJ4, by decide, rfl, rfl, in_J4, tyJ4_ok, dv_12, q193, q194, q104⟩
theorem nw_X0_16 : j_Nw "PittanceHouse" 16 13 [.null, .int 0, .int 0] 3 := ⟨(RJ5, TJ5, 3), tyJ5, by decide, rfl, rfl, in_J5, tyJ5_ok, dv_13, q268, q269, q105⟩
theorem nw_X0_29 : j_Nw "PittanceHouse" 29 14 [.null, .int 0, .int 0, .int 0] 4 := ⟨(RJ7, TJ7, 4), tyJ7, by decide, rfl, rfl, in_J7, tyJ7_ok, dv_14, q289, q290, q107⟩
theorem nw_X0_51 : j_Nw "PittanceHouse" 51 4 [.null, .null, .null, .null, .null, .int 0, .int 0, .int 0] 8 := ⟨(RX4, TX4, 8), tyX4, by decide, rfl, rfl, in_X4, tyX4_ok, dv_4, q357, q1078, q132⟩
theorem nw_X1_15 : j_Nw "PittanceHouse$House" 15 1 [.null, .null, .null, .null, .null, .int 0, .int 0, .int 0, .int 0, .int 0, .int 0, .int 0, .int 0] 13 := ⟨(RX1, TX1, 13), tyX1, by decide, rfl, rfl, in_X1, tyX1_ok, dv_1, q365, q153, q99⟩
theorem nw_J2_267 : j_Nw "java/util/ArrayList" 267 16 [.int 0, .int 0, .int 0, .null] 4 := ⟨(RJ10, TJ10, 4), tyJ10, by decide, rfl, rfl, in_J10, tyJ10_ok, dv_16, q371, q372, q111⟩
theorem nw_X5_48 : j_Nw "PittanceHouse$House$1$1" 48 3 [.int 0, .int 0, .int 0, .int 0, .int 0, .int 0, .int 0, .int 0, .int 0, .null] 10 := ⟨(RX3, TX3, 10), tyX3, by decide, rfl, rfl, in_X3, tyX3_ok, dv_3, q531, q863, q123⟩
theorem nw_J11_44 : j_Nw "java/lang/Throwable" 44 14 [.null, .int 0, .int 0, .int 0] 4 := ⟨(RJ7, TJ7, 4), tyJ7, by decide, rfl, rfl, in_J7, tyJ7_ok, dv_14, q638, q290, q107⟩
theorem nw_J7_18 : j_Nw "java/lang/StringBuilder" 18 15 [.null, .int 0, .int 0, .int 0] 4 := ⟨(RJ8, TJ8, 4), tyJ8, by decide, rfl, rfl, in_J8, tyJ8_ok, dv_15, q765, q766, q108⟩
theorem nw_X1_56 : j_Nw "PittanceHouse$House" 56 3 [.int 0, .int 0, .int 0, .int 0, .int 0, .int 0, .int 0, .int 0, .int 0, .null] 10 := ⟨(RX3, TX3, 10), tyX3, by decide, rfl, rfl, in_X3, tyX3_ok, dv_3, q857, q863, q123⟩
theorem nw_X3_10 : j_Nw "PittanceHouse$Brother" 10 3 [.int 0, .int 0, .int 0, .int 0, .int 0, .int 0, .int 0, .int 0, .int 0, .null] 10 := ⟨(RX3, TX3, 10), tyX3, by decide, rfl, rfl, in_X3, tyX3_ok, dv_3, q862, q863, q123⟩
theorem nw_J4_150 : j_Nw "java/util/LinkedList" 150 17 [.null, .null, .int 0, .int 0, .null] 5 := ⟨(RJ23, TJ23, 5), tyJ23, by decide, rfl, rfl, in_J23, tyJ23_ok, dv_17, q987, q988, q127⟩
theorem nw_X1_67 : j_Nw "PittanceHouse$House" 67 18 [.int 0] 1 := ⟨(RJ25, TJ25, 1), tyJ25, by decide, rfl, rfl, in_J25, tyJ25_ok, dv_18, q1011, q1024, q129⟩
theorem nw_J25_1 : j_Nw "java/lang/Integer" 1 18 [.int 0] 1 := ⟨(RJ25, TJ25, 1), tyJ25, by decide, rfl, rfl, in_J25, tyJ25_ok, dv_18, q1023, q1024, q129⟩
theorem nw_J4_22 : j_Nw "java/util/LinkedList" 22 19 [.null, .null, .null] 3 := ⟨(RJ26, TJ26, 3), tyJ26, by decide, rfl, rfl, in_J26, tyJ26_ok, dv_19, q1044, q1045, q131⟩
theorem nw_X7_13 : j_Nw "PittanceHouse$House$1" 13 5 [.int 0, .null] 2 := ⟨(RX5, TX5, 2), tyX5, by decide, rfl, rfl, in_X5, tyX5_ok, dv_5, q1332, q535, q135⟩
theorem nw_X0_81 : j_Nw "PittanceHouse" 81 18 [.int 0] 1 := ⟨(RJ25, TJ25, 1), tyJ25, by decide, rfl, rfl, in_J25, tyJ25_ok, dv_18, q1382, q1024, q129⟩
theorem nw_X0_87 : j_Nw "PittanceHouse" 87 6 [.int 0, .int 0, .int 0, .null, .null] 5 := ⟨(RX6, TX6, 5), tyX6, by decide, rfl, rfl, in_X6, tyX6_ok, dv_6, q1384, q1385, q137⟩
theorem nw_X1_119 : j_Nw "PittanceHouse$House" 119 7 [.null] 1 := ⟨(RX7, TX7, 1), tyX7, by decide, rfl, rfl, in_X7, tyX7_ok, dv_7, q1512, q1513, q138⟩
theorem nw_X0_188 : j_Nw "PittanceHouse" 188 3 [.int 0, .int 0, .int 0, .int 0, .int 0, .int 0, .int 0, .int 0, .int 0, .null] 10 := ⟨(RX3, TX3, 10), tyX3, by decide, rfl, rfl, in_X3, tyX3_ok, dv_3, q1570, q863, q123⟩
theorem nw_X1_264 : j_Nw "PittanceHouse$House" 264 20 [.null, .int 0, .int 0] 3 := ⟨(RJ30, TJ30, 3), tyJ30, by decide, rfl, rfl, in_J30, tyJ30_ok, dv_20, q1583, q1584, q139⟩
theorem nw_X0_279 : j_Nw "PittanceHouse" 279 10 [.null, .null, .null, .null, .null, .int 0, .int 0] 7 := ⟨(RX10, TX10, 7), tyX10, by decide, rfl, rfl, in_X10, tyX10_ok, dv_10, q1745, q1828, q143⟩
theorem nw_X0_257 : j_Nw "PittanceHouse" 257 8 [.null, .int 0, .null] 3 := ⟨(RX8, TX8, 3), tyX8, by decide, rfl, rfl, in_X8, tyX8_ok, dv_8, q1746, q1747, q141⟩
theorem nw_X8_15 : j_Nw "PittanceHouse$Reader" 15 15 [.null, .int 0, .int 0, .int 0] 4 := ⟨(RJ8, TJ8, 4), tyJ8, by decide, rfl, rfl, in_J8, tyJ8_ok, dv_15, q1752, q766, q108⟩
theorem nw_X8_109 : j_Nw "PittanceHouse$Reader" 109 12 [.int 0, .int 0, .null, .null] 4 := ⟨(RJ4, TJ4, 4), tyJ4, by decide, rfl, rfl, in_J4, tyJ4_ok, dv_12, q1776, q194, q104⟩
theorem nw_X8_81 : j_Nw "PittanceHouse$Reader" 81 9 [.null, .int 0, .int 0] 3 := ⟨(RX9, TX9, 3), tyX9, by decide, rfl, rfl, in_X9, tyX9_ok, dv_9, q1782, q1783, q142⟩
theorem nw_X8_55 : j_Nw "PittanceHouse$Reader" 55 10 [.null, .null, .null, .null, .null, .int 0, .int 0] 7 := ⟨(RX10, TX10, 7), tyX10, by decide, rfl, rfl, in_X10, tyX10_ok, dv_10, q1827, q1828, q143⟩
theorem nw_J8_10 : j_Nw "java/lang/String" 10 15 [.null, .int 0, .int 0, .int 0] 4 := ⟨(RJ8, TJ8, 4), tyJ8, by decide, rfl, rfl, in_J8, tyJ8_ok, dv_15, q1916, q766, q108⟩
theorem nw_X0_266 : j_Nw "PittanceHouse" 266 9 [.null, .int 0, .int 0] 3 := ⟨(RX9, TX9, 3), tyX9, by decide, rfl, rfl, in_X9, tyX9_ok, dv_9, q1930, q1783, q142⟩
theorem nw_X9_99 : j_Nw "PittanceHouse$Order" 99 4 [.null, .null, .null, .null, .null, .int 0, .int 0, .int 0] 8 := ⟨(RX4, TX4, 8), tyX4, by decide, rfl, rfl, in_X4, tyX4_ok, dv_4, q1935, q1078, q132⟩
theorem nw_X1_281 : j_Nw "PittanceHouse$House" 281 14 [.null, .int 0, .int 0, .int 0] 4 := ⟨(RJ7, TJ7, 4), tyJ7, by decide, rfl, rfl, in_J7, tyJ7_ok, dv_14, q1992, q290, q107⟩
theorem nw_PittanceHouseLaw_10 : j_Nw "PittanceHouseLaw" 10 2 [.int 0, .int 0, .int 0, .int 0, .null, .null, .null, .null, .int 0, .int 0, .int 0, .null, .null, .int 0, .int 0, .null, .int 0, .int 0, .null, .int 0] 20 := ⟨(RX2, TX2, 20), tyX2, by decide, rfl, rfl, in_X2, tyX2_ok, dv_2, q2129, q2130, q110⟩
theorem mt_J0_init : j_Mt yJ0_init 0 := ⟨⟨by decide +kernel, by decide +kernel⟩, by decide +kernel, q100⟩
theorem mt_J0_isEmpty : j_Mt yJ0_isEmpty 0 := ⟨⟨by decide +kernel, by decide +kernel⟩, by decide +kernel, q100⟩
theorem mt_J1_init : j_Mt yJ1_init 0 := ⟨⟨by decide +kernel, by decide +kernel⟩, by decide +kernel, q101⟩
theorem mt_J1_listIterator : j_Mt yJ1_listIterator 0 := ⟨⟨by decide +kernel, by decide +kernel⟩, by decide +kernel, q101⟩
theorem mt_J10_init : j_Mt yJ10_init 1 := ⟨⟨by decide +kernel, by decide +kernel⟩, by decide +kernel, q111⟩
theorem mt_J10_hasNext : j_Mt yJ10_hasNext 0 := ⟨⟨by decide +kernel, by decide +kernel⟩, by decide +kernel, q111⟩
theorem mt_J10_next : j_Mt yJ10_next 0 := ⟨⟨by decide +kernel, by decide +kernel⟩, by decide +kernel, q111⟩
theorem mt_J10_checkForComodification : j_Mt yJ10_checkForComodification 0 := ⟨⟨by decide +kernel, by decide +kernel⟩, by decide +kernel, q111⟩
theorem mt_J10_remove : j_Mt yJ10_remove 0 := ⟨⟨by decide +kernel, by decide +kernel⟩, by decide +kernel, q111⟩
theorem mt_J11_init : j_Mt yJ11_init 0 := ⟨⟨by decide +kernel, by decide +kernel⟩, by decide +kernel, q112⟩
theorem mt_J11_init_2 : j_Mt yJ11_init_2 1 := ⟨⟨by decide +kernel, by decide +kernel⟩, by decide +kernel, q112⟩
theorem mt_J11_toString : j_Mt yJ11_toString 0 := ⟨⟨by decide +kernel, by decide +kernel⟩, by decide +kernel, q112⟩
theorem mt_J11_getLocalizedMessage : j_Mt yJ11_getLocalizedMessage 0 := ⟨⟨by decide +kernel, by decide +kernel⟩, by decide +kernel, q112⟩
theorem mt_J11_getMessage : j_Mt yJ11_getMessage 0 := ⟨⟨by decide +kernel, by decide +kernel⟩, by decide +kernel, q112⟩
theorem mt_J11_init_3 : j_Mt yJ11_init_3 4 := ⟨⟨by decide +kernel, by decide +kernel⟩, by decide +kernel, q112⟩
theorem mt_J12_init : j_Mt yJ12_init 0 := ⟨⟨by decide +kernel, by decide +kernel⟩, by decide +kernel, q113⟩
theorem mt_J12_init_2 : j_Mt yJ12_init_2 1 := ⟨⟨by decide +kernel, by decide +kernel⟩, by decide +kernel, q113⟩
theorem mt_J12_init_3 : j_Mt yJ12_init_3 4 := ⟨⟨by decide +kernel, by decide +kernel⟩, by decide +kernel, q113⟩
theorem mt_J13_init : j_Mt yJ13_init 0 := ⟨⟨by decide +kernel, by decide +kernel⟩, by decide +kernel, q114⟩
theorem mt_J13_init_2 : j_Mt yJ13_init_2 1 := ⟨⟨by decide +kernel, by decide +kernel⟩, by decide +kernel, q114⟩
theorem mt_J14_init : j_Mt yJ14_init 0 := ⟨⟨by decide +kernel, by decide +kernel⟩, by decide +kernel, q115⟩
theorem mt_J14_init_2 : j_Mt yJ14_init_2 1 := ⟨⟨by decide +kernel, by decide +kernel⟩, by decide +kernel, q115⟩
theorem mt_J15_checkIndex : j_Mt yJ15_checkIndex 2 := ⟨⟨by decide +kernel, by decide +kernel⟩, by decide +kernel, q116⟩
theorem mt_J16_checkIndex : j_Mt yJ16_checkIndex 3 := ⟨⟨by decide +kernel, by decide +kernel⟩, by decide +kernel, q117⟩
theorem mt_J16_checkFromToIndex : j_Mt yJ16_checkFromToIndex 4 := ⟨⟨by decide +kernel, by decide +kernel⟩, by decide +kernel, q117⟩
theorem mt_J16_checkFromIndexSize : j_Mt yJ16_checkFromIndexSize 4 := ⟨⟨by decide +kernel, by decide +kernel⟩, by decide +kernel, q117⟩
theorem mt_J17_newLength : j_Mt yJ17_newLength 3 := ⟨⟨by decide +kernel, by decide +kernel⟩, by decide +kernel, q118⟩
theorem mt_J17_hugeLength : j_Mt yJ17_hugeLength 2 := ⟨⟨by decide +kernel, by decide +kernel⟩, by decide +kernel, q118⟩
theorem mt_J17_vectorizedHashCode : j_Mt yJ17_vectorizedHashCode 5 := ⟨⟨by decide +kernel, by decide +kernel⟩, by decide +kernel, q118⟩
theorem mt_J17_signedHashCode : j_Mt yJ17_signedHashCode 4 := ⟨⟨by decide +kernel, by decide +kernel⟩, by decide +kernel, q118⟩
theorem mt_J17_utf16hashCode : j_Mt yJ17_utf16hashCode 4 := ⟨⟨by decide +kernel, by decide +kernel⟩, by decide +kernel, q118⟩
theorem mt_J17_hashCode : j_Mt yJ17_hashCode 4 := ⟨⟨by decide +kernel, by decide +kernel⟩, by decide +kernel, q118⟩
theorem mt_J17_hashCode_2 : j_Mt yJ17_hashCode_2 4 := ⟨⟨by decide +kernel, by decide +kernel⟩, by decide +kernel, q118⟩
theorem mt_J17_hashCode_3 : j_Mt yJ17_hashCode_3 4 := ⟨⟨by decide +kernel, by decide +kernel⟩, by decide +kernel, q118⟩
theorem mt_J17_hashCode_4 : j_Mt yJ17_hashCode_4 4 := ⟨⟨by decide +kernel, by decide +kernel⟩, by decide +kernel, q118⟩
theorem mt_J18_max : j_Mt yJ18_max 2 := ⟨⟨by decide +kernel, by decide +kernel⟩, by decide +kernel, q119⟩
theorem mt_J18_min : j_Mt yJ18_min 2 := ⟨⟨by decide +kernel, by decide +kernel⟩, by decide +kernel, q119⟩
theorem mt_J19_copyOf : j_Mt yJ19_copyOf 2 := ⟨⟨by decide +kernel, by decide +kernel⟩, by decide +kernel, q120⟩
theorem mt_J19_copyOfRange : j_Mt yJ19_copyOfRange 3 := ⟨⟨by decide +kernel, by decide +kernel⟩, by decide +kernel, q120⟩
theorem mt_J19_copyOfRangeByte : j_Mt yJ19_copyOfRangeByte 3 := ⟨⟨by decide +kernel, by decide +kernel⟩, by decide +kernel, q120⟩
theorem mt_J19_checkLength : j_Mt yJ19_checkLength 2 := ⟨⟨by decide +kernel, by decide +kernel⟩, by decide +kernel, q120⟩
theorem mt_J19_copyOf_2 : j_Mt yJ19_copyOf_2 2 := ⟨⟨by decide +kernel, by decide +kernel⟩, by decide +kernel, q120⟩
theorem mt_J19_copyOf_3 : j_Mt yJ19_copyOf_3 3 := ⟨⟨by decide +kernel, by decide +kernel⟩, by decide +kernel, q120⟩
theorem mt_J19_copyOf_4 : j_Mt yJ19_copyOf_4 2 := ⟨⟨by decide +kernel, by decide +kernel⟩, by decide +kernel, q120⟩
theorem mt_J19_fill : j_Mt yJ19_fill 4 := ⟨⟨by decide +kernel, by decide +kernel⟩, by decide +kernel, q120⟩
theorem mt_J19_rangeCheck : j_Mt yJ19_rangeCheck 3 := ⟨⟨by decide +kernel, by decide +kernel⟩, by decide +kernel, q120⟩
theorem mt_J2_init : j_Mt yJ2_init 1 := ⟨⟨by decide +kernel, by decide +kernel⟩, by decide +kernel, q102⟩
theorem mt_J2_iterator : j_Mt yJ2_iterator 0 := ⟨⟨by decide +kernel, by decide +kernel⟩, by decide +kernel, q102⟩
theorem mt_J2_size : j_Mt yJ2_size 0 := ⟨⟨by decide +kernel, by decide +kernel⟩, by decide +kernel, q102⟩
theorem mt_J2_get : j_Mt yJ2_get 1 := ⟨⟨by decide +kernel, by decide +kernel⟩, by decide +kernel, q102⟩
theorem mt_J2_elementData : j_Mt yJ2_elementData 1 := ⟨⟨by decide +kernel, by decide +kernel⟩, by decide +kernel, q102⟩
theorem mt_J2_add : j_Mt yJ2_add 1 := ⟨⟨by decide +kernel, by decide +kernel⟩, by decide +kernel, q102⟩
theorem mt_J2_add_2 : j_Mt yJ2_add_2 3 := ⟨⟨by decide +kernel, by decide +kernel⟩, by decide +kernel, q102⟩
theorem mt_J2_grow : j_Mt yJ2_grow 0 := ⟨⟨by decide +kernel, by decide +kernel⟩, by decide +kernel, q102⟩
theorem mt_J2_grow_2 : j_Mt yJ2_grow_2 1 := ⟨⟨by decide +kernel, by decide +kernel⟩, by decide +kernel, q102⟩
theorem mt_J2_listIterator : j_Mt yJ2_listIterator 1 := ⟨⟨by decide +kernel, by decide +kernel⟩, by decide +kernel, q102⟩
theorem mt_J2_rangeCheckForAdd : j_Mt yJ2_rangeCheckForAdd 1 := ⟨⟨by decide +kernel, by decide +kernel⟩, by decide +kernel, q102⟩
theorem mt_J2_remove : j_Mt yJ2_remove 1 := ⟨⟨by decide +kernel, by decide +kernel⟩, by decide +kernel, q102⟩
theorem mt_J2_fastRemove : j_Mt yJ2_fastRemove 2 := ⟨⟨by decide +kernel, by decide +kernel⟩, by decide +kernel, q102⟩
theorem mt_J20_inflate : j_Mt yJ20_inflate 5 := ⟨⟨by decide +kernel, by decide +kernel⟩, by decide +kernel, q122⟩
theorem mt_J20_canEncode : j_Mt yJ20_canEncode 1 := ⟨⟨by decide +kernel, by decide +kernel⟩, by decide +kernel, q122⟩
theorem mt_J20_charAt : j_Mt yJ20_charAt 2 := ⟨⟨by decide +kernel, by decide +kernel⟩, by decide +kernel, q122⟩
theorem mt_J20_hashCode : j_Mt yJ20_hashCode 1 := ⟨⟨by decide +kernel, by decide +kernel⟩, by decide +kernel, q122⟩
theorem mt_J20_equals : j_Mt yJ20_equals 2 := ⟨⟨by decide +kernel, by decide +kernel⟩, by decide +kernel, q122⟩
theorem mt_J20_fillNull : j_Mt yJ20_fillNull 3 := ⟨⟨by decide +kernel, by decide +kernel⟩, by decide +kernel, q122⟩
theorem mt_J21_hasNext : j_Mt yJ21_hasNext 0 := ⟨⟨by decide +kernel, by decide +kernel⟩, by decide +kernel, q124⟩
theorem mt_J21_next : j_Mt yJ21_next 0 := ⟨⟨by decide +kernel, by decide +kernel⟩, by decide +kernel, q124⟩
theorem mt_J21_checkForComodification : j_Mt yJ21_checkForComodification 0 := ⟨⟨by decide +kernel, by decide +kernel⟩, by decide +kernel, q124⟩
theorem mt_J21_remove : j_Mt yJ21_remove 0 := ⟨⟨by decide +kernel, by decide +kernel⟩, by decide +kernel, q124⟩
theorem mt_J22_init : j_Mt yJ22_init 2 := ⟨⟨by decide +kernel, by decide +kernel⟩, by decide +kernel, q126⟩
theorem mt_J23_hasNext : j_Mt yJ23_hasNext 0 := ⟨⟨by decide +kernel, by decide +kernel⟩, by decide +kernel, q127⟩
theorem mt_J23_next : j_Mt yJ23_next 0 := ⟨⟨by decide +kernel, by decide +kernel⟩, by decide +kernel, q127⟩
theorem mt_J23_checkForComodification : j_Mt yJ23_checkForComodification 0 := ⟨⟨by decide +kernel, by decide +kernel⟩, by decide +kernel, q127⟩
theorem mt_J23_init : j_Mt yJ23_init 2 := ⟨⟨by decide +kernel, by decide +kernel⟩, by decide +kernel, q127⟩
theorem mt_J23_remove : j_Mt yJ23_remove 0 := ⟨⟨by decide +kernel, by decide +kernel⟩, by decide +kernel, q127⟩
theorem mt_J24_init : j_Mt yJ24_init 0 := ⟨⟨by decide +kernel, by decide +kernel⟩, by decide +kernel, q128⟩
theorem mt_J25_intValue : j_Mt yJ25_intValue 0 := ⟨⟨by decide +kernel, by decide +kernel⟩, by decide +kernel, q129⟩
theorem mt_J25_valueOf : j_Mt yJ25_valueOf 1 := ⟨⟨by decide +kernel, by decide +kernel⟩, by decide +kernel, q129⟩
theorem mt_J25_init : j_Mt yJ25_init 1 := ⟨⟨by decide +kernel, by decide +kernel⟩, by decide +kernel, q129⟩
theorem mt_J25_numberOfTrailingZeros : j_Mt yJ25_numberOfTrailingZeros 1 := ⟨⟨by decide +kernel, by decide +kernel⟩, by decide +kernel, q129⟩
theorem mt_J25_stringSize : j_Mt yJ25_stringSize 1 := ⟨⟨by decide +kernel, by decide +kernel⟩, by decide +kernel, q129⟩
theorem mt_J25_getChars : j_Mt yJ25_getChars 3 := ⟨⟨by decide +kernel, by decide +kernel⟩, by decide +kernel, q129⟩
theorem mt_J26_init : j_Mt yJ26_init 3 := ⟨⟨by decide +kernel, by decide +kernel⟩, by decide +kernel, q131⟩
theorem mt_J27_init : j_Mt yJ27_init 0 := ⟨⟨by decide +kernel, by decide +kernel⟩, by decide +kernel, q133⟩
theorem mt_J28_init : j_Mt yJ28_init 0 := ⟨⟨by decide +kernel, by decide +kernel⟩, by decide +kernel, q134⟩
theorem mt_J29_hasNext : j_Mt yJ29_hasNext 0 := ⟨⟨by decide +kernel, by decide +kernel⟩, by decide +kernel, q136⟩
theorem mt_J29_next : j_Mt yJ29_next 0 := ⟨⟨by decide +kernel, by decide +kernel⟩, by decide +kernel, q136⟩
theorem mt_J29_remove : j_Mt yJ29_remove 0 := ⟨⟨by decide +kernel, by decide +kernel⟩, by decide +kernel, q136⟩
theorem mt_J29_postDelete : j_Mt yJ29_postDelete 1 := ⟨⟨by decide +kernel, by decide +kernel⟩, by decide +kernel, q136⟩
theorem mt_J29_init : j_Mt yJ29_init 1 := ⟨⟨by decide +kernel, by decide +kernel⟩, by decide +kernel, q136⟩
theorem mt_J3_init : j_Mt yJ3_init 0 := ⟨⟨by decide +kernel, by decide +kernel⟩, by decide +kernel, q103⟩
theorem mt_J3_iterator : j_Mt yJ3_iterator 0 := ⟨⟨by decide +kernel, by decide +kernel⟩, by decide +kernel, q103⟩
theorem mt_J30_init : j_Mt yJ30_init 1 := ⟨⟨by decide +kernel, by decide +kernel⟩, by decide +kernel, q139⟩
theorem mt_J30_initWords : j_Mt yJ30_initWords 1 := ⟨⟨by decide +kernel, by decide +kernel⟩, by decide +kernel, q139⟩
theorem mt_J30_wordIndex : j_Mt yJ30_wordIndex 1 := ⟨⟨by decide +kernel, by decide +kernel⟩, by decide +kernel, q139⟩
theorem mt_J30_set : j_Mt yJ30_set 2 := ⟨⟨by decide +kernel, by decide +kernel⟩, by decide +kernel, q139⟩
theorem mt_J30_set_2 : j_Mt yJ30_set_2 1 := ⟨⟨by decide +kernel, by decide +kernel⟩, by decide +kernel, q139⟩
theorem mt_J30_expandTo : j_Mt yJ30_expandTo 1 := ⟨⟨by decide +kernel, by decide +kernel⟩, by decide +kernel, q139⟩
theorem mt_J30_ensureCapacity : j_Mt yJ30_ensureCapacity 1 := ⟨⟨by decide +kernel, by decide +kernel⟩, by decide +kernel, q139⟩
theorem mt_J30_checkInvariants : j_Mt yJ30_checkInvariants 0 := ⟨⟨by decide +kernel, by decide +kernel⟩, by decide +kernel, q139⟩
theorem mt_J30_clear : j_Mt yJ30_clear 1 := ⟨⟨by decide +kernel, by decide +kernel⟩, by decide +kernel, q139⟩
theorem mt_J30_recalculateWordsInUse : j_Mt yJ30_recalculateWordsInUse 0 := ⟨⟨by decide +kernel, by decide +kernel⟩, by decide +kernel, q139⟩
theorem mt_J30_nextSetBit : j_Mt yJ30_nextSetBit 1 := ⟨⟨by decide +kernel, by decide +kernel⟩, by decide +kernel, q139⟩
theorem mt_J30_get : j_Mt yJ30_get 1 := ⟨⟨by decide +kernel, by decide +kernel⟩, by decide +kernel, q139⟩
theorem mt_J30_cardinality : j_Mt yJ30_cardinality 0 := ⟨⟨by decide +kernel, by decide +kernel⟩, by decide +kernel, q139⟩
theorem mt_J31_numberOfTrailingZeros : j_Mt yJ31_numberOfTrailingZeros 1 := ⟨⟨by decide +kernel, by decide +kernel⟩, by decide +kernel, q140⟩
theorem mt_J31_bitCount : j_Mt yJ31_bitCount 1 := ⟨⟨by decide +kernel, by decide +kernel⟩, by decide +kernel, q140⟩
theorem mt_J32_init : j_Mt yJ32_init 0 := ⟨⟨by decide +kernel, by decide +kernel⟩, by decide +kernel, q2607⟩
theorem mt_J4_init : j_Mt yJ4_init 0 := ⟨⟨by decide +kernel, by decide +kernel⟩, by decide +kernel, q104⟩
theorem mt_J4_size : j_Mt yJ4_size 0 := ⟨⟨by decide +kernel, by decide +kernel⟩, by decide +kernel, q104⟩
theorem mt_J4_get : j_Mt yJ4_get 1 := ⟨⟨by decide +kernel, by decide +kernel⟩, by decide +kernel, q104⟩
theorem mt_J4_checkElementIndex : j_Mt yJ4_checkElementIndex 1 := ⟨⟨by decide +kernel, by decide +kernel⟩, by decide +kernel, q104⟩
theorem mt_J4_isElementIndex : j_Mt yJ4_isElementIndex 1 := ⟨⟨by decide +kernel, by decide +kernel⟩, by decide +kernel, q104⟩
theorem mt_J4_node : j_Mt yJ4_node 1 := ⟨⟨by decide +kernel, by decide +kernel⟩, by decide +kernel, q104⟩
theorem mt_J4_listIterator : j_Mt yJ4_listIterator 1 := ⟨⟨by decide +kernel, by decide +kernel⟩, by decide +kernel, q104⟩
theorem mt_J4_checkPositionIndex : j_Mt yJ4_checkPositionIndex 1 := ⟨⟨by decide +kernel, by decide +kernel⟩, by decide +kernel, q104⟩
theorem mt_J4_isPositionIndex : j_Mt yJ4_isPositionIndex 1 := ⟨⟨by decide +kernel, by decide +kernel⟩, by decide +kernel, q104⟩
theorem mt_J4_addLast : j_Mt yJ4_addLast 1 := ⟨⟨by decide +kernel, by decide +kernel⟩, by decide +kernel, q104⟩
theorem mt_J4_linkLast : j_Mt yJ4_linkLast 1 := ⟨⟨by decide +kernel, by decide +kernel⟩, by decide +kernel, q104⟩
theorem mt_J4_remove : j_Mt yJ4_remove 1 := ⟨⟨by decide +kernel, by decide +kernel⟩, by decide +kernel, q104⟩
theorem mt_J4_unlink : j_Mt yJ4_unlink 1 := ⟨⟨by decide +kernel, by decide +kernel⟩, by decide +kernel, q104⟩
theorem mt_J5_init : j_Mt yJ5_init 0 := ⟨⟨by decide +kernel, by decide +kernel⟩, by decide +kernel, q105⟩
theorem mt_J5_nonNullElementAt : j_Mt yJ5_nonNullElementAt 2 := ⟨⟨by decide +kernel, by decide +kernel⟩, by decide +kernel, q105⟩
theorem mt_J5_inc : j_Mt yJ5_inc 2 := ⟨⟨by decide +kernel, by decide +kernel⟩, by decide +kernel, q105⟩
theorem mt_J5_addLast : j_Mt yJ5_addLast 1 := ⟨⟨by decide +kernel, by decide +kernel⟩, by decide +kernel, q105⟩
theorem mt_J5_grow : j_Mt yJ5_grow 1 := ⟨⟨by decide +kernel, by decide +kernel⟩, by decide +kernel, q105⟩
theorem mt_J5_newCapacity : j_Mt yJ5_newCapacity 2 := ⟨⟨by decide +kernel, by decide +kernel⟩, by decide +kernel, q105⟩
theorem mt_J5_size : j_Mt yJ5_size 0 := ⟨⟨by decide +kernel, by decide +kernel⟩, by decide +kernel, q105⟩
theorem mt_J5_sub : j_Mt yJ5_sub 3 := ⟨⟨by decide +kernel, by decide +kernel⟩, by decide +kernel, q105⟩
theorem mt_J5_removeFirst : j_Mt yJ5_removeFirst 0 := ⟨⟨by decide +kernel, by decide +kernel⟩, by decide +kernel, q105⟩
theorem mt_J5_pollFirst : j_Mt yJ5_pollFirst 0 := ⟨⟨by decide +kernel, by decide +kernel⟩, by decide +kernel, q105⟩
theorem mt_J5_elementAt : j_Mt yJ5_elementAt 2 := ⟨⟨by decide +kernel, by decide +kernel⟩, by decide +kernel, q105⟩
theorem mt_J5_delete : j_Mt yJ5_delete 1 := ⟨⟨by decide +kernel, by decide +kernel⟩, by decide +kernel, q105⟩
theorem mt_J5_dec : j_Mt yJ5_dec 2 := ⟨⟨by decide +kernel, by decide +kernel⟩, by decide +kernel, q105⟩
theorem mt_J5_iterator : j_Mt yJ5_iterator 0 := ⟨⟨by decide +kernel, by decide +kernel⟩, by decide +kernel, q105⟩
theorem mt_J5_isEmpty : j_Mt yJ5_isEmpty 0 := ⟨⟨by decide +kernel, by decide +kernel⟩, by decide +kernel, q105⟩
theorem mt_J5_removeLast : j_Mt yJ5_removeLast 0 := ⟨⟨by decide +kernel, by decide +kernel⟩, by decide +kernel, q105⟩
theorem mt_J5_pollLast : j_Mt yJ5_pollLast 0 := ⟨⟨by decide +kernel, by decide +kernel⟩, by decide +kernel, q105⟩
theorem mt_J5_clear : j_Mt yJ5_clear 0 := ⟨⟨by decide +kernel, by decide +kernel⟩, by decide +kernel, q105⟩
theorem mt_J5_circularClear : j_Mt yJ5_circularClear 3 := ⟨⟨by decide +kernel, by decide +kernel⟩, by decide +kernel, q105⟩
theorem mt_J6_init : j_Mt yJ6_init 1 := ⟨⟨by decide +kernel, by decide +kernel⟩, by decide +kernel, q106⟩
theorem mt_J6_append : j_Mt yJ6_append 1 := ⟨⟨by decide +kernel, by decide +kernel⟩, by decide +kernel, q106⟩
theorem mt_J6_appendNull : j_Mt yJ6_appendNull 0 := ⟨⟨by decide +kernel, by decide +kernel⟩, by decide +kernel, q106⟩
theorem mt_J6_ensureCapacityInternal : j_Mt yJ6_ensureCapacityInternal 1 := ⟨⟨by decide +kernel, by decide +kernel⟩, by decide +kernel, q106⟩
theorem mt_J6_newCapacity : j_Mt yJ6_newCapacity 1 := ⟨⟨by decide +kernel, by decide +kernel⟩, by decide +kernel, q106⟩
theorem mt_J6_isLatin1 : j_Mt yJ6_isLatin1 0 := ⟨⟨by decide +kernel, by decide +kernel⟩, by decide +kernel, q106⟩
theorem mt_J6_putStringAt : j_Mt yJ6_putStringAt 2 := ⟨⟨by decide +kernel, by decide +kernel⟩, by decide +kernel, q106⟩
theorem mt_J6_inflateIfNeededFor : j_Mt yJ6_inflateIfNeededFor 1 := ⟨⟨by decide +kernel, by decide +kernel⟩, by decide +kernel, q106⟩
theorem mt_J6_inflate : j_Mt yJ6_inflate 0 := ⟨⟨by decide +kernel, by decide +kernel⟩, by decide +kernel, q106⟩
theorem mt_J6_getValue : j_Mt yJ6_getValue 0 := ⟨⟨by decide +kernel, by decide +kernel⟩, by decide +kernel, q106⟩
theorem mt_J6_length : j_Mt yJ6_length 0 := ⟨⟨by decide +kernel, by decide +kernel⟩, by decide +kernel, q106⟩
theorem mt_J6_append_2 : j_Mt yJ6_append_2 1 := ⟨⟨by decide +kernel, by decide +kernel⟩, by decide +kernel, q106⟩
theorem mt_J6_charAt : j_Mt yJ6_charAt 1 := ⟨⟨by decide +kernel, by decide +kernel⟩, by decide +kernel, q106⟩
theorem mt_J6_setLength : j_Mt yJ6_setLength 1 := ⟨⟨by decide +kernel, by decide +kernel⟩, by decide +kernel, q106⟩
theorem mt_J6_append_3 : j_Mt yJ6_append_3 1 := ⟨⟨by decide +kernel, by decide +kernel⟩, by decide +kernel, q106⟩
theorem mt_J7_init : j_Mt yJ7_init 0 := ⟨⟨by decide +kernel, by decide +kernel⟩, by decide +kernel, q107⟩
theorem mt_J7_append : j_Mt yJ7_append 1 := ⟨⟨by decide +kernel, by decide +kernel⟩, by decide +kernel, q107⟩
theorem mt_J7_toString : j_Mt yJ7_toString 0 := ⟨⟨by decide +kernel, by decide +kernel⟩, by decide +kernel, q107⟩
theorem mt_J7_length : j_Mt yJ7_length 0 := ⟨⟨by decide +kernel, by decide +kernel⟩, by decide +kernel, q107⟩
theorem mt_J7_append_2 : j_Mt yJ7_append_2 1 := ⟨⟨by decide +kernel, by decide +kernel⟩, by decide +kernel, q107⟩
theorem mt_J7_charAt : j_Mt yJ7_charAt 1 := ⟨⟨by decide +kernel, by decide +kernel⟩, by decide +kernel, q107⟩
theorem mt_J7_setLength : j_Mt yJ7_setLength 1 := ⟨⟨by decide +kernel, by decide +kernel⟩, by decide +kernel, q107⟩
theorem mt_J7_append_3 : j_Mt yJ7_append_3 1 := ⟨⟨by decide +kernel, by decide +kernel⟩, by decide +kernel, q107⟩
theorem mt_J8_checkBoundsBeginEnd : j_Mt yJ8_checkBoundsBeginEnd 3 := ⟨⟨by decide +kernel, by decide +kernel⟩, by decide +kernel, q108⟩
theorem mt_J8_length : j_Mt yJ8_length 0 := ⟨⟨by decide +kernel, by decide +kernel⟩, by decide +kernel, q108⟩
theorem mt_J8_coder : j_Mt yJ8_coder 0 := ⟨⟨by decide +kernel, by decide +kernel⟩, by decide +kernel, q108⟩
theorem mt_J8_checkBoundsOffCount : j_Mt yJ8_checkBoundsOffCount 3 := ⟨⟨by decide +kernel, by decide +kernel⟩, by decide +kernel, q108⟩
theorem mt_J8_getBytes : j_Mt yJ8_getBytes 3 := ⟨⟨by decide +kernel, by decide +kernel⟩, by decide +kernel, q108⟩
theorem mt_J8_init : j_Mt yJ8_init 1 := ⟨⟨by decide +kernel, by decide +kernel⟩, by decide +kernel, q108⟩
theorem mt_J8_init_2 : j_Mt yJ8_init_2 2 := ⟨⟨by decide +kernel, by decide +kernel⟩, by decide +kernel, q108⟩
theorem mt_J8_checkIndex : j_Mt yJ8_checkIndex 2 := ⟨⟨by decide +kernel, by decide +kernel⟩, by decide +kernel, q108⟩
theorem mt_J8_charAt : j_Mt yJ8_charAt 1 := ⟨⟨by decide +kernel, by decide +kernel⟩, by decide +kernel, q108⟩
theorem mt_J8_isLatin1 : j_Mt yJ8_isLatin1 0 := ⟨⟨by decide +kernel, by decide +kernel⟩, by decide +kernel, q108⟩
theorem mt_J8_hashCode : j_Mt yJ8_hashCode 0 := ⟨⟨by decide +kernel, by decide +kernel⟩, by decide +kernel, q108⟩
theorem mt_J8_equals : j_Mt yJ8_equals 1 := ⟨⟨by decide +kernel, by decide +kernel⟩, by decide +kernel, q108⟩
theorem mt_J9_newBytesFor : j_Mt yJ9_newBytesFor 1 := ⟨⟨by decide +kernel, by decide +kernel⟩, by decide +kernel, q109⟩
theorem mt_J9_newBytesLength : j_Mt yJ9_newBytesLength 1 := ⟨⟨by decide +kernel, by decide +kernel⟩, by decide +kernel, q109⟩
theorem mt_J9_putCharsAt : j_Mt yJ9_putCharsAt 6 := ⟨⟨by decide +kernel, by decide +kernel⟩, by decide +kernel, q109⟩
theorem mt_J9_checkBoundsBeginEnd : j_Mt yJ9_checkBoundsBeginEnd 3 := ⟨⟨by decide +kernel, by decide +kernel⟩, by decide +kernel, q109⟩
theorem mt_J9_length : j_Mt yJ9_length 1 := ⟨⟨by decide +kernel, by decide +kernel⟩, by decide +kernel, q109⟩
theorem mt_J9_putChar : j_Mt yJ9_putChar 3 := ⟨⟨by decide +kernel, by decide +kernel⟩, by decide +kernel, q109⟩
theorem mt_J9_inflate : j_Mt yJ9_inflate 5 := ⟨⟨by decide +kernel, by decide +kernel⟩, by decide +kernel, q109⟩
theorem mt_J9_checkBoundsOffCount : j_Mt yJ9_checkBoundsOffCount 3 := ⟨⟨by decide +kernel, by decide +kernel⟩, by decide +kernel, q109⟩
theorem mt_J9_compress : j_Mt yJ9_compress 3 := ⟨⟨by decide +kernel, by decide +kernel⟩, by decide +kernel, q109⟩
theorem mt_J9_compress_2 : j_Mt yJ9_compress_2 5 := ⟨⟨by decide +kernel, by decide +kernel⟩, by decide +kernel, q109⟩
theorem mt_J9_getChar : j_Mt yJ9_getChar 2 := ⟨⟨by decide +kernel, by decide +kernel⟩, by decide +kernel, q109⟩
theorem mt_J9_coderFromArrayLen : j_Mt yJ9_coderFromArrayLen 2 := ⟨⟨by decide +kernel, by decide +kernel⟩, by decide +kernel, q109⟩
theorem mt_J9_putCharSB : j_Mt yJ9_putCharSB 3 := ⟨⟨by decide +kernel, by decide +kernel⟩, by decide +kernel, q109⟩
theorem mt_J9_checkIndex : j_Mt yJ9_checkIndex 2 := ⟨⟨by decide +kernel, by decide +kernel⟩, by decide +kernel, q109⟩
theorem mt_J9_charAt : j_Mt yJ9_charAt 2 := ⟨⟨by decide +kernel, by decide +kernel⟩, by decide +kernel, q109⟩
theorem mt_J9_hashCode : j_Mt yJ9_hashCode 1 := ⟨⟨by decide +kernel, by decide +kernel⟩, by decide +kernel, q109⟩
theorem mt_J9_fillNull : j_Mt yJ9_fillNull 3 := ⟨⟨by decide +kernel, by decide +kernel⟩, by decide +kernel, q109⟩
theorem mt_J9_getChars : j_Mt yJ9_getChars 4 := ⟨⟨by decide +kernel, by decide +kernel⟩, by decide +kernel, q109⟩
theorem mt_J9_getChars_2 : j_Mt yJ9_getChars_2 3 := ⟨⟨by decide +kernel, by decide +kernel⟩, by decide +kernel, q109⟩
theorem mt_X0_init : j_Mt yX0_init 0 := ⟨⟨by decide +kernel, by decide +kernel⟩, by decide +kernel, q98⟩
theorem mt_X0_lambda_new_0 : j_Mt yX0_lambda_new_0 3 := ⟨⟨by decide +kernel, by decide +kernel⟩, by decide +kernel, q98⟩
theorem mt_X0_lambda_new_1 : j_Mt yX0_lambda_new_1 3 := ⟨⟨by decide +kernel, by decide +kernel⟩, by decide +kernel, q98⟩
theorem mt_X0_come : j_Mt yX0_come 2 := ⟨⟨by decide +kernel, by decide +kernel⟩, by decide +kernel, q98⟩
theorem mt_X0_isIn : j_Mt yX0_isIn 3 := ⟨⟨by decide +kernel, by decide +kernel⟩, by decide +kernel, q98⟩
theorem mt_X0_refuse : j_Mt yX0_refuse 3 := ⟨⟨by decide +kernel, by decide +kernel⟩, by decide +kernel, q98⟩
theorem mt_X0_changed : j_Mt yX0_changed 2 := ⟨⟨by decide +kernel, by decide +kernel⟩, by decide +kernel, q98⟩
theorem mt_X0_refused : j_Mt yX0_refused 1 := ⟨⟨by decide +kernel, by decide +kernel⟩, by decide +kernel, q98⟩
theorem mt_X0_withdraw : j_Mt yX0_withdraw 1 := ⟨⟨by decide +kernel, by decide +kernel⟩, by decide +kernel, q98⟩
theorem mt_X0_voice : j_Mt yX0_voice 2 := ⟨⟨by decide +kernel, by decide +kernel⟩, by decide +kernel, q98⟩
theorem mt_X0_choose : j_Mt yX0_choose 1 := ⟨⟨by decide +kernel, by decide +kernel⟩, by decide +kernel, q98⟩
theorem mt_X0_isCell : j_Mt yX0_isCell 1 := ⟨⟨by decide +kernel, by decide +kernel⟩, by decide +kernel, q98⟩
theorem mt_X0_placed : j_Mt yX0_placed 4 := ⟨⟨by decide +kernel, by decide +kernel⟩, by decide +kernel, q98⟩
theorem mt_X0_leave : j_Mt yX0_leave 1 := ⟨⟨by decide +kernel, by decide +kernel⟩, by decide +kernel, q98⟩
theorem mt_X0_feast : j_Mt yX0_feast 2 := ⟨⟨by decide +kernel, by decide +kernel⟩, by decide +kernel, q98⟩
theorem mt_X0_isFeast : j_Mt yX0_isFeast 2 := ⟨⟨by decide +kernel, by decide +kernel⟩, by decide +kernel, q98⟩
theorem mt_X0_breach : j_Mt yX0_breach 2 := ⟨⟨by decide +kernel, by decide +kernel⟩, by decide +kernel, q98⟩
theorem mt_X0_isRule : j_Mt yX0_isRule 1 := ⟨⟨by decide +kernel, by decide +kernel⟩, by decide +kernel, q98⟩
theorem mt_X0_pardon : j_Mt yX0_pardon 1 := ⟨⟨by decide +kernel, by decide +kernel⟩, by decide +kernel, q98⟩
theorem mt_X0_gift : j_Mt yX0_gift 1 := ⟨⟨by decide +kernel, by decide +kernel⟩, by decide +kernel, q98⟩
theorem mt_X0_isGift : j_Mt yX0_isGift 1 := ⟨⟨by decide +kernel, by decide +kernel⟩, by decide +kernel, q98⟩
theorem mt_X0_weeks : j_Mt yX0_weeks 1 := ⟨⟨by decide +kernel, by decide +kernel⟩, by decide +kernel, q98⟩
theorem mt_X0_areWeeks : j_Mt yX0_areWeeks 1 := ⟨⟨by decide +kernel, by decide +kernel⟩, by decide +kernel, q98⟩
theorem mt_X0_brotherOf : j_Mt yX0_brotherOf 2 := ⟨⟨by decide +kernel, by decide +kernel⟩, by decide +kernel, q98⟩
theorem mt_X0_broke : j_Mt yX0_broke 2 := ⟨⟨by decide +kernel, by decide +kernel⟩, by decide +kernel, q98⟩
theorem mt_X0_inCell : j_Mt yX0_inCell 1 := ⟨⟨by decide +kernel, by decide +kernel⟩, by decide +kernel, q98⟩
theorem mt_X0_entitled : j_Mt yX0_entitled 0 := ⟨⟨by decide +kernel, by decide +kernel⟩, by decide +kernel, q98⟩
theorem mt_X0_bits : j_Mt yX0_bits 1 := ⟨⟨by decide +kernel, by decide +kernel⟩, by decide +kernel, q98⟩
theorem mt_X0_entitledAgain : j_Mt yX0_entitledAgain 0 := ⟨⟨by decide +kernel, by decide +kernel⟩, by decide +kernel, q98⟩
theorem mt_X0_voices : j_Mt yX0_voices 1 := ⟨⟨by decide +kernel, by decide +kernel⟩, by decide +kernel, q98⟩
theorem mt_X0_voicesAgain : j_Mt yX0_voicesAgain 1 := ⟨⟨by decide +kernel, by decide +kernel⟩, by decide +kernel, q98⟩
theorem mt_X0_ranked : j_Mt yX0_ranked 1 := ⟨⟨by decide +kernel, by decide +kernel⟩, by decide +kernel, q98⟩
theorem mt_X0_senior : j_Mt yX0_senior 1 := ⟨⟨by decide +kernel, by decide +kernel⟩, by decide +kernel, q98⟩
theorem mt_X0_shabby : j_Mt yX0_shabby 1 := ⟨⟨by decide +kernel, by decide +kernel⟩, by decide +kernel, q98⟩
theorem mt_X0_nextFeast : j_Mt yX0_nextFeast 0 := ⟨⟨by decide +kernel, by decide +kernel⟩, by decide +kernel, q98⟩
theorem mt_X0_wouldGet : j_Mt yX0_wouldGet 2 := ⟨⟨by decide +kernel, by decide +kernel⟩, by decide +kernel, q98⟩
theorem mt_X0_behind : j_Mt yX0_behind 1 := ⟨⟨by decide +kernel, by decide +kernel⟩, by decide +kernel, q98⟩
theorem mt_X0_chestIn : j_Mt yX0_chestIn 1 := ⟨⟨by decide +kernel, by decide +kernel⟩, by decide +kernel, q98⟩
theorem mt_X0_append : j_Mt yX0_append 1 := ⟨⟨by decide +kernel, by decide +kernel⟩, by decide +kernel, q98⟩
theorem mt_X0_run : j_Mt yX0_run 0 := ⟨⟨by decide +kernel, by decide +kernel⟩, by decide +kernel, q98⟩
theorem mt_X0_tell : j_Mt yX0_tell 0 := ⟨⟨by decide +kernel, by decide +kernel⟩, by decide +kernel, q98⟩
theorem mt_X0_tellWaiting : j_Mt yX0_tellWaiting 0 := ⟨⟨by decide +kernel, by decide +kernel⟩, by decide +kernel, q98⟩
theorem mt_X0_character : j_Mt yX0_character 1 := ⟨⟨by decide +kernel, by decide +kernel⟩, by decide +kernel, q98⟩
theorem mt_X0_reason : j_Mt yX0_reason 1 := ⟨⟨by decide +kernel, by decide +kernel⟩, by decide +kernel, q98⟩
theorem mt_X0_account : j_Mt yX0_account 1 := ⟨⟨by decide +kernel, by decide +kernel⟩, by decide +kernel, q98⟩
theorem mt_X0_isBalanced : j_Mt yX0_isBalanced 0 := ⟨⟨by decide +kernel, by decide +kernel⟩, by decide +kernel, q98⟩
theorem mt_X0_meanAge : j_Mt yX0_meanAge 0 := ⟨⟨by decide +kernel, by decide +kernel⟩, by decide +kernel, q98⟩
theorem mt_X0_entitledShare : j_Mt yX0_entitledShare 0 := ⟨⟨by decide +kernel, by decide +kernel⟩, by decide +kernel, q98⟩
theorem mt_X0_undo : j_Mt yX0_undo 0 := ⟨⟨by decide +kernel, by decide +kernel⟩, by decide +kernel, q98⟩
theorem mt_X0_save : j_Mt yX0_save 0 := ⟨⟨by decide +kernel, by decide +kernel⟩, by decide +kernel, q98⟩
theorem mt_X0_restore : j_Mt yX0_restore 0 := ⟨⟨by decide +kernel, by decide +kernel⟩, by decide +kernel, q98⟩
theorem mt_X1_init : j_Mt yX1_init 0 := ⟨⟨by decide +kernel, by decide +kernel⟩, by decide +kernel, q99⟩
theorem mt_X1_copy : j_Mt yX1_copy 0 := ⟨⟨by decide +kernel, by decide +kernel⟩, by decide +kernel, q99⟩
theorem mt_X1_takesNumbers : j_Mt yX1_takesNumbers 1 := ⟨⟨by decide +kernel, by decide +kernel⟩, by decide +kernel, q99⟩
theorem mt_X1_comes : j_Mt yX1_comes 2 := ⟨⟨by decide +kernel, by decide +kernel⟩, by decide +kernel, q99⟩
theorem mt_X1_has : j_Mt yX1_has 1 := ⟨⟨by decide +kernel, by decide +kernel⟩, by decide +kernel, q99⟩
theorem mt_X1_withdraws : j_Mt yX1_withdraws 1 := ⟨⟨by decide +kernel, by decide +kernel⟩, by decide +kernel, q99⟩
theorem mt_X1_takesFrom : j_Mt yX1_takesFrom 2 := ⟨⟨by decide +kernel, by decide +kernel⟩, by decide +kernel, q99⟩
theorem mt_X1_noVoices : j_Mt yX1_noVoices 1 := ⟨⟨by decide +kernel, by decide +kernel⟩, by decide +kernel, q99⟩
theorem mt_X1_gives : j_Mt yX1_gives 2 := ⟨⟨by decide +kernel, by decide +kernel⟩, by decide +kernel, q99⟩
theorem mt_X1_voices : j_Mt yX1_voices 1 := ⟨⟨by decide +kernel, by decide +kernel⟩, by decide +kernel, q99⟩
theorem mt_X1_chooses : j_Mt yX1_chooses 2 := ⟨⟨by decide +kernel, by decide +kernel⟩, by decide +kernel, q99⟩
theorem mt_X1_ranked : j_Mt yX1_ranked 2 := ⟨⟨by decide +kernel, by decide +kernel⟩, by decide +kernel, q99⟩
theorem mt_X1_allVoices : j_Mt yX1_allVoices 0 := ⟨⟨by decide +kernel, by decide +kernel⟩, by decide +kernel, q99⟩
theorem mt_X1_leaves : j_Mt yX1_leaves 1 := ⟨⟨by decide +kernel, by decide +kernel⟩, by decide +kernel, q99⟩
theorem mt_X1_goes : j_Mt yX1_goes 2 := ⟨⟨by decide +kernel, by decide +kernel⟩, by decide +kernel, q99⟩
theorem mt_X1_tellsFeast : j_Mt yX1_tellsFeast 2 := ⟨⟨by decide +kernel, by decide +kernel⟩, by decide +kernel, q99⟩
theorem mt_X1_feasts : j_Mt yX1_feasts 0 := ⟨⟨by decide +kernel, by decide +kernel⟩, by decide +kernel, q99⟩
theorem mt_X1_breaks : j_Mt yX1_breaks 2 := ⟨⟨by decide +kernel, by decide +kernel⟩, by decide +kernel, q99⟩
theorem mt_X1_pardoned : j_Mt yX1_pardoned 1 := ⟨⟨by decide +kernel, by decide +kernel⟩, by decide +kernel, q99⟩
theorem mt_X1_isGiven : j_Mt yX1_isGiven 1 := ⟨⟨by decide +kernel, by decide +kernel⟩, by decide +kernel, q99⟩
theorem mt_X1_comesIn : j_Mt yX1_comesIn 1 := ⟨⟨by decide +kernel, by decide +kernel⟩, by decide +kernel, q99⟩
theorem mt_X1_weeksGo : j_Mt yX1_weeksGo 2 := ⟨⟨by decide +kernel, by decide +kernel⟩, by decide +kernel, q99⟩
theorem mt_X1_weekGoes : j_Mt yX1_weekGoes 1 := ⟨⟨by decide +kernel, by decide +kernel⟩, by decide +kernel, q99⟩
theorem mt_X1_feastIsHeld : j_Mt yX1_feastIsHeld 0 := ⟨⟨by decide +kernel, by decide +kernel⟩, by decide +kernel, q99⟩
theorem mt_X1_entitledMany : j_Mt yX1_entitledMany 0 := ⟨⟨by decide +kernel, by decide +kernel⟩, by decide +kernel, q99⟩
theorem mt_X1_inCells : j_Mt yX1_inCells 0 := ⟨⟨by decide +kernel, by decide +kernel⟩, by decide +kernel, q99⟩
theorem mt_X1_yearBegins : j_Mt yX1_yearBegins 1 := ⟨⟨by decide +kernel, by decide +kernel⟩, by decide +kernel, q99⟩
theorem mt_X1_newGowns : j_Mt yX1_newGowns 1 := ⟨⟨by decide +kernel, by decide +kernel⟩, by decide +kernel, q99⟩
theorem mt_X1_shabby : j_Mt yX1_shabby 2 := ⟨⟨by decide +kernel, by decide +kernel⟩, by decide +kernel, q99⟩
theorem mt_X1_gownsBy : j_Mt yX1_gownsBy 0 := ⟨⟨by decide +kernel, by decide +kernel⟩, by decide +kernel, q99⟩
theorem mt_X1_value : j_Mt yX1_value 2 := ⟨⟨by decide +kernel, by decide +kernel⟩, by decide +kernel, q99⟩
theorem mt_X1_place : j_Mt yX1_place 1 := ⟨⟨by decide +kernel, by decide +kernel⟩, by decide +kernel, q99⟩
theorem mt_X1_entitled : j_Mt yX1_entitled 0 := ⟨⟨by decide +kernel, by decide +kernel⟩, by decide +kernel, q99⟩
theorem mt_X1_entitledAgain : j_Mt yX1_entitledAgain 0 := ⟨⟨by decide +kernel, by decide +kernel⟩, by decide +kernel, q99⟩
theorem mt_X1_nextFeast : j_Mt yX1_nextFeast 0 := ⟨⟨by decide +kernel, by decide +kernel⟩, by decide +kernel, q99⟩
theorem mt_X1_cellsTold : j_Mt yX1_cellsTold 0 := ⟨⟨by decide +kernel, by decide +kernel⟩, by decide +kernel, q99⟩
theorem mt_X1_lineTold : j_Mt yX1_lineTold 0 := ⟨⟨by decide +kernel, by decide +kernel⟩, by decide +kernel, q99⟩
theorem mt_X1_so : j_Mt yX1_so 1 := ⟨⟨by decide +kernel, by decide +kernel⟩, by decide +kernel, q99⟩
theorem mt_X1_underBan : j_Mt yX1_underBan 0 := ⟨⟨by decide +kernel, by decide +kernel⟩, by decide +kernel, q99⟩
theorem mt_X1_isBalanced : j_Mt yX1_isBalanced 0 := ⟨⟨by decide +kernel, by decide +kernel⟩, by decide +kernel, q99⟩
theorem mt_X1_ages : j_Mt yX1_ages 0 := ⟨⟨by decide +kernel, by decide +kernel⟩, by decide +kernel, q99⟩
theorem mt_X10_init : j_Mt yX10_init 1 := ⟨⟨by decide +kernel, by decide +kernel⟩, by decide +kernel, q143⟩
theorem mt_X2_init : j_Mt yX2_init 0 := ⟨⟨by decide +kernel, by decide +kernel⟩, by decide +kernel, q110⟩
theorem mt_X2_reason : j_Mt yX2_reason 1 := ⟨⟨by decide +kernel, by decide +kernel⟩, by decide +kernel, q110⟩
theorem mt_X2_come : j_Mt yX2_come 2 := ⟨⟨by decide +kernel, by decide +kernel⟩, by decide +kernel, q110⟩
theorem mt_X2_isBetween : j_Mt yX2_isBetween 3 := ⟨⟨by decide +kernel, by decide +kernel⟩, by decide +kernel, q110⟩
theorem mt_X2_isNot : j_Mt yX2_isNot 2 := ⟨⟨by decide +kernel, by decide +kernel⟩, by decide +kernel, q110⟩
theorem mt_X2_refuses : j_Mt yX2_refuses 1 := ⟨⟨by decide +kernel, by decide +kernel⟩, by decide +kernel, q110⟩
theorem mt_X2_remembers : j_Mt yX2_remembers 0 := ⟨⟨by decide +kernel, by decide +kernel⟩, by decide +kernel, q110⟩
theorem mt_X2_thinks : j_Mt yX2_thinks 0 := ⟨⟨by decide +kernel, by decide +kernel⟩, by decide +kernel, q110⟩
theorem mt_X2_keepsMind : j_Mt yX2_keepsMind 0 := ⟨⟨by decide +kernel, by decide +kernel⟩, by decide +kernel, q110⟩
theorem mt_X2_sets : j_Mt yX2_sets 3 := ⟨⟨by decide +kernel, by decide +kernel⟩, by decide +kernel, q110⟩
theorem mt_X2_stamps : j_Mt yX2_stamps 1 := ⟨⟨by decide +kernel, by decide +kernel⟩, by decide +kernel, q110⟩
theorem mt_X2_withdraw : j_Mt yX2_withdraw 1 := ⟨⟨by decide +kernel, by decide +kernel⟩, by decide +kernel, q110⟩
theorem mt_X2_isBrother : j_Mt yX2_isBrother 1 := ⟨⟨by decide +kernel, by decide +kernel⟩, by decide +kernel, q110⟩
theorem mt_X2_isSo : j_Mt yX2_isSo 2 := ⟨⟨by decide +kernel, by decide +kernel⟩, by decide +kernel, q110⟩
theorem mt_X2_of : j_Mt yX2_of 2 := ⟨⟨by decide +kernel, by decide +kernel⟩, by decide +kernel, q110⟩
theorem mt_X2_becomes : j_Mt yX2_becomes 2 := ⟨⟨by decide +kernel, by decide +kernel⟩, by decide +kernel, q110⟩
theorem mt_X2_voicesGo : j_Mt yX2_voicesGo 1 := ⟨⟨by decide +kernel, by decide +kernel⟩, by decide +kernel, q110⟩
theorem mt_X2_brethrenThat : j_Mt yX2_brethrenThat 1 := ⟨⟨by decide +kernel, by decide +kernel⟩, by decide +kernel, q110⟩
theorem mt_X2_voice : j_Mt yX2_voice 2 := ⟨⟨by decide +kernel, by decide +kernel⟩, by decide +kernel, q110⟩
theorem mt_X2_notVoice : j_Mt yX2_notVoice 2 := ⟨⟨by decide +kernel, by decide +kernel⟩, by decide +kernel, q110⟩
theorem mt_X2_gives : j_Mt yX2_gives 2 := ⟨⟨by decide +kernel, by decide +kernel⟩, by decide +kernel, q110⟩
theorem mt_X2_voicesFor : j_Mt yX2_voicesFor 1 := ⟨⟨by decide +kernel, by decide +kernel⟩, by decide +kernel, q110⟩
theorem mt_X2_countsFor : j_Mt yX2_countsFor 1 := ⟨⟨by decide +kernel, by decide +kernel⟩, by decide +kernel, q110⟩
theorem mt_X2_choose : j_Mt yX2_choose 1 := ⟨⟨by decide +kernel, by decide +kernel⟩, by decide +kernel, q110⟩
theorem mt_X2_notChoose : j_Mt yX2_notChoose 1 := ⟨⟨by decide +kernel, by decide +kernel⟩, by decide +kernel, q110⟩
theorem mt_X2_isCell : j_Mt yX2_isCell 1 := ⟨⟨by decide +kernel, by decide +kernel⟩, by decide +kernel, q110⟩
theorem mt_X2_brotherIn : j_Mt yX2_brotherIn 1 := ⟨⟨by decide +kernel, by decide +kernel⟩, by decide +kernel, q110⟩
theorem mt_X2_chooses : j_Mt yX2_chooses 1 := ⟨⟨by decide +kernel, by decide +kernel⟩, by decide +kernel, q110⟩
theorem mt_X2_rankedAt : j_Mt yX2_rankedAt 1 := ⟨⟨by decide +kernel, by decide +kernel⟩, by decide +kernel, q110⟩
theorem mt_X2_isChosenAhead : j_Mt yX2_isChosenAhead 2 := ⟨⟨by decide +kernel, by decide +kernel⟩, by decide +kernel, q110⟩
theorem mt_X2_leave : j_Mt yX2_leave 1 := ⟨⟨by decide +kernel, by decide +kernel⟩, by decide +kernel, q110⟩
theorem mt_X2_notLeave : j_Mt yX2_notLeave 1 := ⟨⟨by decide +kernel, by decide +kernel⟩, by decide +kernel, q110⟩
theorem mt_X2_leaves : j_Mt yX2_leaves 1 := ⟨⟨by decide +kernel, by decide +kernel⟩, by decide +kernel, q110⟩
theorem mt_X2_feast : j_Mt yX2_feast 2 := ⟨⟨by decide +kernel, by decide +kernel⟩, by decide +kernel, q110⟩
theorem mt_X2_notFeast : j_Mt yX2_notFeast 2 := ⟨⟨by decide +kernel, by decide +kernel⟩, by decide +kernel, q110⟩
theorem mt_X2_tells : j_Mt yX2_tells 2 := ⟨⟨by decide +kernel, by decide +kernel⟩, by decide +kernel, q110⟩
theorem mt_X2_breach : j_Mt yX2_breach 2 := ⟨⟨by decide +kernel, by decide +kernel⟩, by decide +kernel, q110⟩
theorem mt_X2_notBreach : j_Mt yX2_notBreach 2 := ⟨⟨by decide +kernel, by decide +kernel⟩, by decide +kernel, q110⟩
theorem mt_X2_breaks : j_Mt yX2_breaks 2 := ⟨⟨by decide +kernel, by decide +kernel⟩, by decide +kernel, q110⟩
theorem mt_X2_pardon : j_Mt yX2_pardon 1 := ⟨⟨by decide +kernel, by decide +kernel⟩, by decide +kernel, q110⟩
theorem mt_X2_notPardon : j_Mt yX2_notPardon 1 := ⟨⟨by decide +kernel, by decide +kernel⟩, by decide +kernel, q110⟩
theorem mt_X2_pardons : j_Mt yX2_pardons 1 := ⟨⟨by decide +kernel, by decide +kernel⟩, by decide +kernel, q110⟩
theorem mt_X2_gift : j_Mt yX2_gift 1 := ⟨⟨by decide +kernel, by decide +kernel⟩, by decide +kernel, q110⟩
theorem mt_X2_puts : j_Mt yX2_puts 1 := ⟨⟨by decide +kernel, by decide +kernel⟩, by decide +kernel, q110⟩
theorem mt_X2_comesIn : j_Mt yX2_comesIn 1 := ⟨⟨by decide +kernel, by decide +kernel⟩, by decide +kernel, q110⟩
theorem mt_X2_lesser : j_Mt yX2_lesser 2 := ⟨⟨by decide +kernel, by decide +kernel⟩, by decide +kernel, q110⟩
theorem mt_X2_weeks : j_Mt yX2_weeks 1 := ⟨⟨by decide +kernel, by decide +kernel⟩, by decide +kernel, q110⟩
theorem mt_X2_weeksGo : j_Mt yX2_weeksGo 1 := ⟨⟨by decide +kernel, by decide +kernel⟩, by decide +kernel, q110⟩
theorem mt_X2_weekGoes : j_Mt yX2_weekGoes 0 := ⟨⟨by decide +kernel, by decide +kernel⟩, by decide +kernel, q110⟩
theorem mt_X2_feastComes : j_Mt yX2_feastComes 0 := ⟨⟨by decide +kernel, by decide +kernel⟩, by decide +kernel, q110⟩
theorem mt_X2_entitledMany : j_Mt yX2_entitledMany 0 := ⟨⟨by decide +kernel, by decide +kernel⟩, by decide +kernel, q110⟩
theorem mt_X2_isEntitled : j_Mt yX2_isEntitled 1 := ⟨⟨by decide +kernel, by decide +kernel⟩, by decide +kernel, q110⟩
theorem mt_X2_yearBegins : j_Mt yX2_yearBegins 0 := ⟨⟨by decide +kernel, by decide +kernel⟩, by decide +kernel, q110⟩
theorem mt_X2_shabbyAt : j_Mt yX2_shabbyAt 1 := ⟨⟨by decide +kernel, by decide +kernel⟩, by decide +kernel, q110⟩
theorem mt_X2_isShabbier : j_Mt yX2_isShabbier 2 := ⟨⟨by decide +kernel, by decide +kernel⟩, by decide +kernel, q110⟩
theorem mt_X2_isSeniorTo : j_Mt yX2_isSeniorTo 2 := ⟨⟨by decide +kernel, by decide +kernel⟩, by decide +kernel, q110⟩
theorem mt_X2_wouldGet : j_Mt yX2_wouldGet 2 := ⟨⟨by decide +kernel, by decide +kernel⟩, by decide +kernel, q110⟩
theorem mt_X2_forgets : j_Mt yX2_forgets 0 := ⟨⟨by decide +kernel, by decide +kernel⟩, by decide +kernel, q110⟩
theorem mt_X2_chestIn : j_Mt yX2_chestIn 1 := ⟨⟨by decide +kernel, by decide +kernel⟩, by decide +kernel, q110⟩
theorem mt_X2_brotherOf : j_Mt yX2_brotherOf 2 := ⟨⟨by decide +kernel, by decide +kernel⟩, by decide +kernel, q110⟩
theorem mt_X2_brokeAll : j_Mt yX2_brokeAll 1 := ⟨⟨by decide +kernel, by decide +kernel⟩, by decide +kernel, q110⟩
theorem mt_X2_placeInLine : j_Mt yX2_placeInLine 1 := ⟨⟨by decide +kernel, by decide +kernel⟩, by decide +kernel, q110⟩
theorem mt_X2_broke : j_Mt yX2_broke 2 := ⟨⟨by decide +kernel, by decide +kernel⟩, by decide +kernel, q110⟩
theorem mt_X2_inCell : j_Mt yX2_inCell 1 := ⟨⟨by decide +kernel, by decide +kernel⟩, by decide +kernel, q110⟩
theorem mt_X2_entitled : j_Mt yX2_entitled 0 := ⟨⟨by decide +kernel, by decide +kernel⟩, by decide +kernel, q110⟩
theorem mt_X2_entitledAgain : j_Mt yX2_entitledAgain 0 := ⟨⟨by decide +kernel, by decide +kernel⟩, by decide +kernel, q110⟩
theorem mt_X2_voices : j_Mt yX2_voices 1 := ⟨⟨by decide +kernel, by decide +kernel⟩, by decide +kernel, q110⟩
theorem mt_X2_voicesAgain : j_Mt yX2_voicesAgain 1 := ⟨⟨by decide +kernel, by decide +kernel⟩, by decide +kernel, q110⟩
theorem mt_X2_ranked : j_Mt yX2_ranked 1 := ⟨⟨by decide +kernel, by decide +kernel⟩, by decide +kernel, q110⟩
theorem mt_X2_senior : j_Mt yX2_senior 1 := ⟨⟨by decide +kernel, by decide +kernel⟩, by decide +kernel, q110⟩
theorem mt_X2_shabby : j_Mt yX2_shabby 1 := ⟨⟨by decide +kernel, by decide +kernel⟩, by decide +kernel, q110⟩
theorem mt_X2_nextFeast : j_Mt yX2_nextFeast 0 := ⟨⟨by decide +kernel, by decide +kernel⟩, by decide +kernel, q110⟩
theorem mt_X2_append : j_Mt yX2_append 1 := ⟨⟨by decide +kernel, by decide +kernel⟩, by decide +kernel, q110⟩
theorem mt_X2_run : j_Mt yX2_run 0 := ⟨⟨by decide +kernel, by decide +kernel⟩, by decide +kernel, q110⟩
theorem mt_X2_readsAll : j_Mt yX2_readsAll 0 := ⟨⟨by decide +kernel, by decide +kernel⟩, by decide +kernel, q110⟩
theorem mt_X2_readsOrder : j_Mt yX2_readsOrder 0 := ⟨⟨by decide +kernel, by decide +kernel⟩, by decide +kernel, q110⟩
theorem mt_X2_reads : j_Mt yX2_reads 1 := ⟨⟨by decide +kernel, by decide +kernel⟩, by decide +kernel, q110⟩
theorem mt_X2_sign : j_Mt yX2_sign 0 := ⟨⟨by decide +kernel, by decide +kernel⟩, by decide +kernel, q110⟩
theorem mt_X2_readsTwo : j_Mt yX2_readsTwo 3 := ⟨⟨by decide +kernel, by decide +kernel⟩, by decide +kernel, q110⟩
theorem mt_X2_readsNumber : j_Mt yX2_readsNumber 2 := ⟨⟨by decide +kernel, by decide +kernel⟩, by decide +kernel, q110⟩
theorem mt_X2_doesAll : j_Mt yX2_doesAll 0 := ⟨⟨by decide +kernel, by decide +kernel⟩, by decide +kernel, q110⟩
theorem mt_X2_notNow : j_Mt yX2_notNow 0 := ⟨⟨by decide +kernel, by decide +kernel⟩, by decide +kernel, q110⟩
theorem mt_X2_doesNow : j_Mt yX2_doesNow 0 := ⟨⟨by decide +kernel, by decide +kernel⟩, by decide +kernel, q110⟩
theorem mt_X2_tell : j_Mt yX2_tell 0 := ⟨⟨by decide +kernel, by decide +kernel⟩, by decide +kernel, q110⟩
theorem mt_X2_writes : j_Mt yX2_writes 1 := ⟨⟨by decide +kernel, by decide +kernel⟩, by decide +kernel, q110⟩
theorem mt_X2_writesCell : j_Mt yX2_writesCell 1 := ⟨⟨by decide +kernel, by decide +kernel⟩, by decide +kernel, q110⟩
theorem mt_X2_writesNumber : j_Mt yX2_writesNumber 1 := ⟨⟨by decide +kernel, by decide +kernel⟩, by decide +kernel, q110⟩
theorem mt_X2_tellWaiting : j_Mt yX2_tellWaiting 0 := ⟨⟨by decide +kernel, by decide +kernel⟩, by decide +kernel, q110⟩
theorem mt_X2_inLine : j_Mt yX2_inLine 1 := ⟨⟨by decide +kernel, by decide +kernel⟩, by decide +kernel, q110⟩
theorem mt_X2_character : j_Mt yX2_character 1 := ⟨⟨by decide +kernel, by decide +kernel⟩, by decide +kernel, q110⟩
theorem mt_X2_account : j_Mt yX2_account 1 := ⟨⟨by decide +kernel, by decide +kernel⟩, by decide +kernel, q110⟩
theorem mt_X2_banned : j_Mt yX2_banned 0 := ⟨⟨by decide +kernel, by decide +kernel⟩, by decide +kernel, q110⟩
theorem mt_X2_isBalanced : j_Mt yX2_isBalanced 0 := ⟨⟨by decide +kernel, by decide +kernel⟩, by decide +kernel, q110⟩
theorem mt_X2_gotAll : j_Mt yX2_gotAll 0 := ⟨⟨by decide +kernel, by decide +kernel⟩, by decide +kernel, q110⟩
theorem mt_X2_meanAge : j_Mt yX2_meanAge 0 := ⟨⟨by decide +kernel, by decide +kernel⟩, by decide +kernel, q110⟩
theorem mt_X2_entitledShare : j_Mt yX2_entitledShare 0 := ⟨⟨by decide +kernel, by decide +kernel⟩, by decide +kernel, q110⟩
theorem mt_X2_undo : j_Mt yX2_undo 0 := ⟨⟨by decide +kernel, by decide +kernel⟩, by decide +kernel, q110⟩
theorem mt_X2_save : j_Mt yX2_save 0 := ⟨⟨by decide +kernel, by decide +kernel⟩, by decide +kernel, q110⟩
theorem mt_X2_restore : j_Mt yX2_restore 0 := ⟨⟨by decide +kernel, by decide +kernel⟩, by decide +kernel, q110⟩
theorem mt_X3_copy : j_Mt yX3_copy 0 := ⟨⟨by decide +kernel, by decide +kernel⟩, by decide +kernel, q123⟩
theorem mt_X3_init : j_Mt yX3_init 3 := ⟨⟨by decide +kernel, by decide +kernel⟩, by decide +kernel, q123⟩
theorem mt_X3_checkWaits : j_Mt yX3_checkWaits 0 := ⟨⟨by decide +kernel, by decide +kernel⟩, by decide +kernel, q123⟩
theorem mt_X3_goes : j_Mt yX3_goes 1 := ⟨⟨by decide +kernel, by decide +kernel⟩, by decide +kernel, q123⟩
theorem mt_X3_checkCell : j_Mt yX3_checkCell 0 := ⟨⟨by decide +kernel, by decide +kernel⟩, by decide +kernel, q123⟩
theorem mt_X3_comesTo : j_Mt yX3_comesTo 1 := ⟨⟨by decide +kernel, by decide +kernel⟩, by decide +kernel, q123⟩
theorem mt_X3_isTooMuch : j_Mt yX3_isTooMuch 1 := ⟨⟨by decide +kernel, by decide +kernel⟩, by decide +kernel, q123⟩
theorem mt_X3_isEntitled : j_Mt yX3_isEntitled 0 := ⟨⟨by decide +kernel, by decide +kernel⟩, by decide +kernel, q123⟩
theorem mt_X3_isHere : j_Mt yX3_isHere 0 := ⟨⟨by decide +kernel, by decide +kernel⟩, by decide +kernel, q123⟩
theorem mt_X3_allBroken : j_Mt yX3_allBroken 0 := ⟨⟨by decide +kernel, by decide +kernel⟩, by decide +kernel, q123⟩
theorem mt_X4_init : j_Mt yX4_init 2 := ⟨⟨by decide +kernel, by decide +kernel⟩, by decide +kernel, q132⟩
theorem mt_X5_hasNext : j_Mt yX5_hasNext 0 := ⟨⟨by decide +kernel, by decide +kernel⟩, by decide +kernel, q135⟩
theorem mt_X5_next : j_Mt yX5_next 0 := ⟨⟨by decide +kernel, by decide +kernel⟩, by decide +kernel, q135⟩
theorem mt_X5_next_2 : j_Mt yX5_next_2 0 := ⟨⟨by decide +kernel, by decide +kernel⟩, by decide +kernel, q135⟩
theorem mt_X5_next_3 : j_Mt yX5_next_3 1 := ⟨⟨by decide +kernel, by decide +kernel⟩, by decide +kernel, q135⟩
theorem mt_X5_init : j_Mt yX5_init 1 := ⟨⟨by decide +kernel, by decide +kernel⟩, by decide +kernel, q135⟩
theorem mt_X6_init : j_Mt yX6_init 3 := ⟨⟨by decide +kernel, by decide +kernel⟩, by decide +kernel, q137⟩
theorem mt_X6_meets : j_Mt yX6_meets 1 := ⟨⟨by decide +kernel, by decide +kernel⟩, by decide +kernel, q137⟩
theorem mt_X7_iterator : j_Mt yX7_iterator 0 := ⟨⟨by decide +kernel, by decide +kernel⟩, by decide +kernel, q138⟩
theorem mt_X7_init : j_Mt yX7_init 1 := ⟨⟨by decide +kernel, by decide +kernel⟩, by decide +kernel, q138⟩
theorem mt_X8_init : j_Mt yX8_init 1 := ⟨⟨by decide +kernel, by decide +kernel⟩, by decide +kernel, q141⟩
theorem mt_X8_orders : j_Mt yX8_orders 0 := ⟨⟨by decide +kernel, by decide +kernel⟩, by decide +kernel, q141⟩
theorem mt_X8_order : j_Mt yX8_order 0 := ⟨⟨by decide +kernel, by decide +kernel⟩, by decide +kernel, q141⟩
theorem mt_X8_word : j_Mt yX8_word 0 := ⟨⟨by decide +kernel, by decide +kernel⟩, by decide +kernel, q141⟩
theorem mt_X8_here : j_Mt yX8_here 0 := ⟨⟨by decide +kernel, by decide +kernel⟩, by decide +kernel, q141⟩
theorem mt_X8_takes : j_Mt yX8_takes 1 := ⟨⟨by decide +kernel, by decide +kernel⟩, by decide +kernel, q141⟩
theorem mt_X8_needs : j_Mt yX8_needs 1 := ⟨⟨by decide +kernel, by decide +kernel⟩, by decide +kernel, q141⟩
theorem mt_X8_number : j_Mt yX8_number 1 := ⟨⟨by decide +kernel, by decide +kernel⟩, by decide +kernel, q141⟩
theorem mt_X8_behindBlank : j_Mt yX8_behindBlank 1 := ⟨⟨by decide +kernel, by decide +kernel⟩, by decide +kernel, q141⟩
theorem mt_X9_init : j_Mt yX9_init 1 := ⟨⟨by decide +kernel, by decide +kernel⟩, by decide +kernel, q142⟩
theorem mt_X9_isCarriedOut : j_Mt yX9_isCarriedOut 2 := ⟨⟨by decide +kernel, by decide +kernel⟩, by decide +kernel, q142⟩
theorem mt_X9_isDone : j_Mt yX9_isDone 2 := ⟨⟨by decide +kernel, by decide +kernel⟩, by decide +kernel, q142⟩
