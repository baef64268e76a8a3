section K13
variable {l : Launch} {G : j_G} {M : j_M} {W : jWt} {A : Nat → Nat} {H : HV}
theorem X3_init_m (hW : j_wf G M) {q : Nat} (hq : M.1 q = some (.inr (3, [.int 0, .int 0, .int 0, .int 0, .int 0, .int 0, .int 0, .int 0, .int 0, .null]))) (num age : Int32) (kin : Bool) : JM l G 1 yX3_init wX3_init [.ref q, .int num, .int age, .int (jb kin)] M (jr (fun v M' => v = none ∧ M'.1 q = some (.inr (3, [.int num, .int (jb kin), .int age, .int 0, .int (-15), .int 0, .int 0, .int 0, .int (-15), .ref M.2.1])) ∧ M'.1 M.2.1 = some (.inl (0, 5, .inl (fun _ => 0))) ∧ jFr G (fun x => x = q) M M' 1 5)) := by
  refine JM.of pn_X3 (Nat.le_of_ble_eq_true rfl) (hW.1) ?_
  show JW l G 1 YX3_init _ 0 [(0, .ref q), (1, .int num), (2, .int age), (3, .int (jb kin))] [] M
  have hqm_ : q < M.2.1 := hW.2 _ _ hq
  refine j_aload_n dX3_init_0 rfl rfl ?_
  refine j_objInit dX3_init_1 q867 q150 q151 (Nat.le_of_ble_eq_true rfl) (Nat.le_of_ble_eq_true rfl) ?_
  refine j_aload_n dX3_init_4 rfl rfl ?_
  refine j_iconst (v := 0) dX3_init_5 (by decide) ?_
  refine j_put_ dX3_init_6 fd_X3_9_3 cl_3 (fun r hr => ⟨(ft_3_3 r hr).1, Or.inl (ft_3_3 r hr).2.1⟩) hq (Or.inr (by decide)) rfl rfl (Nat.le_of_ble_eq_true rfl) ?_
  show JW _ _ _ _ _ _ _ _ (j_put M q (.inr (3, [.int 0, .int 0, .int 0, .int 0, .int 0, .int 0, .int 0, .int 0, .int 0, .null])))
  refine j_aload_n dX3_init_9 rfl rfl ?_
  refine j_bipush (v := (-15)) dX3_init_10 (by decide) ?_
  refine j_put_ dX3_init_12 fd_X3_15_3 cl_3 (fun r hr => ⟨(ft_3_4 r hr).1, Or.inl (ft_3_4 r hr).2.1⟩) j_peq (Or.inr (by decide)) rfl rfl (Nat.le_of_ble_eq_true rfl) ?_
  rw [j_pp]
  show JW _ _ _ _ _ _ _ _ (j_put M q (.inr (3, [.int 0, .int 0, .int 0, .int 0, .int (-15), .int 0, .int 0, .int 0, .int 0, .null])))
  refine j_aload_n dX3_init_15 rfl rfl ?_
  refine j_bipush (v := (-15)) dX3_init_16 (by decide) ?_
  refine j_put_ dX3_init_18 fd_X3_18_3 cl_3 (fun r hr => ⟨(ft_3_8 r hr).1, Or.inl (ft_3_8 r hr).2.1⟩) j_peq (Or.inr (by decide)) rfl rfl (Nat.le_of_ble_eq_true rfl) ?_
  rw [j_pp]
  show JW _ _ _ _ _ _ _ _ (j_put M q (.inr (3, [.int 0, .int 0, .int 0, .int 0, .int (-15), .int 0, .int 0, .int 0, .int (-15), .null])))
  refine j_aload_n dX3_init_21 rfl rfl ?_
  refine j_iconst (v := 5) dX3_init_22 (by decide) ?_
  refine j_newI (n := 5) dX3_init_23 q267 rfl (by decide) ?_
  refine j_put_ dX3_init_25 fd_X3_21_3 cl_3 (fun r hr => ⟨(ft_3_9 r hr).1, Or.inr ⟨rfl, (ft_3_9 r hr).2.2⟩⟩) (j_nne (hW.put hq) j_peq) (Or.inr (by decide)) rfl rfl (Nat.le_of_ble_eq_true rfl) ?_
  show JW _ _ _ _ _ _ _ _ (j_put (j_new (j_put M q (.inr (3, [.int 0, .int 0, .int 0, .int 0, .int (-15), .int 0, .int 0, .int 0, .int (-15), .null]))) (.inl (0, 5, .inl (fun _ => 0))) 5) q (.inr (3, [.int 0, .int 0, .int 0, .int 0, .int (-15), .int 0, .int 0, .int 0, .int (-15), .ref (j_put M q (.inr (3, [.int 0, .int 0, .int 0, .int 0, .int (-15), .int 0, .int 0, .int 0, .int (-15), .null]))).2.1])))
  refine j_aload_n dX3_init_28 rfl rfl ?_
  refine j_iload_n dX3_init_29 rfl ?_
  refine j_put_ dX3_init_30 fd_X3_25_3 cl_3 (fun r hr => ⟨(ft_3_0 r hr).1, Or.inr ⟨rfl, (ft_3_0 r hr).2.2⟩⟩) j_peq (Or.inr (by decide)) rfl rfl (Nat.le_of_ble_eq_true rfl) ?_
  rw [j_pp]
  show JW _ _ _ _ _ _ _ _ (j_put (j_new (j_put M q (.inr (3, [.int 0, .int 0, .int 0, .int 0, .int (-15), .int 0, .int 0, .int 0, .int (-15), .null]))) (.inl (0, 5, .inl (fun _ => 0))) 5) q (.inr (3, [.int num, .int 0, .int 0, .int 0, .int (-15), .int 0, .int 0, .int 0, .int (-15), .ref (j_put M q (.inr (3, [.int 0, .int 0, .int 0, .int 0, .int (-15), .int 0, .int 0, .int 0, .int (-15), .null]))).2.1])))
  refine j_aload_n dX3_init_33 rfl rfl ?_
  refine j_iload_n dX3_init_34 rfl ?_
  refine j_put_ dX3_init_35 fd_X3_28_3 cl_3 (fun r hr => ⟨(ft_3_2 r hr).1, Or.inl (ft_3_2 r hr).2.1⟩) j_peq (Or.inr (by decide)) rfl rfl (Nat.le_of_ble_eq_true rfl) ?_
  rw [j_pp]
  show JW _ _ _ _ _ _ _ _ (j_put (j_new (j_put M q (.inr (3, [.int 0, .int 0, .int 0, .int 0, .int (-15), .int 0, .int 0, .int 0, .int (-15), .null]))) (.inl (0, 5, .inl (fun _ => 0))) 5) q (.inr (3, [.int num, .int 0, .int age, .int 0, .int (-15), .int 0, .int 0, .int 0, .int (-15), .ref (j_put M q (.inr (3, [.int 0, .int 0, .int 0, .int 0, .int (-15), .int 0, .int 0, .int 0, .int (-15), .null]))).2.1])))
  refine j_aload_n dX3_init_38 rfl rfl ?_
  refine j_iload_n dX3_init_39 rfl ?_
  refine j_put_ dX3_init_40 fd_X3_31_3 cl_3 (fun r hr => ⟨(ft_3_1 r hr).1, Or.inr ⟨rfl, (ft_3_1 r hr).2.2⟩⟩) j_peq (Or.inr (by decide)) (nar_jb _) (fit_jb _) (Nat.le_of_ble_eq_true rfl) ?_
  rw [j_pp]
  show JW _ _ _ _ _ _ _ _ (j_put (j_new (j_put M q (.inr (3, [.int 0, .int 0, .int 0, .int 0, .int (-15), .int 0, .int 0, .int 0, .int (-15), .null]))) (.inl (0, 5, .inl (fun _ => 0))) 5) q (.inr (3, [.int num, .int (jb kin), .int age, .int 0, .int (-15), .int 0, .int 0, .int 0, .int (-15), .ref (j_put M q (.inr (3, [.int 0, .int 0, .int 0, .int 0, .int (-15), .int 0, .int 0, .int 0, .int (-15), .null]))).2.1])))
  exact j_return dX3_init_43 rfl (jr_i ⟨rfl, j_peq, (j_pne (j_nek (M := (j_new (j_put M q (.inr (3, [.int 0, .int 0, .int 0, .int 0, .int (-15), .int 0, .int 0, .int 0, .int (-15), .null]))) (.inl (0, 5, .inl (fun _ => 0))) 5)) j_neq (j_nne (hW.put hq) j_peq) (Nat.ne_of_beq_eq_false rfl)) j_neq), (jFr.stepp (jFr.stepn (jFr.stepp (jFr.refl hW (N := 0) (D := 0)) hq (fun _ => rfl))) (j_nne (hW.put hq) j_peq) (fun _ => rfl))⟩)

end K13
