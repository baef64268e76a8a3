section K5
variable {l : Launch} {G : j_G} {M : j_M} {W : jWt} {A : Nat → Nat} {H : HV}
theorem X6_meets_m (hW : j_wf G M) {c z kq own i : Nat} {b : Bool} {n : Int32} {kf : Nat → Int32} (hC : M.1 c = some (.inr (6, [.int (nI own), .int (jb b), .int n, .ref z, .ref kq]))) (hZ : M.1 z = some (aobj i)) (hKq : M.1 kq = some (.inl (0, 16, .inl kf))) (hi : i < 2) (hown : own < 16) {o : Nat} (ho : o < 16) : JM l G 4 yX6_meets wX6_meets [.ref c, .int (nI o)] M (jn (j_put M c (.inr (6, [.int (nI own), .int (jb (hMeets i kf own (b, n) o).1), .int (hMeets i kf own (b, n) o).2, .ref z, .ref kq])))) := by
  refine JM.of pn_X6 (Nat.le_of_ble_eq_true rfl) (hW.1) ?_
  show JW l G 4 YX6_meets _ 0 [(0, .ref c), (1, .int (nI o))] [] M
  have oe_ : ∀ {P : Prop}, P → P := fun h => h
  have oeq_ : (nI o = nI own) = (o = own) := propext (nI_eq (by omega) (by omega))
  refine j_aload_n dX6_meets_0 rfl rfl ?_
  refine j_get dX6_meets_1 fd_X6_1_6 hC rfl ?_
  refine j_aload_n dX6_meets_4 rfl rfl ?_
  refine j_get dX6_meets_5 fd_X6_7_6 hC rfl ?_
  refine j_iload_n dX6_meets_8 rfl ?_
  refine j_iald (j := o) dX6_meets_9 hKq (by decide) rfl (by omega) (by omega) ?_
  refine j_aload_n dX6_meets_10 rfl rfl ?_
  refine j_get dX6_meets_11 fd_X6_7_6 hC rfl ?_
  refine j_aload_n dX6_meets_14 rfl rfl ?_
  refine j_get dX6_meets_15 fd_X6_17_6 hC rfl ?_
  refine j_iald (j := own) dX6_meets_18 hKq (by decide) rfl (by omega) (by omega) ?_
  refine j_ahead (i := i) dX6_meets_19 q1412 hZ hi (Nat.le_of_ble_eq_true rfl) (Nat.le_of_ble_eq_true rfl) ?_
  refine j_ifneB (tgt := 69) dX6_meets_24 (by decide) (fun c24 => ?_) (fun c24 => ?_)
  · refine j_iconst (v := 1) dX6_meets_69 (by decide) ?_
    refine j_goto (tgt := 74) dX6_meets_70 (by decide) ?_
    refine j_istore_n dX6_meets_74 (by decide) rfl ?_
    refine j_aload_n dX6_meets_75 rfl rfl ?_
    refine j_dup dX6_meets_76 rfl ?_
    refine j_get dX6_meets_77 fd_X6_27_6 hC rfl ?_
    refine j_iload_n dX6_meets_80 rfl ?_
    refine j_aload_n dX6_meets_81 rfl rfl ?_
    refine j_get dX6_meets_82 fd_X6_17_6 hC rfl ?_
    refine j_icmp_ne (tgt := 92) dX6_meets_85 (by decide) (fun c85 => ?_) (fun c85 => ?_)
    · refine j_iconst (v := 0) dX6_meets_92 (by decide) ?_
      refine j_ior dX6_meets_93 ?_
      rw [show ((((jb b) ||| 0)) : Int32) = jb (b || false) from jb_or b false]
      refine j_put_ dX6_meets_94 fd_X6_27_6 cl_6 (fun r hr => ⟨(ft_6_1 r hr).1, Or.inl (ft_6_1 r hr).2.1⟩) hC (Or.inr (by decide)) (nar_jb _) (fit_jb _) (Nat.le_of_ble_eq_true rfl) ?_
      show JW _ _ _ _ _ _ _ _ (j_put M c (.inr (6, [.int (nI own), .int (jb (b || false)), .int n, .ref z, .ref kq])))
      refine j_aload_n dX6_meets_97 rfl rfl ?_
      refine j_dup dX6_meets_98 rfl ?_
      refine j_get dX6_meets_99 fd_X6_31_6 j_peq rfl ?_
      refine j_iload_n dX6_meets_102 rfl ?_
      refine j_if_eq (tgt := 110) dX6_meets_103 (by decide) (fun c103 => ?_) (fun c103 => ?_)
      · refine j_iconst (v := 0) dX6_meets_110 (by decide) ?_
        refine j_iadd dX6_meets_111 ?_
        refine j_put_ dX6_meets_112 fd_X6_31_6 cl_6 (fun r hr => ⟨(ft_6_2 r hr).1, Or.inl (ft_6_2 r hr).2.1⟩) j_peq (Or.inr (by decide)) rfl rfl (Nat.le_of_ble_eq_true rfl) ?_
        rw [j_pp]
        show JW _ _ _ _ _ _ _ _ (j_put M c (.inr (6, [.int (nI own), .int (jb (b || false)), .int (n + 0), .ref z, .ref kq])))
        exact j_return dX6_meets_115 rfl (by simp only [oeq_] at *; simp_all [hMeets, jn, jb])
      · refine j_iconst (v := 1) dX6_meets_106 (by decide) ?_
        refine j_goto (tgt := 111) dX6_meets_107 (by decide) ?_
        refine j_iadd dX6_meets_111 ?_
        refine j_put_ dX6_meets_112 fd_X6_31_6 cl_6 (fun r hr => ⟨(ft_6_2 r hr).1, Or.inl (ft_6_2 r hr).2.1⟩) j_peq (Or.inr (by decide)) rfl rfl (Nat.le_of_ble_eq_true rfl) ?_
        rw [j_pp]
        show JW _ _ _ _ _ _ _ _ (j_put M c (.inr (6, [.int (nI own), .int (jb (b || false)), .int (n + 1), .ref z, .ref kq])))
        exact j_return dX6_meets_115 rfl (by simp only [oeq_] at *; simp_all [hMeets, jn, jb])
    · refine j_iconst (v := 1) dX6_meets_88 (by decide) ?_
      refine j_goto (tgt := 93) dX6_meets_89 (by decide) ?_
      refine j_ior dX6_meets_93 ?_
      rw [show ((((jb b) ||| 1)) : Int32) = jb (b || true) from jb_or b true]
      refine j_put_ dX6_meets_94 fd_X6_27_6 cl_6 (fun r hr => ⟨(ft_6_1 r hr).1, Or.inl (ft_6_1 r hr).2.1⟩) hC (Or.inr (by decide)) (nar_jb _) (fit_jb _) (Nat.le_of_ble_eq_true rfl) ?_
      show JW _ _ _ _ _ _ _ _ (j_put M c (.inr (6, [.int (nI own), .int (jb (b || true)), .int n, .ref z, .ref kq])))
      refine j_aload_n dX6_meets_97 rfl rfl ?_
      refine j_dup dX6_meets_98 rfl ?_
      refine j_get dX6_meets_99 fd_X6_31_6 j_peq rfl ?_
      refine j_iload_n dX6_meets_102 rfl ?_
      refine j_if_eq (tgt := 110) dX6_meets_103 (by decide) (fun c103 => ?_) (fun c103 => ?_)
      · refine j_iconst (v := 0) dX6_meets_110 (by decide) ?_
        refine j_iadd dX6_meets_111 ?_
        refine j_put_ dX6_meets_112 fd_X6_31_6 cl_6 (fun r hr => ⟨(ft_6_2 r hr).1, Or.inl (ft_6_2 r hr).2.1⟩) j_peq (Or.inr (by decide)) rfl rfl (Nat.le_of_ble_eq_true rfl) ?_
        rw [j_pp]
        show JW _ _ _ _ _ _ _ _ (j_put M c (.inr (6, [.int (nI own), .int (jb (b || true)), .int (n + 0), .ref z, .ref kq])))
        exact j_return dX6_meets_115 rfl (by simp only [oeq_] at *; simp_all [hMeets, jn, jb])
      · refine j_iconst (v := 1) dX6_meets_106 (by decide) ?_
        refine j_goto (tgt := 111) dX6_meets_107 (by decide) ?_
        refine j_iadd dX6_meets_111 ?_
        refine j_put_ dX6_meets_112 fd_X6_31_6 cl_6 (fun r hr => ⟨(ft_6_2 r hr).1, Or.inl (ft_6_2 r hr).2.1⟩) j_peq (Or.inr (by decide)) rfl rfl (Nat.le_of_ble_eq_true rfl) ?_
        rw [j_pp]
        show JW _ _ _ _ _ _ _ _ (j_put M c (.inr (6, [.int (nI own), .int (jb (b || true)), .int (n + 1), .ref z, .ref kq])))
        exact j_return dX6_meets_115 rfl (by simp only [oeq_] at *; simp_all [hMeets, jn, jb])
  · refine j_aload_n dX6_meets_27 rfl rfl ?_
    refine j_get dX6_meets_28 fd_X6_27_6 hC rfl ?_
    refine j_ifneB (tgt := 73) dX6_meets_31 (by decide) (fun c31 => ?_) (fun c31 => ?_)
    · refine j_iconst (v := 0) dX6_meets_73 (by decide) ?_
      refine j_istore_n dX6_meets_74 (by decide) rfl ?_
      refine j_aload_n dX6_meets_75 rfl rfl ?_
      refine j_dup dX6_meets_76 rfl ?_
      refine j_get dX6_meets_77 fd_X6_27_6 hC rfl ?_
      refine j_iload_n dX6_meets_80 rfl ?_
      refine j_aload_n dX6_meets_81 rfl rfl ?_
      refine j_get dX6_meets_82 fd_X6_17_6 hC rfl ?_
      refine j_icmp_ne (tgt := 92) dX6_meets_85 (by decide) (fun c85 => ?_) (fun c85 => ?_)
      · refine j_iconst (v := 0) dX6_meets_92 (by decide) ?_
        refine j_ior dX6_meets_93 ?_
        rw [show ((((jb b) ||| 0)) : Int32) = jb (b || false) from jb_or b false]
        refine j_put_ dX6_meets_94 fd_X6_27_6 cl_6 (fun r hr => ⟨(ft_6_1 r hr).1, Or.inl (ft_6_1 r hr).2.1⟩) hC (Or.inr (by decide)) (nar_jb _) (fit_jb _) (Nat.le_of_ble_eq_true rfl) ?_
        show JW _ _ _ _ _ _ _ _ (j_put M c (.inr (6, [.int (nI own), .int (jb (b || false)), .int n, .ref z, .ref kq])))
        refine j_aload_n dX6_meets_97 rfl rfl ?_
        refine j_dup dX6_meets_98 rfl ?_
        refine j_get dX6_meets_99 fd_X6_31_6 j_peq rfl ?_
        refine j_iload_n dX6_meets_102 rfl ?_
        refine j_if_eq (tgt := 110) dX6_meets_103 (by decide) (fun c103 => ?_) (fun c103 => ?_)
        · refine j_iconst (v := 0) dX6_meets_110 (by decide) ?_
          refine j_iadd dX6_meets_111 ?_
          refine j_put_ dX6_meets_112 fd_X6_31_6 cl_6 (fun r hr => ⟨(ft_6_2 r hr).1, Or.inl (ft_6_2 r hr).2.1⟩) j_peq (Or.inr (by decide)) rfl rfl (Nat.le_of_ble_eq_true rfl) ?_
          rw [j_pp]
          show JW _ _ _ _ _ _ _ _ (j_put M c (.inr (6, [.int (nI own), .int (jb (b || false)), .int (n + 0), .ref z, .ref kq])))
          exact j_return dX6_meets_115 rfl (by simp only [oeq_] at *; simp_all [hMeets, jn, jb])
        · refine j_iconst (v := 1) dX6_meets_106 (by decide) ?_
          refine j_goto (tgt := 111) dX6_meets_107 (by decide) ?_
          refine j_iadd dX6_meets_111 ?_
          refine j_put_ dX6_meets_112 fd_X6_31_6 cl_6 (fun r hr => ⟨(ft_6_2 r hr).1, Or.inl (ft_6_2 r hr).2.1⟩) j_peq (Or.inr (by decide)) rfl rfl (Nat.le_of_ble_eq_true rfl) ?_
          rw [j_pp]
          show JW _ _ _ _ _ _ _ _ (j_put M c (.inr (6, [.int (nI own), .int (jb (b || false)), .int (n + 1), .ref z, .ref kq])))
          exact j_return dX6_meets_115 rfl (by simp only [oeq_] at *; simp_all [hMeets, jn, jb])
      · refine j_iconst (v := 1) dX6_meets_88 (by decide) ?_
        refine j_goto (tgt := 93) dX6_meets_89 (by decide) ?_
        refine j_ior dX6_meets_93 ?_
        rw [show ((((jb b) ||| 1)) : Int32) = jb (b || true) from jb_or b true]
        refine j_put_ dX6_meets_94 fd_X6_27_6 cl_6 (fun r hr => ⟨(ft_6_1 r hr).1, Or.inl (ft_6_1 r hr).2.1⟩) hC (Or.inr (by decide)) (nar_jb _) (fit_jb _) (Nat.le_of_ble_eq_true rfl) ?_
        show JW _ _ _ _ _ _ _ _ (j_put M c (.inr (6, [.int (nI own), .int (jb (b || true)), .int n, .ref z, .ref kq])))
        refine j_aload_n dX6_meets_97 rfl rfl ?_
        refine j_dup dX6_meets_98 rfl ?_
        refine j_get dX6_meets_99 fd_X6_31_6 j_peq rfl ?_
        refine j_iload_n dX6_meets_102 rfl ?_
        refine j_if_eq (tgt := 110) dX6_meets_103 (by decide) (fun c103 => ?_) (fun c103 => ?_)
        · refine j_iconst (v := 0) dX6_meets_110 (by decide) ?_
          refine j_iadd dX6_meets_111 ?_
          refine j_put_ dX6_meets_112 fd_X6_31_6 cl_6 (fun r hr => ⟨(ft_6_2 r hr).1, Or.inl (ft_6_2 r hr).2.1⟩) j_peq (Or.inr (by decide)) rfl rfl (Nat.le_of_ble_eq_true rfl) ?_
          rw [j_pp]
          show JW _ _ _ _ _ _ _ _ (j_put M c (.inr (6, [.int (nI own), .int (jb (b || true)), .int (n + 0), .ref z, .ref kq])))
          exact j_return dX6_meets_115 rfl (by simp only [oeq_] at *; simp_all [hMeets, jn, jb])
        · refine j_iconst (v := 1) dX6_meets_106 (by decide) ?_
          refine j_goto (tgt := 111) dX6_meets_107 (by decide) ?_
          refine j_iadd dX6_meets_111 ?_
          refine j_put_ dX6_meets_112 fd_X6_31_6 cl_6 (fun r hr => ⟨(ft_6_2 r hr).1, Or.inl (ft_6_2 r hr).2.1⟩) j_peq (Or.inr (by decide)) rfl rfl (Nat.le_of_ble_eq_true rfl) ?_
          rw [j_pp]
          show JW _ _ _ _ _ _ _ _ (j_put M c (.inr (6, [.int (nI own), .int (jb (b || true)), .int (n + 1), .ref z, .ref kq])))
          exact j_return dX6_meets_115 rfl (by simp only [oeq_] at *; simp_all [hMeets, jn, jb])
    · refine j_iload_n dX6_meets_34 rfl ?_
      refine j_aload_n dX6_meets_35 rfl rfl ?_
      refine j_get dX6_meets_36 fd_X6_17_6 hC rfl ?_
      refine j_icmp_eq (tgt := 73) dX6_meets_39 (by decide) (fun c39 => ?_) (fun c39 => ?_)
      · refine j_iconst (v := 0) dX6_meets_73 (by decide) ?_
        refine j_istore_n dX6_meets_74 (by decide) rfl ?_
        refine j_aload_n dX6_meets_75 rfl rfl ?_
        refine j_dup dX6_meets_76 rfl ?_
        refine j_get dX6_meets_77 fd_X6_27_6 hC rfl ?_
        refine j_iload_n dX6_meets_80 rfl ?_
        refine j_aload_n dX6_meets_81 rfl rfl ?_
        refine j_get dX6_meets_82 fd_X6_17_6 hC rfl ?_
        refine j_icmp_ne (tgt := 92) dX6_meets_85 (by decide) (fun c85 => ?_) (fun c85 => ?_)
        · refine j_iconst (v := 0) dX6_meets_92 (by decide) ?_
          refine j_ior dX6_meets_93 ?_
          rw [show ((((jb b) ||| 0)) : Int32) = jb (b || false) from jb_or b false]
          refine j_put_ dX6_meets_94 fd_X6_27_6 cl_6 (fun r hr => ⟨(ft_6_1 r hr).1, Or.inl (ft_6_1 r hr).2.1⟩) hC (Or.inr (by decide)) (nar_jb _) (fit_jb _) (Nat.le_of_ble_eq_true rfl) ?_
          show JW _ _ _ _ _ _ _ _ (j_put M c (.inr (6, [.int (nI own), .int (jb (b || false)), .int n, .ref z, .ref kq])))
          refine j_aload_n dX6_meets_97 rfl rfl ?_
          refine j_dup dX6_meets_98 rfl ?_
          refine j_get dX6_meets_99 fd_X6_31_6 j_peq rfl ?_
          refine j_iload_n dX6_meets_102 rfl ?_
          refine j_if_eq (tgt := 110) dX6_meets_103 (by decide) (fun c103 => ?_) (fun c103 => ?_)
          · refine j_iconst (v := 0) dX6_meets_110 (by decide) ?_
            refine j_iadd dX6_meets_111 ?_
            refine j_put_ dX6_meets_112 fd_X6_31_6 cl_6 (fun r hr => ⟨(ft_6_2 r hr).1, Or.inl (ft_6_2 r hr).2.1⟩) j_peq (Or.inr (by decide)) rfl rfl (Nat.le_of_ble_eq_true rfl) ?_
            rw [j_pp]
            show JW _ _ _ _ _ _ _ _ (j_put M c (.inr (6, [.int (nI own), .int (jb (b || false)), .int (n + 0), .ref z, .ref kq])))
            exact j_return dX6_meets_115 rfl (by simp only [oeq_] at *; simp_all [hMeets, jn, jb])
          · refine j_iconst (v := 1) dX6_meets_106 (by decide) ?_
            refine j_goto (tgt := 111) dX6_meets_107 (by decide) ?_
            refine j_iadd dX6_meets_111 ?_
            refine j_put_ dX6_meets_112 fd_X6_31_6 cl_6 (fun r hr => ⟨(ft_6_2 r hr).1, Or.inl (ft_6_2 r hr).2.1⟩) j_peq (Or.inr (by decide)) rfl rfl (Nat.le_of_ble_eq_true rfl) ?_
            rw [j_pp]
            show JW _ _ _ _ _ _ _ _ (j_put M c (.inr (6, [.int (nI own), .int (jb (b || false)), .int (n + 1), .ref z, .ref kq])))
            exact j_return dX6_meets_115 rfl (by simp only [oeq_] at *; simp_all [hMeets, jn, jb])
        · refine j_iconst (v := 1) dX6_meets_88 (by decide) ?_
          refine j_goto (tgt := 93) dX6_meets_89 (by decide) ?_
          refine j_ior dX6_meets_93 ?_
          rw [show ((((jb b) ||| 1)) : Int32) = jb (b || true) from jb_or b true]
          refine j_put_ dX6_meets_94 fd_X6_27_6 cl_6 (fun r hr => ⟨(ft_6_1 r hr).1, Or.inl (ft_6_1 r hr).2.1⟩) hC (Or.inr (by decide)) (nar_jb _) (fit_jb _) (Nat.le_of_ble_eq_true rfl) ?_
          show JW _ _ _ _ _ _ _ _ (j_put M c (.inr (6, [.int (nI own), .int (jb (b || true)), .int n, .ref z, .ref kq])))
          refine j_aload_n dX6_meets_97 rfl rfl ?_
          refine j_dup dX6_meets_98 rfl ?_
          refine j_get dX6_meets_99 fd_X6_31_6 j_peq rfl ?_
          refine j_iload_n dX6_meets_102 rfl ?_
          refine j_if_eq (tgt := 110) dX6_meets_103 (by decide) (fun c103 => ?_) (fun c103 => ?_)
          · refine j_iconst (v := 0) dX6_meets_110 (by decide) ?_
            refine j_iadd dX6_meets_111 ?_
            refine j_put_ dX6_meets_112 fd_X6_31_6 cl_6 (fun r hr => ⟨(ft_6_2 r hr).1, Or.inl (ft_6_2 r hr).2.1⟩) j_peq (Or.inr (by decide)) rfl rfl (Nat.le_of_ble_eq_true rfl) ?_
            rw [j_pp]
            show JW _ _ _ _ _ _ _ _ (j_put M c (.inr (6, [.int (nI own), .int (jb (b || true)), .int (n + 0), .ref z, .ref kq])))
            exact j_return dX6_meets_115 rfl (by simp only [oeq_] at *; simp_all [hMeets, jn, jb])
          · refine j_iconst (v := 1) dX6_meets_106 (by decide) ?_
            refine j_goto (tgt := 111) dX6_meets_107 (by decide) ?_
            refine j_iadd dX6_meets_111 ?_
            refine j_put_ dX6_meets_112 fd_X6_31_6 cl_6 (fun r hr => ⟨(ft_6_2 r hr).1, Or.inl (ft_6_2 r hr).2.1⟩) j_peq (Or.inr (by decide)) rfl rfl (Nat.le_of_ble_eq_true rfl) ?_
            rw [j_pp]
            show JW _ _ _ _ _ _ _ _ (j_put M c (.inr (6, [.int (nI own), .int (jb (b || true)), .int (n + 1), .ref z, .ref kq])))
            exact j_return dX6_meets_115 rfl (by simp only [oeq_] at *; simp_all [hMeets, jn, jb])
      · refine j_aload_n dX6_meets_42 rfl rfl ?_
        refine j_get dX6_meets_43 fd_X6_1_6 hC rfl ?_
        refine j_aload_n dX6_meets_46 rfl rfl ?_
        refine j_get dX6_meets_47 fd_X6_7_6 hC rfl ?_
        refine j_aload_n dX6_meets_50 rfl rfl ?_
        refine j_get dX6_meets_51 fd_X6_17_6 hC rfl ?_
        refine j_iald (j := own) dX6_meets_54 hKq (by decide) rfl (by omega) (by omega) ?_
        refine j_aload_n dX6_meets_55 rfl rfl ?_
        refine j_get dX6_meets_56 fd_X6_7_6 hC rfl ?_
        refine j_iload_n dX6_meets_59 rfl ?_
        refine j_iald (j := o) dX6_meets_60 hKq (by decide) rfl (by omega) (by omega) ?_
        refine j_ahead (i := i) dX6_meets_61 q1412 hZ hi (Nat.le_of_ble_eq_true rfl) (Nat.le_of_ble_eq_true rfl) ?_
        refine j_ifneB (tgt := 73) dX6_meets_66 (by decide) (fun c66 => ?_) (fun c66 => ?_)
        · refine j_iconst (v := 0) dX6_meets_73 (by decide) ?_
          refine j_istore_n dX6_meets_74 (by decide) rfl ?_
          refine j_aload_n dX6_meets_75 rfl rfl ?_
          refine j_dup dX6_meets_76 rfl ?_
          refine j_get dX6_meets_77 fd_X6_27_6 hC rfl ?_
          refine j_iload_n dX6_meets_80 rfl ?_
          refine j_aload_n dX6_meets_81 rfl rfl ?_
          refine j_get dX6_meets_82 fd_X6_17_6 hC rfl ?_
          refine j_icmp_ne (tgt := 92) dX6_meets_85 (by decide) (fun c85 => ?_) (fun c85 => ?_)
          · refine j_iconst (v := 0) dX6_meets_92 (by decide) ?_
            refine j_ior dX6_meets_93 ?_
            rw [show ((((jb b) ||| 0)) : Int32) = jb (b || false) from jb_or b false]
            refine j_put_ dX6_meets_94 fd_X6_27_6 cl_6 (fun r hr => ⟨(ft_6_1 r hr).1, Or.inl (ft_6_1 r hr).2.1⟩) hC (Or.inr (by decide)) (nar_jb _) (fit_jb _) (Nat.le_of_ble_eq_true rfl) ?_
            show JW _ _ _ _ _ _ _ _ (j_put M c (.inr (6, [.int (nI own), .int (jb (b || false)), .int n, .ref z, .ref kq])))
            refine j_aload_n dX6_meets_97 rfl rfl ?_
            refine j_dup dX6_meets_98 rfl ?_
            refine j_get dX6_meets_99 fd_X6_31_6 j_peq rfl ?_
            refine j_iload_n dX6_meets_102 rfl ?_
            refine j_if_eq (tgt := 110) dX6_meets_103 (by decide) (fun c103 => ?_) (fun c103 => ?_)
            · refine j_iconst (v := 0) dX6_meets_110 (by decide) ?_
              refine j_iadd dX6_meets_111 ?_
              refine j_put_ dX6_meets_112 fd_X6_31_6 cl_6 (fun r hr => ⟨(ft_6_2 r hr).1, Or.inl (ft_6_2 r hr).2.1⟩) j_peq (Or.inr (by decide)) rfl rfl (Nat.le_of_ble_eq_true rfl) ?_
              rw [j_pp]
              show JW _ _ _ _ _ _ _ _ (j_put M c (.inr (6, [.int (nI own), .int (jb (b || false)), .int (n + 0), .ref z, .ref kq])))
              exact j_return dX6_meets_115 rfl (by simp only [oeq_] at *; simp_all [hMeets, jn, jb])
            · refine j_iconst (v := 1) dX6_meets_106 (by decide) ?_
              refine j_goto (tgt := 111) dX6_meets_107 (by decide) ?_
              refine j_iadd dX6_meets_111 ?_
              refine j_put_ dX6_meets_112 fd_X6_31_6 cl_6 (fun r hr => ⟨(ft_6_2 r hr).1, Or.inl (ft_6_2 r hr).2.1⟩) j_peq (Or.inr (by decide)) rfl rfl (Nat.le_of_ble_eq_true rfl) ?_
              rw [j_pp]
              show JW _ _ _ _ _ _ _ _ (j_put M c (.inr (6, [.int (nI own), .int (jb (b || false)), .int (n + 1), .ref z, .ref kq])))
              exact j_return dX6_meets_115 rfl (by simp only [oeq_] at *; simp_all [hMeets, jn, jb])
          · refine j_iconst (v := 1) dX6_meets_88 (by decide) ?_
            refine j_goto (tgt := 93) dX6_meets_89 (by decide) ?_
            refine j_ior dX6_meets_93 ?_
            rw [show ((((jb b) ||| 1)) : Int32) = jb (b || true) from jb_or b true]
            refine j_put_ dX6_meets_94 fd_X6_27_6 cl_6 (fun r hr => ⟨(ft_6_1 r hr).1, Or.inl (ft_6_1 r hr).2.1⟩) hC (Or.inr (by decide)) (nar_jb _) (fit_jb _) (Nat.le_of_ble_eq_true rfl) ?_
            show JW _ _ _ _ _ _ _ _ (j_put M c (.inr (6, [.int (nI own), .int (jb (b || true)), .int n, .ref z, .ref kq])))
            refine j_aload_n dX6_meets_97 rfl rfl ?_
            refine j_dup dX6_meets_98 rfl ?_
            refine j_get dX6_meets_99 fd_X6_31_6 j_peq rfl ?_
            refine j_iload_n dX6_meets_102 rfl ?_
            refine j_if_eq (tgt := 110) dX6_meets_103 (by decide) (fun c103 => ?_) (fun c103 => ?_)
            · refine j_iconst (v := 0) dX6_meets_110 (by decide) ?_
              refine j_iadd dX6_meets_111 ?_
              refine j_put_ dX6_meets_112 fd_X6_31_6 cl_6 (fun r hr => ⟨(ft_6_2 r hr).1, Or.inl (ft_6_2 r hr).2.1⟩) j_peq (Or.inr (by decide)) rfl rfl (Nat.le_of_ble_eq_true rfl) ?_
              rw [j_pp]
              show JW _ _ _ _ _ _ _ _ (j_put M c (.inr (6, [.int (nI own), .int (jb (b || true)), .int (n + 0), .ref z, .ref kq])))
              exact j_return dX6_meets_115 rfl (by simp only [oeq_] at *; simp_all [hMeets, jn, jb])
            · refine j_iconst (v := 1) dX6_meets_106 (by decide) ?_
              refine j_goto (tgt := 111) dX6_meets_107 (by decide) ?_
              refine j_iadd dX6_meets_111 ?_
              refine j_put_ dX6_meets_112 fd_X6_31_6 cl_6 (fun r hr => ⟨(ft_6_2 r hr).1, Or.inl (ft_6_2 r hr).2.1⟩) j_peq (Or.inr (by decide)) rfl rfl (Nat.le_of_ble_eq_true rfl) ?_
              rw [j_pp]
              show JW _ _ _ _ _ _ _ _ (j_put M c (.inr (6, [.int (nI own), .int (jb (b || true)), .int (n + 1), .ref z, .ref kq])))
              exact j_return dX6_meets_115 rfl (by simp only [oeq_] at *; simp_all [hMeets, jn, jb])
        · refine j_iconst (v := 1) dX6_meets_69 (by decide) ?_
          refine j_goto (tgt := 74) dX6_meets_70 (by decide) ?_
          refine j_istore_n dX6_meets_74 (by decide) rfl ?_
          refine j_aload_n dX6_meets_75 rfl rfl ?_
          refine j_dup dX6_meets_76 rfl ?_
          refine j_get dX6_meets_77 fd_X6_27_6 hC rfl ?_
          refine j_iload_n dX6_meets_80 rfl ?_
          refine j_aload_n dX6_meets_81 rfl rfl ?_
          refine j_get dX6_meets_82 fd_X6_17_6 hC rfl ?_
          refine j_icmp_ne (tgt := 92) dX6_meets_85 (by decide) (fun c85 => ?_) (fun c85 => ?_)
          · refine j_iconst (v := 0) dX6_meets_92 (by decide) ?_
            refine j_ior dX6_meets_93 ?_
            rw [show ((((jb b) ||| 0)) : Int32) = jb (b || false) from jb_or b false]
            refine j_put_ dX6_meets_94 fd_X6_27_6 cl_6 (fun r hr => ⟨(ft_6_1 r hr).1, Or.inl (ft_6_1 r hr).2.1⟩) hC (Or.inr (by decide)) (nar_jb _) (fit_jb _) (Nat.le_of_ble_eq_true rfl) ?_
            show JW _ _ _ _ _ _ _ _ (j_put M c (.inr (6, [.int (nI own), .int (jb (b || false)), .int n, .ref z, .ref kq])))
            refine j_aload_n dX6_meets_97 rfl rfl ?_
            refine j_dup dX6_meets_98 rfl ?_
            refine j_get dX6_meets_99 fd_X6_31_6 j_peq rfl ?_
            refine j_iload_n dX6_meets_102 rfl ?_
            refine j_if_eq (tgt := 110) dX6_meets_103 (by decide) (fun c103 => ?_) (fun c103 => ?_)
            · refine j_iconst (v := 0) dX6_meets_110 (by decide) ?_
              refine j_iadd dX6_meets_111 ?_
              refine j_put_ dX6_meets_112 fd_X6_31_6 cl_6 (fun r hr => ⟨(ft_6_2 r hr).1, Or.inl (ft_6_2 r hr).2.1⟩) j_peq (Or.inr (by decide)) rfl rfl (Nat.le_of_ble_eq_true rfl) ?_
              rw [j_pp]
              show JW _ _ _ _ _ _ _ _ (j_put M c (.inr (6, [.int (nI own), .int (jb (b || false)), .int (n + 0), .ref z, .ref kq])))
              exact j_return dX6_meets_115 rfl (by simp only [oeq_] at *; simp_all [hMeets, jn, jb])
            · refine j_iconst (v := 1) dX6_meets_106 (by decide) ?_
              refine j_goto (tgt := 111) dX6_meets_107 (by decide) ?_
              refine j_iadd dX6_meets_111 ?_
              refine j_put_ dX6_meets_112 fd_X6_31_6 cl_6 (fun r hr => ⟨(ft_6_2 r hr).1, Or.inl (ft_6_2 r hr).2.1⟩) j_peq (Or.inr (by decide)) rfl rfl (Nat.le_of_ble_eq_true rfl) ?_
              rw [j_pp]
              show JW _ _ _ _ _ _ _ _ (j_put M c (.inr (6, [.int (nI own), .int (jb (b || false)), .int (n + 1), .ref z, .ref kq])))
              exact j_return dX6_meets_115 rfl (by simp only [oeq_] at *; simp_all [hMeets, jn, jb])
          · refine j_iconst (v := 1) dX6_meets_88 (by decide) ?_
            refine j_goto (tgt := 93) dX6_meets_89 (by decide) ?_
            refine j_ior dX6_meets_93 ?_
            rw [show ((((jb b) ||| 1)) : Int32) = jb (b || true) from jb_or b true]
            refine j_put_ dX6_meets_94 fd_X6_27_6 cl_6 (fun r hr => ⟨(ft_6_1 r hr).1, Or.inl (ft_6_1 r hr).2.1⟩) hC (Or.inr (by decide)) (nar_jb _) (fit_jb _) (Nat.le_of_ble_eq_true rfl) ?_
            show JW _ _ _ _ _ _ _ _ (j_put M c (.inr (6, [.int (nI own), .int (jb (b || true)), .int n, .ref z, .ref kq])))
            refine j_aload_n dX6_meets_97 rfl rfl ?_
            refine j_dup dX6_meets_98 rfl ?_
            refine j_get dX6_meets_99 fd_X6_31_6 j_peq rfl ?_
            refine j_iload_n dX6_meets_102 rfl ?_
            refine j_if_eq (tgt := 110) dX6_meets_103 (by decide) (fun c103 => ?_) (fun c103 => ?_)
            · refine j_iconst (v := 0) dX6_meets_110 (by decide) ?_
              refine j_iadd dX6_meets_111 ?_
              refine j_put_ dX6_meets_112 fd_X6_31_6 cl_6 (fun r hr => ⟨(ft_6_2 r hr).1, Or.inl (ft_6_2 r hr).2.1⟩) j_peq (Or.inr (by decide)) rfl rfl (Nat.le_of_ble_eq_true rfl) ?_
              rw [j_pp]
              show JW _ _ _ _ _ _ _ _ (j_put M c (.inr (6, [.int (nI own), .int (jb (b || true)), .int (n + 0), .ref z, .ref kq])))
              exact j_return dX6_meets_115 rfl (by simp only [oeq_] at *; simp_all [hMeets, jn, jb])
            · refine j_iconst (v := 1) dX6_meets_106 (by decide) ?_
              refine j_goto (tgt := 111) dX6_meets_107 (by decide) ?_
              refine j_iadd dX6_meets_111 ?_
              refine j_put_ dX6_meets_112 fd_X6_31_6 cl_6 (fun r hr => ⟨(ft_6_2 r hr).1, Or.inl (ft_6_2 r hr).2.1⟩) j_peq (Or.inr (by decide)) rfl rfl (Nat.le_of_ble_eq_true rfl) ?_
              rw [j_pp]
              show JW _ _ _ _ _ _ _ _ (j_put M c (.inr (6, [.int (nI own), .int (jb (b || true)), .int (n + 1), .ref z, .ref kq])))
              exact j_return dX6_meets_115 rfl (by simp only [oeq_] at *; simp_all [hMeets, jn, jb])

end K5
