section K7
variable {l : Launch} {G : j_G} {M : j_M} {W : jWt} {A : Nat → Nat} {H : HV}
theorem J25_valueOf_m (hWd : jWd G W M) (hG : jGd G W) {k : Nat} (hk : k < 16) : JM l G 0 yJ25_valueOf wJ25_valueOf [.int (nI k)] M (jv (.ref (W.2 k)) M) := by
  refine JM.of pn_J25 (Nat.le_of_ble_eq_true rfl) (hWd.1.1) ?_
  show JW l G 0 YJ25_valueOf _ 0 [(0, .int (nI k))] [] M
  obtain ⟨-, h5_, ⟨ca, f, h6_, hca_, hcf_, hf_⟩, -, -⟩ := hG
  have hC_ : M.1 ca = some (.inl (18, 256, .inr (.inr (.inr (.inr f))))) := (hWd.2 ca hca_).trans hcf_
  refine j_iload_n dJ25_valueOf_0 rfl ?_
  refine j_bipush (v := (-128)) dJ25_valueOf_1 (by decide) ?_
  refine j_icmp_lt (tgt := 23) dJ25_valueOf_3 (by decide) (fun c3 => ?_) (fun c3 => ?_)
  · exact absurd c3 (Int32.not_lt.mpr (Int32.le_trans (by decide) (nI_pos' (n := k) (by omega))))
  · refine j_iload_n dJ25_valueOf_6 rfl ?_
    refine j_gets (i := 5) dJ25_valueOf_7 rfl q1019 (Or.inl rfl) ?_
    rw [h5_]
    refine j_icmp_gt (tgt := 23) dJ25_valueOf_10 (by decide) (fun c10 => ?_) (fun c10 => ?_)
    · exact absurd c10 (Int32.not_lt.mpr ((nI_leI (a := k) (b := 127) (by omega) (by decide)).mpr (by omega)))
    · refine j_gets (i := 6) dJ25_valueOf_13 rfl q1021 (Or.inl rfl) ?_
      rw [h6_]
      refine j_iload_n dJ25_valueOf_16 rfl ?_
      refine j_sipush (v := 128) dJ25_valueOf_17 (by decide) ?_
      refine j_iadd dJ25_valueOf_20 ?_
      refine j_aald (j := (128 + k)) dJ25_valueOf_21 hC_ (by decide) (by rw [Int32.add_comm]; exact nI_add 128 k) (by omega) (by decide) ?_
      rw [hf_ k hk]
      exact j_areturn dJ25_valueOf_22 rfl rfl rfl (rfl)

theorem J2_add_2_m (hW : j_wf G M) {a e n o : Nat} {m : Int32} {f : Nat → Option Nat} {bs : List Value} (hA : M.1 a = some (.inr (11, [.int m, .ref e, .int (nI n)]))) (hE : M.1 e = some (.inl (5, 16, .inr (.inr (.inr (.inr f)))))) (hO : M.1 o = some (.inr (3, bs))) (hn : n < 16) : JM l G 0 yJ2_add_2 wJ2_add_2 [.ref a, .ref o, .ref e, .int (nI n)] M (jr (fun v M' => v = none ∧ M'.1 a = some (.inr (11, [.int m, .ref e, .int (nI (n + 1))])) ∧ M'.1 e = some (.inl (5, 16, .inr (.inr (.inr (.inr (va_up f n (some o))))))) ∧ jFr G (fun x => x = a ∨ x = e) M M' 0 0)) := by
  refine JM.of pn_J2 (Nat.le_of_ble_eq_true rfl) (hW.1) ?_
  show JW l G 0 YJ2_add_2 _ 0 [(0, .ref a), (1, .ref o), (2, .ref e), (3, .int (nI n))] [] M
  refine j_iload_n dJ2_add_2_0 rfl ?_
  refine j_aload_n dJ2_add_2_1 rfl rfl ?_
  refine j_alen dJ2_add_2_2 hE (by decide) ?_
  refine j_icmp_ne (tgt := 11) dJ2_add_2_3 (by decide) (fun c3 => ?_) (fun c3 => ?_)
  · refine j_aload_n dJ2_add_2_11 rfl rfl ?_
    refine j_iload_n dJ2_add_2_12 rfl ?_
    refine j_aload_n dJ2_add_2_13 rfl rfl ?_
    refine j_aastO (j := n) dJ2_add_2_14 hE hO (by decide) rfl q2618 rfl (by omega) (by omega) ?_
    show JW _ _ _ _ _ _ _ _ (j_put M e (.inl (5, 16, .inr (.inr (.inr (.inr (va_up f n (some o))))))))
    refine j_aload_n dJ2_add_2_15 rfl rfl ?_
    refine j_iload_n dJ2_add_2_16 rfl ?_
    refine j_iconst (v := 1) dJ2_add_2_17 (by decide) ?_
    refine j_iadd dJ2_add_2_18 ?_
    rw [nI_1]
    refine j_put_ dJ2_add_2_19 fd_J2_48_11 cl_11 (fun r hr => ⟨(ft_11_2 r hr).1, Or.inl (ft_11_2 r hr).2.1⟩) (j_pne (j_nek (M := M) hA hE (Nat.ne_of_beq_eq_false rfl)) hA) (Or.inr (by decide)) rfl rfl (Nat.le_of_ble_eq_true rfl) ?_
    show JW _ _ _ _ _ _ _ _ (j_put (j_put M e (.inl (5, 16, .inr (.inr (.inr (.inr (va_up f n (some o)))))))) a (.inr (11, [.int m, .ref e, .int (nI (n + 1))])))
    exact j_return dJ2_add_2_22 rfl (jr_i ⟨rfl, j_peq, (j_pne (j_nek (M := (j_put M e (.inl (5, 16, .inr (.inr (.inr (.inr (va_up f n (some o))))))))) j_peq (j_pne (j_nek (M := M) hA hE (Nat.ne_of_beq_eq_false rfl)) hA) (Nat.ne_of_beq_eq_false rfl)) j_peq), (jFr.stepp (jFr.stepp (jFr.refl hW (N := 0) (D := 0)) hE (fun _ => Or.inr rfl)) (j_pne (j_nek (M := M) hA hE (Nat.ne_of_beq_eq_false rfl)) hA) (fun _ => Or.inl rfl))⟩)
  · exact absurd ((nI_eq (by omega) (by decide)).mp c3) (by omega)

theorem J2_add_m (hW : j_wf G M) {a e n o : Nat} {m : Int32} {f : Nat → Option Nat} {bs : List Value} (hA : M.1 a = some (.inr (11, [.int m, .ref e, .int (nI n)]))) (hE : M.1 e = some (.inl (5, 16, .inr (.inr (.inr (.inr f)))))) (hO : M.1 o = some (.inr (3, bs))) (hn : n < 16) : JM l G 1 yJ2_add wJ2_add [.ref a, .ref o] M (jr (fun v M' => v = some (.int 1) ∧ M'.1 a = some (.inr (11, [.int (m + 1), .ref e, .int (nI (n + 1))])) ∧ M'.1 e = some (.inl (5, 16, .inr (.inr (.inr (.inr (va_up f n (some o))))))) ∧ jFr G (fun x => x = a ∨ x = e) M M' 0 0)) := by
  refine JM.of pn_J2 (Nat.le_of_ble_eq_true rfl) (hW.1) ?_
  show JW l G 1 YJ2_add _ 0 [(0, .ref a), (1, .ref o)] [] M
  refine j_aload_n dJ2_add_0 rfl rfl ?_
  refine j_dup dJ2_add_1 rfl ?_
  refine j_get dJ2_add_2 fd_J2_63_11 hA rfl ?_
  refine j_iconst (v := 1) dJ2_add_5 (by decide) ?_
  refine j_iadd dJ2_add_6 ?_
  refine j_put_ dJ2_add_7 fd_J2_63_11 cl_11 (fun r hr => ⟨(ft_11_0 r hr).1, Or.inl (ft_11_0 r hr).2.1⟩) hA (Or.inr (by decide)) rfl rfl (Nat.le_of_ble_eq_true rfl) ?_
  show JW _ _ _ _ _ _ _ _ (j_put M a (.inr (11, [.int (m + 1), .ref e, .int (nI n)])))
  refine j_aload_n dJ2_add_10 rfl rfl ?_
  refine j_aload_n dJ2_add_11 rfl rfl ?_
  refine j_aload_n dJ2_add_12 rfl rfl ?_
  refine j_get dJ2_add_13 fd_J2_9_11 j_peq rfl ?_
  refine j_aload_n dJ2_add_16 rfl rfl ?_
  refine j_get dJ2_add_17 fd_J2_48_11 j_peq rfl ?_
  refine j_callV (J2_add_2_m (hW.put hA) (m := m + 1) j_peq (j_pne (j_nek (M := M) hE hA (Nat.ne_of_beq_eq_false rfl)) hE) (j_pne (j_nek (M := M) hO hA (Nat.ne_of_beq_eq_false rfl)) hO) hn) dJ2_add_20 mt_J2_add_2 q915 q917 qs4 j_peq (by decide) rfl cd_J2_add_2 (Nat.le_of_ble_eq_true rfl) rfl rfl (Nat.le_of_ble_eq_true rfl) (jk_r (fun v_ M_ hp_ => ?_)) jx_r
  obtain ⟨rfl, h1_, h2_, h3_⟩ := hp_
  show JW _ _ _ _ _ _ _ [] M_
  refine j_iconst (v := 1) dJ2_add_23 (by decide) ?_
  exact j_zreturn dJ2_add_24 rfl rfl (jr_i ⟨rfl, h1_, h2_, (jFr.stepp (jFr.refl hW (N := 0) (D := 0)) hA (fun _ => Or.inl rfl)).trans h3_ (fun _ _ h => h) (fun _ _ h => h) (Nat.le_refl _) (Nat.le_refl _)⟩)

theorem J2_init_m (hW : j_wf G M) {q : Nat} (hq : M.1 q = some (.inr (11, [.int 0, .null, .int 0]))) : JM l G 3 yJ2_init wJ2_init [.ref q, .int 16] M (jr (fun v M' => v = none ∧ M'.1 q = some (.inr (11, [.int 0, .ref M.2.1, .int (nI 0)])) ∧ M'.1 M.2.1 = some (.inl (5, 16, .inr (.inr (.inr (.inr (fun _ => none)))))) ∧ jFr G (fun x => x = q) M M' 1 16)) := by
  refine JM.of pn_J2 (Nat.le_of_ble_eq_true rfl) (hW.1) ?_
  show JW l G 3 YJ2_init _ 0 [(0, .ref q), (1, .int 16)] [] M
  have hqm_ : q < M.2.1 := hW.2 _ _ hq
  refine j_aload_n dJ2_init_0 rfl rfl ?_
  refine j_callI (J1_init_a hW hq) dJ2_init_1 mt_J1_init q163 q164 rfl rfl cd_J1_init (Nat.le_of_ble_eq_true rfl) rfl rfl (Nat.le_of_ble_eq_true rfl) (jk_n ?_) jx_n
  refine j_iload_n dJ2_init_4 rfl ?_
  refine j_if_le (tgt := 19) dJ2_init_5 (by decide) (fun c5 => ?_) (fun c5 => ?_)
  · exact absurd c5 (by decide)
  · refine j_aload_n dJ2_init_8 rfl rfl ?_
    refine j_iload_n dJ2_init_9 rfl ?_
    refine j_anew (k := 5) (n := 16) (C := "java/lang/Object") dJ2_init_10 (by decide) (fun _ => rfl) (by decide) q170 rfl (by decide) ?_
    refine j_put_ dJ2_init_13 fd_J2_9_11 cl_11 (fun r hr => ⟨(ft_11_1 r hr).1, Or.inl (ft_11_1 r hr).2.1⟩) (j_nne hW hq) (Or.inr (by decide)) rfl rfl (Nat.le_of_ble_eq_true rfl) ?_
    show JW _ _ _ _ _ _ _ _ (j_put (j_new M (.inl (5, 16, .inr (.inr (.inr (.inr (fun _ => none)))))) 16) q (.inr (11, [.int 0, .ref M.2.1, .int 0])))
    refine j_goto (tgt := 60) dJ2_init_16 (by decide) ?_
    exact j_return dJ2_init_60 rfl (jr_i ⟨rfl, j_peq, (j_pne (j_nek (M := (j_new M (.inl (5, 16, .inr (.inr (.inr (.inr (fun _ => none)))))) 16)) j_neq (j_nne hW hq) (Nat.ne_of_beq_eq_false rfl)) j_neq), (jFr.stepp (jFr.stepn (jFr.refl hW (N := 0) (D := 0))) (j_nne hW hq) (fun _ => rfl))⟩)

end K7
