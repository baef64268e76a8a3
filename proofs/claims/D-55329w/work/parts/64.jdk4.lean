section J4
variable {l : Launch} {G : j_G} {M : j_M}
theorem J4_unlink_m (hW : j_wf G M) {q len : Nat} {m : Int32} {nd it : Nat → Nat} (hL : LL M q m nd it len) {i : Nat} (hi : i < len) : JM l G 0 yJ4_unlink wJ4_unlink [.ref q, .ref (nd i)] M (jr (fun v M' => v = some (.ref (it i)) ∧ LL M' q (m + 1) (ldel nd i) (ldel it i) (len - 1) ∧ jFr G (fun a => a = q ∨ ∃ j, j < len ∧ a = nd j) M M' 0 0)) := by
  refine JM.of pn_J4 (Nat.le_of_ble_eq_true rfl) (hW.1) ?_
  show JW l G 0 YJ4_unlink _ 0 [(0, .ref q), (1, .ref (nd i))] [] M
  have hF_ : ∀ j, j < len → M.1 (nd j) = some (lnode nd it len j) := hL.2.1
  rcases i with _ | p
  · by_cases hn : 0 + 1 < len
    · have hi_ : M.1 (nd 0) = some (.inr (19, [.ref (it 0), .ref (nd (0 + 1)), .null])) := by
        rw [hF_ 0 hi]; show some (Sum.inr (19, [.ref (it 0), va_rf (lk nd len (0 + 1)), va_rf (lp nd 0)])) = _
        rw [rf_in hn]; rfl
      have hn_ : M.1 (nd (0 + 1)) = some (.inr (19, [.ref (it (0 + 1)), va_rf (lk nd len (0 + 2)), .ref (nd 0)])) := hF_ (0 + 1) hn
      have ne2_ : nd (0 + 1) ≠ nd 0 := fun h => absurd (hL.2.2 _ _ hn hi h) (by omega)
      refine j_aload_n dJ4_unlink_0 rfl rfl ?_
      refine j_get dJ4_unlink_1 fd_J4_39_19 hi_ rfl ?_
      refine j_astore_n dJ4_unlink_4 rfl (by decide) rfl ?_
      refine j_aload_n dJ4_unlink_5 rfl rfl ?_
      refine j_get dJ4_unlink_6 fd_J4_36_19 hi_ rfl ?_
      refine j_astore_n dJ4_unlink_9 rfl (by decide) rfl ?_
      refine j_aload_n dJ4_unlink_10 rfl rfl ?_
      refine j_get dJ4_unlink_11 fd_J4_30_19 hi_ rfl ?_
      refine j_astore dJ4_unlink_14 rfl (by decide) rfl ?_
      refine j_aload dJ4_unlink_16 rfl rfl ?_
      refine j_ifnonnullN dJ4_unlink_18 ?_
      refine j_aload_n dJ4_unlink_21 rfl rfl ?_
      refine j_aload_n dJ4_unlink_22 rfl rfl ?_
      refine j_put_ dJ4_unlink_23 fd_J4_18_12 cl_12 (fun r hr => ⟨(ft_12_2 r hr).1, Or.inl (ft_12_2 r hr).2.1⟩) hL.1 (Or.inr (by decide)) rfl rfl (Nat.le_of_ble_eq_true rfl) ?_
      show JW _ _ _ _ _ _ _ _ (j_put M q (.inr (12, [.int m, .int (nI len), .ref (nd (0 + 1)), va_rf (lp nd len)])))
      refine j_goto (tgt := 40) dJ4_unlink_26 (by decide) ?_
      refine j_aload_n dJ4_unlink_40 rfl rfl ?_
      refine j_ifnonnull (tgt := 53) dJ4_unlink_41 (by decide) ?_
      refine j_aload_n dJ4_unlink_53 rfl rfl ?_
      refine j_aload dJ4_unlink_54 rfl rfl ?_
      refine j_put_ dJ4_unlink_56 fd_J4_30_19 cl_19 (fun r hr => ⟨(ft_19_2 r hr).1, Or.inl (ft_19_2 r hr).2.1⟩) (j_pne (j_nek (M := M) hn_ hL.1 (Nat.ne_of_beq_eq_false rfl)) hn_) (Or.inr (by decide)) rfl rfl (Nat.le_of_ble_eq_true rfl) ?_
      show JW _ _ _ _ _ _ _ _ (j_put (j_put M q (.inr (12, [.int m, .int (nI len), .ref (nd (0 + 1)), va_rf (lp nd len)]))) (nd (0 + 1)) (.inr (19, [.ref (it (0 + 1)), va_rf (lk nd len (0 + 2)), .null])))
      refine j_aload_n dJ4_unlink_59 rfl rfl ?_
      refine j_null dJ4_unlink_60 ?_
      refine j_put_ dJ4_unlink_61 fd_J4_36_19 cl_19 (fun r hr => ⟨(ft_19_1 r hr).1, Or.inl (ft_19_1 r hr).2.1⟩) (j_pne (Ne.symm ne2_) (j_pne (j_nek (M := M) hi_ hL.1 (Nat.ne_of_beq_eq_false rfl)) hi_)) (Or.inr (by decide)) rfl rfl (Nat.le_of_ble_eq_true rfl) ?_
      show JW _ _ _ _ _ _ _ _ (j_put (j_put (j_put M q (.inr (12, [.int m, .int (nI len), .ref (nd (0 + 1)), va_rf (lp nd len)]))) (nd (0 + 1)) (.inr (19, [.ref (it (0 + 1)), va_rf (lk nd len (0 + 2)), .null]))) (nd 0) (.inr (19, [.ref (it 0), .null, .null])))
      refine j_aload_n dJ4_unlink_64 rfl rfl ?_
      refine j_null dJ4_unlink_65 ?_
      refine j_put_ dJ4_unlink_66 fd_J4_39_19 cl_19 (fun r hr => ⟨(ft_19_0 r hr).1, Or.inl (ft_19_0 r hr).2.1⟩) j_peq (Or.inr (by decide)) rfl rfl (Nat.le_of_ble_eq_true rfl) ?_
      rw [j_pp]
      show JW _ _ _ _ _ _ _ _ (j_put (j_put (j_put M q (.inr (12, [.int m, .int (nI len), .ref (nd (0 + 1)), va_rf (lp nd len)]))) (nd (0 + 1)) (.inr (19, [.ref (it (0 + 1)), va_rf (lk nd len (0 + 2)), .null]))) (nd 0) (.inr (19, [.null, .null, .null])))
      refine j_aload_n dJ4_unlink_69 rfl rfl ?_
      refine j_dup dJ4_unlink_70 rfl ?_
      refine j_get dJ4_unlink_71 fd_J4_7_12 (j_pne (j_nek (M := (j_put (j_put M q (.inr (12, [.int m, .int (nI len), .ref (nd (0 + 1)), va_rf (lp nd len)]))) (nd (0 + 1)) (.inr (19, [.ref (it (0 + 1)), va_rf (lk nd len (0 + 2)), .null])))) (j_pne (j_nek (M := (j_put M q (.inr (12, [.int m, .int (nI len), .ref (nd (0 + 1)), va_rf (lp nd len)])))) j_peq (j_pne (j_nek (M := M) hn_ hL.1 (Nat.ne_of_beq_eq_false rfl)) hn_) (Nat.ne_of_beq_eq_false rfl)) j_peq) (j_pne (Ne.symm ne2_) (j_pne (j_nek (M := M) hi_ hL.1 (Nat.ne_of_beq_eq_false rfl)) hi_)) (Nat.ne_of_beq_eq_false rfl)) (j_pne (j_nek (M := (j_put M q (.inr (12, [.int m, .int (nI len), .ref (nd (0 + 1)), va_rf (lp nd len)])))) j_peq (j_pne (j_nek (M := M) hn_ hL.1 (Nat.ne_of_beq_eq_false rfl)) hn_) (Nat.ne_of_beq_eq_false rfl)) j_peq)) rfl ?_
      refine j_iconst (v := 1) dJ4_unlink_74 (by decide) ?_
      refine j_isub dJ4_unlink_75 ?_
      rw [show (((nI len) - 1)) = (nI (len - 1)) from nI_dec (by omega)]
      refine j_put_ dJ4_unlink_76 fd_J4_7_12 cl_12 (fun r hr => ⟨(ft_12_1 r hr).1, Or.inl (ft_12_1 r hr).2.1⟩) (j_pne (j_nek (M := (j_put (j_put M q (.inr (12, [.int m, .int (nI len), .ref (nd (0 + 1)), va_rf (lp nd len)]))) (nd (0 + 1)) (.inr (19, [.ref (it (0 + 1)), va_rf (lk nd len (0 + 2)), .null])))) (j_pne (j_nek (M := (j_put M q (.inr (12, [.int m, .int (nI len), .ref (nd (0 + 1)), va_rf (lp nd len)])))) j_peq (j_pne (j_nek (M := M) hn_ hL.1 (Nat.ne_of_beq_eq_false rfl)) hn_) (Nat.ne_of_beq_eq_false rfl)) j_peq) (j_pne (Ne.symm ne2_) (j_pne (j_nek (M := M) hi_ hL.1 (Nat.ne_of_beq_eq_false rfl)) hi_)) (Nat.ne_of_beq_eq_false rfl)) (j_pne (j_nek (M := (j_put M q (.inr (12, [.int m, .int (nI len), .ref (nd (0 + 1)), va_rf (lp nd len)])))) j_peq (j_pne (j_nek (M := M) hn_ hL.1 (Nat.ne_of_beq_eq_false rfl)) hn_) (Nat.ne_of_beq_eq_false rfl)) j_peq)) (Or.inr (by decide)) rfl rfl (Nat.le_of_ble_eq_true rfl) ?_
      show JW _ _ _ _ _ _ _ _ (j_put (j_put (j_put (j_put M q (.inr (12, [.int m, .int (nI len), .ref (nd (0 + 1)), va_rf (lp nd len)]))) (nd (0 + 1)) (.inr (19, [.ref (it (0 + 1)), va_rf (lk nd len (0 + 2)), .null]))) (nd 0) (.inr (19, [.null, .null, .null]))) q (.inr (12, [.int m, .int (nI (len - 1)), .ref (nd (0 + 1)), va_rf (lp nd len)])))
      refine j_aload_n dJ4_unlink_79 rfl rfl ?_
      refine j_dup dJ4_unlink_80 rfl ?_
      refine j_get dJ4_unlink_81 fd_J4_33_12 j_peq rfl ?_
      refine j_iconst (v := 1) dJ4_unlink_84 (by decide) ?_
      refine j_iadd dJ4_unlink_85 ?_
      refine j_put_ dJ4_unlink_86 fd_J4_33_12 cl_12 (fun r hr => ⟨(ft_12_0 r hr).1, Or.inl (ft_12_0 r hr).2.1⟩) j_peq (Or.inr (by decide)) rfl rfl (Nat.le_of_ble_eq_true rfl) ?_
      rw [j_pp]
      show JW _ _ _ _ _ _ _ _ (j_put (j_put (j_put (j_put M q (.inr (12, [.int m, .int (nI len), .ref (nd (0 + 1)), va_rf (lp nd len)]))) (nd (0 + 1)) (.inr (19, [.ref (it (0 + 1)), va_rf (lk nd len (0 + 2)), .null]))) (nd 0) (.inr (19, [.null, .null, .null]))) q (.inr (12, [.int (m + 1), .int (nI (len - 1)), .ref (nd (0 + 1)), va_rf (lp nd len)])))
      refine j_aload_n dJ4_unlink_89 rfl rfl ?_
      have fr_ : jFr G (fun a => a = q ∨ ∃ j, j < len ∧ a = nd j ∧ (j = 0 ∨ j + 1 = 0 ∨ j = 0 + 1)) M (j_put (j_put (j_put (j_put M q (.inr (12, [.int m, .int (nI len), .ref (nd (0 + 1)), va_rf (lp nd len)]))) (nd (0 + 1)) (.inr (19, [.ref (it (0 + 1)), va_rf (lk nd len (0 + 2)), .null]))) (nd 0) (.inr (19, [.null, .null, .null]))) q (.inr (12, [.int (m + 1), .int (nI (len - 1)), .ref (nd (0 + 1)), va_rf (lp nd len)]))) 0 0 := (jFr.stepp (jFr.stepp (jFr.stepp (jFr.stepp (jFr.refl hW (N := 0) (D := 0)) hL.1 (fun _ => Or.inl rfl)) (j_pne (j_nek (M := M) hn_ hL.1 (Nat.ne_of_beq_eq_false rfl)) hn_) (fun _ => Or.inr ⟨0 + 1, hn, rfl, Or.inr (Or.inr rfl)⟩)) (j_pne (Ne.symm ne2_) (j_pne (j_nek (M := M) hi_ hL.1 (Nat.ne_of_beq_eq_false rfl)) hi_)) (fun _ => Or.inr ⟨0, hi, rfl, Or.inl rfl⟩)) (j_pne (j_nek (M := (j_put (j_put M q (.inr (12, [.int m, .int (nI len), .ref (nd (0 + 1)), va_rf (lp nd len)]))) (nd (0 + 1)) (.inr (19, [.ref (it (0 + 1)), va_rf (lk nd len (0 + 2)), .null])))) (j_pne (j_nek (M := (j_put M q (.inr (12, [.int m, .int (nI len), .ref (nd (0 + 1)), va_rf (lp nd len)])))) j_peq (j_pne (j_nek (M := M) hn_ hL.1 (Nat.ne_of_beq_eq_false rfl)) hn_) (Nat.ne_of_beq_eq_false rfl)) j_peq) (j_pne (Ne.symm ne2_) (j_pne (j_nek (M := M) hi_ hL.1 (Nat.ne_of_beq_eq_false rfl)) hi_)) (Nat.ne_of_beq_eq_false rfl)) (j_pne (j_nek (M := (j_put M q (.inr (12, [.int m, .int (nI len), .ref (nd (0 + 1)), va_rf (lp nd len)])))) j_peq (j_pne (j_nek (M := M) hn_ hL.1 (Nat.ne_of_beq_eq_false rfl)) hn_) (Nat.ne_of_beq_eq_false rfl)) j_peq)) (fun _ => Or.inl rfl))
      have e1_ : va_rf (if 0 = 0 then lk nd len 1 else lk nd len 0) = .ref (nd (0 + 1)) := by rw [if_pos rfl, rf_in hn]
      have e2_ : va_rf (if 0 + 1 = len then lp nd 0 else lp nd len) = va_rf (lp nd len) := by rw [if_neg (by omega)]
      exact j_areturn dJ4_unlink_90 rfl rfl rfl (jr_i ⟨rfl, LL.rem hL hi (by rw [e1_, e2_]; exact j_peq) (fun h => absurd h (Nat.lt_irrefl _)) (fun _ => (j_pne (j_nek (M := (j_put (j_put (j_put M q (.inr (12, [.int m, .int (nI len), .ref (nd (0 + 1)), va_rf (lp nd len)]))) (nd (0 + 1)) (.inr (19, [.ref (it (0 + 1)), va_rf (lk nd len (0 + 2)), .null]))) (nd 0) (.inr (19, [.null, .null, .null])))) (j_pne ne2_ j_peq) (j_pne (j_nek (M := (j_put (j_put M q (.inr (12, [.int m, .int (nI len), .ref (nd (0 + 1)), va_rf (lp nd len)]))) (nd (0 + 1)) (.inr (19, [.ref (it (0 + 1)), va_rf (lk nd len (0 + 2)), .null])))) (j_pne (j_nek (M := (j_put M q (.inr (12, [.int m, .int (nI len), .ref (nd (0 + 1)), va_rf (lp nd len)])))) j_peq (j_pne (j_nek (M := M) hn_ hL.1 (Nat.ne_of_beq_eq_false rfl)) hn_) (Nat.ne_of_beq_eq_false rfl)) j_peq) (j_pne (Ne.symm ne2_) (j_pne (j_nek (M := M) hi_ hL.1 (Nat.ne_of_beq_eq_false rfl)) hi_)) (Nat.ne_of_beq_eq_false rfl)) (j_pne (j_nek (M := (j_put M q (.inr (12, [.int m, .int (nI len), .ref (nd (0 + 1)), va_rf (lp nd len)])))) j_peq (j_pne (j_nek (M := M) hn_ hL.1 (Nat.ne_of_beq_eq_false rfl)) hn_) (Nat.ne_of_beq_eq_false rfl)) j_peq)) (Nat.ne_of_beq_eq_false rfl)) (j_pne ne2_ j_peq))) (fun j hj h1 h2 h3 => fr_.2.2 (nd j) (hW.2 _ _ (hF_ j hj)) (fun h => h.elim (fun h => j_nek (M := M) (hF_ j hj) hL.1 (Nat.ne_of_beq_eq_false rfl) h) (fun ⟨k, hk, e, c⟩ => by have := hL.2.2 j k hj hk e; omega))), fr_.mono (fun a _ h => h.elim Or.inl (fun ⟨k, hk, e, _⟩ => Or.inr ⟨k, hk, e⟩)) (Nat.le_refl _) (Nat.le_refl _)⟩)
    · have hi_ : M.1 (nd 0) = some (.inr (19, [.ref (it 0), .null, .null])) := by
        rw [hF_ 0 hi]; show some (Sum.inr (19, [.ref (it 0), va_rf (lk nd len (0 + 1)), va_rf (lp nd 0)])) = _
        rw [rf_out (by omega)]; rfl
      refine j_aload_n dJ4_unlink_0 rfl rfl ?_
      refine j_get dJ4_unlink_1 fd_J4_39_19 hi_ rfl ?_
      refine j_astore_n dJ4_unlink_4 rfl (by decide) rfl ?_
      refine j_aload_n dJ4_unlink_5 rfl rfl ?_
      refine j_get dJ4_unlink_6 fd_J4_36_19 hi_ rfl ?_
      refine j_astore_n dJ4_unlink_9 rfl (by decide) rfl ?_
      refine j_aload_n dJ4_unlink_10 rfl rfl ?_
      refine j_get dJ4_unlink_11 fd_J4_30_19 hi_ rfl ?_
      refine j_astore dJ4_unlink_14 rfl (by decide) rfl ?_
      refine j_aload dJ4_unlink_16 rfl rfl ?_
      refine j_ifnonnullN dJ4_unlink_18 ?_
      refine j_aload_n dJ4_unlink_21 rfl rfl ?_
      refine j_aload_n dJ4_unlink_22 rfl rfl ?_
      refine j_put_ dJ4_unlink_23 fd_J4_18_12 cl_12 (fun r hr => ⟨(ft_12_2 r hr).1, Or.inl (ft_12_2 r hr).2.1⟩) hL.1 (Or.inr (by decide)) rfl rfl (Nat.le_of_ble_eq_true rfl) ?_
      show JW _ _ _ _ _ _ _ _ (j_put M q (.inr (12, [.int m, .int (nI len), .null, va_rf (lp nd len)])))
      refine j_goto (tgt := 40) dJ4_unlink_26 (by decide) ?_
      refine j_aload_n dJ4_unlink_40 rfl rfl ?_
      refine j_ifnonnullN dJ4_unlink_41 ?_
      refine j_aload_n dJ4_unlink_44 rfl rfl ?_
      refine j_aload dJ4_unlink_45 rfl rfl ?_
      refine j_put_ dJ4_unlink_47 fd_J4_27_12 cl_12 (fun r hr => ⟨(ft_12_3 r hr).1, Or.inl (ft_12_3 r hr).2.1⟩) j_peq (Or.inr (by decide)) rfl rfl (Nat.le_of_ble_eq_true rfl) ?_
      rw [j_pp]
      show JW _ _ _ _ _ _ _ _ (j_put M q (.inr (12, [.int m, .int (nI len), .null, .null])))
      refine j_goto (tgt := 64) dJ4_unlink_50 (by decide) ?_
      refine j_aload_n dJ4_unlink_64 rfl rfl ?_
      refine j_null dJ4_unlink_65 ?_
      refine j_put_ dJ4_unlink_66 fd_J4_39_19 cl_19 (fun r hr => ⟨(ft_19_0 r hr).1, Or.inl (ft_19_0 r hr).2.1⟩) (j_pne (j_nek (M := M) hi_ hL.1 (Nat.ne_of_beq_eq_false rfl)) hi_) (Or.inr (by decide)) rfl rfl (Nat.le_of_ble_eq_true rfl) ?_
      show JW _ _ _ _ _ _ _ _ (j_put (j_put M q (.inr (12, [.int m, .int (nI len), .null, .null]))) (nd 0) (.inr (19, [.null, .null, .null])))
      refine j_aload_n dJ4_unlink_69 rfl rfl ?_
      refine j_dup dJ4_unlink_70 rfl ?_
      refine j_get dJ4_unlink_71 fd_J4_7_12 (j_pne (j_nek (M := (j_put M q (.inr (12, [.int m, .int (nI len), .null, .null])))) j_peq (j_pne (j_nek (M := M) hi_ hL.1 (Nat.ne_of_beq_eq_false rfl)) hi_) (Nat.ne_of_beq_eq_false rfl)) j_peq) rfl ?_
      refine j_iconst (v := 1) dJ4_unlink_74 (by decide) ?_
      refine j_isub dJ4_unlink_75 ?_
      rw [show (((nI len) - 1)) = (nI (len - 1)) from nI_dec (by omega)]
      refine j_put_ dJ4_unlink_76 fd_J4_7_12 cl_12 (fun r hr => ⟨(ft_12_1 r hr).1, Or.inl (ft_12_1 r hr).2.1⟩) (j_pne (j_nek (M := (j_put M q (.inr (12, [.int m, .int (nI len), .null, .null])))) j_peq (j_pne (j_nek (M := M) hi_ hL.1 (Nat.ne_of_beq_eq_false rfl)) hi_) (Nat.ne_of_beq_eq_false rfl)) j_peq) (Or.inr (by decide)) rfl rfl (Nat.le_of_ble_eq_true rfl) ?_
      show JW _ _ _ _ _ _ _ _ (j_put (j_put (j_put M q (.inr (12, [.int m, .int (nI len), .null, .null]))) (nd 0) (.inr (19, [.null, .null, .null]))) q (.inr (12, [.int m, .int (nI (len - 1)), .null, .null])))
      refine j_aload_n dJ4_unlink_79 rfl rfl ?_
      refine j_dup dJ4_unlink_80 rfl ?_
      refine j_get dJ4_unlink_81 fd_J4_33_12 j_peq rfl ?_
      refine j_iconst (v := 1) dJ4_unlink_84 (by decide) ?_
      refine j_iadd dJ4_unlink_85 ?_
      refine j_put_ dJ4_unlink_86 fd_J4_33_12 cl_12 (fun r hr => ⟨(ft_12_0 r hr).1, Or.inl (ft_12_0 r hr).2.1⟩) j_peq (Or.inr (by decide)) rfl rfl (Nat.le_of_ble_eq_true rfl) ?_
      rw [j_pp]
      show JW _ _ _ _ _ _ _ _ (j_put (j_put (j_put M q (.inr (12, [.int m, .int (nI len), .null, .null]))) (nd 0) (.inr (19, [.null, .null, .null]))) q (.inr (12, [.int (m + 1), .int (nI (len - 1)), .null, .null])))
      refine j_aload_n dJ4_unlink_89 rfl rfl ?_
      have fr_ : jFr G (fun a => a = q ∨ ∃ j, j < len ∧ a = nd j ∧ (j = 0 ∨ j + 1 = 0 ∨ j = 0 + 1)) M (j_put (j_put (j_put M q (.inr (12, [.int m, .int (nI len), .null, .null]))) (nd 0) (.inr (19, [.null, .null, .null]))) q (.inr (12, [.int (m + 1), .int (nI (len - 1)), .null, .null]))) 0 0 := (jFr.stepp (jFr.stepp (jFr.stepp (jFr.refl hW (N := 0) (D := 0)) hL.1 (fun _ => Or.inl rfl)) (j_pne (j_nek (M := M) hi_ hL.1 (Nat.ne_of_beq_eq_false rfl)) hi_) (fun _ => Or.inr ⟨0, hi, rfl, Or.inl rfl⟩)) (j_pne (j_nek (M := (j_put M q (.inr (12, [.int m, .int (nI len), .null, .null])))) j_peq (j_pne (j_nek (M := M) hi_ hL.1 (Nat.ne_of_beq_eq_false rfl)) hi_) (Nat.ne_of_beq_eq_false rfl)) j_peq) (fun _ => Or.inl rfl))
      have e1_ : va_rf (if 0 = 0 then lk nd len 1 else lk nd len 0) = .null := by rw [if_pos rfl, rf_out (by omega)]
      have e2_ : va_rf (if 0 + 1 = len then lp nd 0 else lp nd len) = .null := by rw [if_pos (by omega)]; rfl
      exact j_areturn dJ4_unlink_90 rfl rfl rfl (jr_i ⟨rfl, LL.rem hL hi (by rw [e1_, e2_]; exact j_peq) (fun h => absurd h (Nat.lt_irrefl _)) (fun h => absurd h (by omega)) (fun j hj h1 h2 h3 => fr_.2.2 (nd j) (hW.2 _ _ (hF_ j hj)) (fun h => h.elim (fun h => j_nek (M := M) (hF_ j hj) hL.1 (Nat.ne_of_beq_eq_false rfl) h) (fun ⟨k, hk, e, c⟩ => by have := hL.2.2 j k hj hk e; omega))), fr_.mono (fun a _ h => h.elim Or.inl (fun ⟨k, hk, e, _⟩ => Or.inr ⟨k, hk, e⟩)) (Nat.le_refl _) (Nat.le_refl _)⟩)
  · by_cases hn : p + 1 + 1 < len
    · have hi_ : M.1 (nd (p + 1)) = some (.inr (19, [.ref (it (p + 1)), .ref (nd ((p + 1) + 1)), .ref (nd p)])) := by
        rw [hF_ (p + 1) hi]; show some (Sum.inr (19, [.ref (it (p + 1)), va_rf (lk nd len ((p + 1) + 1)), va_rf (lp nd (p + 1))])) = _
        rw [rf_in hn]; rfl
      have hp_ : M.1 (nd p) = some (.inr (19, [.ref (it p), .ref (nd (p + 1)), va_rf (lp nd p)])) := by
        rw [hF_ p (by omega)]; show some (Sum.inr (19, [.ref (it p), va_rf (lk nd len (p + 1)), va_rf (lp nd p)])) = _
        rw [rf_in hi]
      have ne1_ : nd p ≠ nd (p + 1) := fun h => absurd (hL.2.2 _ _ (by omega) hi h) (by omega)
      have hn_ : M.1 (nd ((p + 1) + 1)) = some (.inr (19, [.ref (it ((p + 1) + 1)), va_rf (lk nd len ((p + 1) + 2)), .ref (nd (p + 1))])) := hF_ ((p + 1) + 1) hn
      have ne2_ : nd ((p + 1) + 1) ≠ nd (p + 1) := fun h => absurd (hL.2.2 _ _ hn hi h) (by omega)
      have ne3_ : nd p ≠ nd ((p + 1) + 1) := fun h => absurd (hL.2.2 _ _ (by omega) hn h) (by omega)
      refine j_aload_n dJ4_unlink_0 rfl rfl ?_
      refine j_get dJ4_unlink_1 fd_J4_39_19 hi_ rfl ?_
      refine j_astore_n dJ4_unlink_4 rfl (by decide) rfl ?_
      refine j_aload_n dJ4_unlink_5 rfl rfl ?_
      refine j_get dJ4_unlink_6 fd_J4_36_19 hi_ rfl ?_
      refine j_astore_n dJ4_unlink_9 rfl (by decide) rfl ?_
      refine j_aload_n dJ4_unlink_10 rfl rfl ?_
      refine j_get dJ4_unlink_11 fd_J4_30_19 hi_ rfl ?_
      refine j_astore dJ4_unlink_14 rfl (by decide) rfl ?_
      refine j_aload dJ4_unlink_16 rfl rfl ?_
      refine j_ifnonnull (tgt := 29) dJ4_unlink_18 (by decide) ?_
      refine j_aload dJ4_unlink_29 rfl rfl ?_
      refine j_aload_n dJ4_unlink_31 rfl rfl ?_
      refine j_put_ dJ4_unlink_32 fd_J4_36_19 cl_19 (fun r hr => ⟨(ft_19_1 r hr).1, Or.inl (ft_19_1 r hr).2.1⟩) hp_ (Or.inr (by decide)) rfl rfl (Nat.le_of_ble_eq_true rfl) ?_
      show JW _ _ _ _ _ _ _ _ (j_put M (nd p) (.inr (19, [.ref (it p), .ref (nd ((p + 1) + 1)), va_rf (lp nd p)])))
      refine j_aload_n dJ4_unlink_35 rfl rfl ?_
      refine j_null dJ4_unlink_36 ?_
      refine j_put_ dJ4_unlink_37 fd_J4_30_19 cl_19 (fun r hr => ⟨(ft_19_2 r hr).1, Or.inl (ft_19_2 r hr).2.1⟩) (j_pne (Ne.symm ne1_) hi_) (Or.inr (by decide)) rfl rfl (Nat.le_of_ble_eq_true rfl) ?_
      show JW _ _ _ _ _ _ _ _ (j_put (j_put M (nd p) (.inr (19, [.ref (it p), .ref (nd ((p + 1) + 1)), va_rf (lp nd p)]))) (nd (p + 1)) (.inr (19, [.ref (it (p + 1)), .ref (nd ((p + 1) + 1)), .null])))
      refine j_aload_n dJ4_unlink_40 rfl rfl ?_
      refine j_ifnonnull (tgt := 53) dJ4_unlink_41 (by decide) ?_
      refine j_aload_n dJ4_unlink_53 rfl rfl ?_
      refine j_aload dJ4_unlink_54 rfl rfl ?_
      refine j_put_ dJ4_unlink_56 fd_J4_30_19 cl_19 (fun r hr => ⟨(ft_19_2 r hr).1, Or.inl (ft_19_2 r hr).2.1⟩) (j_pne ne2_ (j_pne (Ne.symm ne3_) hn_)) (Or.inr (by decide)) rfl rfl (Nat.le_of_ble_eq_true rfl) ?_
      show JW _ _ _ _ _ _ _ _ (j_put (j_put (j_put M (nd p) (.inr (19, [.ref (it p), .ref (nd ((p + 1) + 1)), va_rf (lp nd p)]))) (nd (p + 1)) (.inr (19, [.ref (it (p + 1)), .ref (nd ((p + 1) + 1)), .null]))) (nd ((p + 1) + 1)) (.inr (19, [.ref (it ((p + 1) + 1)), va_rf (lk nd len ((p + 1) + 2)), .ref (nd p)])))
      refine j_aload_n dJ4_unlink_59 rfl rfl ?_
      refine j_null dJ4_unlink_60 ?_
      refine j_put_ dJ4_unlink_61 fd_J4_36_19 cl_19 (fun r hr => ⟨(ft_19_1 r hr).1, Or.inl (ft_19_1 r hr).2.1⟩) (j_pne (Ne.symm ne2_) j_peq) (Or.inr (by decide)) rfl rfl (Nat.le_of_ble_eq_true rfl) ?_
      show JW _ _ _ _ _ _ _ _ (j_put (j_put (j_put (j_put M (nd p) (.inr (19, [.ref (it p), .ref (nd ((p + 1) + 1)), va_rf (lp nd p)]))) (nd (p + 1)) (.inr (19, [.ref (it (p + 1)), .ref (nd ((p + 1) + 1)), .null]))) (nd ((p + 1) + 1)) (.inr (19, [.ref (it ((p + 1) + 1)), va_rf (lk nd len ((p + 1) + 2)), .ref (nd p)]))) (nd (p + 1)) (.inr (19, [.ref (it (p + 1)), .null, .null])))
      refine j_aload_n dJ4_unlink_64 rfl rfl ?_
      refine j_null dJ4_unlink_65 ?_
      refine j_put_ dJ4_unlink_66 fd_J4_39_19 cl_19 (fun r hr => ⟨(ft_19_0 r hr).1, Or.inl (ft_19_0 r hr).2.1⟩) j_peq (Or.inr (by decide)) rfl rfl (Nat.le_of_ble_eq_true rfl) ?_
      rw [j_pp]
      show JW _ _ _ _ _ _ _ _ (j_put (j_put (j_put (j_put M (nd p) (.inr (19, [.ref (it p), .ref (nd ((p + 1) + 1)), va_rf (lp nd p)]))) (nd (p + 1)) (.inr (19, [.ref (it (p + 1)), .ref (nd ((p + 1) + 1)), .null]))) (nd ((p + 1) + 1)) (.inr (19, [.ref (it ((p + 1) + 1)), va_rf (lk nd len ((p + 1) + 2)), .ref (nd p)]))) (nd (p + 1)) (.inr (19, [.null, .null, .null])))
      refine j_aload_n dJ4_unlink_69 rfl rfl ?_
      refine j_dup dJ4_unlink_70 rfl ?_
      refine j_get dJ4_unlink_71 fd_J4_7_12 (j_pne (j_nek (M := (j_put (j_put (j_put M (nd p) (.inr (19, [.ref (it p), .ref (nd ((p + 1) + 1)), va_rf (lp nd p)]))) (nd (p + 1)) (.inr (19, [.ref (it (p + 1)), .ref (nd ((p + 1) + 1)), .null]))) (nd ((p + 1) + 1)) (.inr (19, [.ref (it ((p + 1) + 1)), va_rf (lk nd len ((p + 1) + 2)), .ref (nd p)])))) (j_pne (j_nek (M := (j_put (j_put M (nd p) (.inr (19, [.ref (it p), .ref (nd ((p + 1) + 1)), va_rf (lp nd p)]))) (nd (p + 1)) (.inr (19, [.ref (it (p + 1)), .ref (nd ((p + 1) + 1)), .null])))) (j_pne (j_nek (M := (j_put M (nd p) (.inr (19, [.ref (it p), .ref (nd ((p + 1) + 1)), va_rf (lp nd p)])))) (j_pne (j_nek (M := M) hL.1 hp_ (Nat.ne_of_beq_eq_false rfl)) hL.1) (j_pne (Ne.symm ne1_) hi_) (Nat.ne_of_beq_eq_false rfl)) (j_pne (j_nek (M := M) hL.1 hp_ (Nat.ne_of_beq_eq_false rfl)) hL.1)) (j_pne ne2_ (j_pne (Ne.symm ne3_) hn_)) (Nat.ne_of_beq_eq_false rfl)) (j_pne (j_nek (M := (j_put M (nd p) (.inr (19, [.ref (it p), .ref (nd ((p + 1) + 1)), va_rf (lp nd p)])))) (j_pne (j_nek (M := M) hL.1 hp_ (Nat.ne_of_beq_eq_false rfl)) hL.1) (j_pne (Ne.symm ne1_) hi_) (Nat.ne_of_beq_eq_false rfl)) (j_pne (j_nek (M := M) hL.1 hp_ (Nat.ne_of_beq_eq_false rfl)) hL.1))) (j_pne (Ne.symm ne2_) j_peq) (Nat.ne_of_beq_eq_false rfl)) (j_pne (j_nek (M := (j_put (j_put M (nd p) (.inr (19, [.ref (it p), .ref (nd ((p + 1) + 1)), va_rf (lp nd p)]))) (nd (p + 1)) (.inr (19, [.ref (it (p + 1)), .ref (nd ((p + 1) + 1)), .null])))) (j_pne (j_nek (M := (j_put M (nd p) (.inr (19, [.ref (it p), .ref (nd ((p + 1) + 1)), va_rf (lp nd p)])))) (j_pne (j_nek (M := M) hL.1 hp_ (Nat.ne_of_beq_eq_false rfl)) hL.1) (j_pne (Ne.symm ne1_) hi_) (Nat.ne_of_beq_eq_false rfl)) (j_pne (j_nek (M := M) hL.1 hp_ (Nat.ne_of_beq_eq_false rfl)) hL.1)) (j_pne ne2_ (j_pne (Ne.symm ne3_) hn_)) (Nat.ne_of_beq_eq_false rfl)) (j_pne (j_nek (M := (j_put M (nd p) (.inr (19, [.ref (it p), .ref (nd ((p + 1) + 1)), va_rf (lp nd p)])))) (j_pne (j_nek (M := M) hL.1 hp_ (Nat.ne_of_beq_eq_false rfl)) hL.1) (j_pne (Ne.symm ne1_) hi_) (Nat.ne_of_beq_eq_false rfl)) (j_pne (j_nek (M := M) hL.1 hp_ (Nat.ne_of_beq_eq_false rfl)) hL.1)))) rfl ?_
      refine j_iconst (v := 1) dJ4_unlink_74 (by decide) ?_
      refine j_isub dJ4_unlink_75 ?_
      rw [show (((nI len) - 1)) = (nI (len - 1)) from nI_dec (by omega)]
      refine j_put_ dJ4_unlink_76 fd_J4_7_12 cl_12 (fun r hr => ⟨(ft_12_1 r hr).1, Or.inl (ft_12_1 r hr).2.1⟩) (j_pne (j_nek (M := (j_put (j_put (j_put M (nd p) (.inr (19, [.ref (it p), .ref (nd ((p + 1) + 1)), va_rf (lp nd p)]))) (nd (p + 1)) (.inr (19, [.ref (it (p + 1)), .ref (nd ((p + 1) + 1)), .null]))) (nd ((p + 1) + 1)) (.inr (19, [.ref (it ((p + 1) + 1)), va_rf (lk nd len ((p + 1) + 2)), .ref (nd p)])))) (j_pne (j_nek (M := (j_put (j_put M (nd p) (.inr (19, [.ref (it p), .ref (nd ((p + 1) + 1)), va_rf (lp nd p)]))) (nd (p + 1)) (.inr (19, [.ref (it (p + 1)), .ref (nd ((p + 1) + 1)), .null])))) (j_pne (j_nek (M := (j_put M (nd p) (.inr (19, [.ref (it p), .ref (nd ((p + 1) + 1)), va_rf (lp nd p)])))) (j_pne (j_nek (M := M) hL.1 hp_ (Nat.ne_of_beq_eq_false rfl)) hL.1) (j_pne (Ne.symm ne1_) hi_) (Nat.ne_of_beq_eq_false rfl)) (j_pne (j_nek (M := M) hL.1 hp_ (Nat.ne_of_beq_eq_false rfl)) hL.1)) (j_pne ne2_ (j_pne (Ne.symm ne3_) hn_)) (Nat.ne_of_beq_eq_false rfl)) (j_pne (j_nek (M := (j_put M (nd p) (.inr (19, [.ref (it p), .ref (nd ((p + 1) + 1)), va_rf (lp nd p)])))) (j_pne (j_nek (M := M) hL.1 hp_ (Nat.ne_of_beq_eq_false rfl)) hL.1) (j_pne (Ne.symm ne1_) hi_) (Nat.ne_of_beq_eq_false rfl)) (j_pne (j_nek (M := M) hL.1 hp_ (Nat.ne_of_beq_eq_false rfl)) hL.1))) (j_pne (Ne.symm ne2_) j_peq) (Nat.ne_of_beq_eq_false rfl)) (j_pne (j_nek (M := (j_put (j_put M (nd p) (.inr (19, [.ref (it p), .ref (nd ((p + 1) + 1)), va_rf (lp nd p)]))) (nd (p + 1)) (.inr (19, [.ref (it (p + 1)), .ref (nd ((p + 1) + 1)), .null])))) (j_pne (j_nek (M := (j_put M (nd p) (.inr (19, [.ref (it p), .ref (nd ((p + 1) + 1)), va_rf (lp nd p)])))) (j_pne (j_nek (M := M) hL.1 hp_ (Nat.ne_of_beq_eq_false rfl)) hL.1) (j_pne (Ne.symm ne1_) hi_) (Nat.ne_of_beq_eq_false rfl)) (j_pne (j_nek (M := M) hL.1 hp_ (Nat.ne_of_beq_eq_false rfl)) hL.1)) (j_pne ne2_ (j_pne (Ne.symm ne3_) hn_)) (Nat.ne_of_beq_eq_false rfl)) (j_pne (j_nek (M := (j_put M (nd p) (.inr (19, [.ref (it p), .ref (nd ((p + 1) + 1)), va_rf (lp nd p)])))) (j_pne (j_nek (M := M) hL.1 hp_ (Nat.ne_of_beq_eq_false rfl)) hL.1) (j_pne (Ne.symm ne1_) hi_) (Nat.ne_of_beq_eq_false rfl)) (j_pne (j_nek (M := M) hL.1 hp_ (Nat.ne_of_beq_eq_false rfl)) hL.1)))) (Or.inr (by decide)) rfl rfl (Nat.le_of_ble_eq_true rfl) ?_
      show JW _ _ _ _ _ _ _ _ (j_put (j_put (j_put (j_put (j_put M (nd p) (.inr (19, [.ref (it p), .ref (nd ((p + 1) + 1)), va_rf (lp nd p)]))) (nd (p + 1)) (.inr (19, [.ref (it (p + 1)), .ref (nd ((p + 1) + 1)), .null]))) (nd ((p + 1) + 1)) (.inr (19, [.ref (it ((p + 1) + 1)), va_rf (lk nd len ((p + 1) + 2)), .ref (nd p)]))) (nd (p + 1)) (.inr (19, [.null, .null, .null]))) q (.inr (12, [.int m, .int (nI (len - 1)), va_rf (lk nd len 0), va_rf (lp nd len)])))
      refine j_aload_n dJ4_unlink_79 rfl rfl ?_
      refine j_dup dJ4_unlink_80 rfl ?_
      refine j_get dJ4_unlink_81 fd_J4_33_12 j_peq rfl ?_
      refine j_iconst (v := 1) dJ4_unlink_84 (by decide) ?_
      refine j_iadd dJ4_unlink_85 ?_
      refine j_put_ dJ4_unlink_86 fd_J4_33_12 cl_12 (fun r hr => ⟨(ft_12_0 r hr).1, Or.inl (ft_12_0 r hr).2.1⟩) j_peq (Or.inr (by decide)) rfl rfl (Nat.le_of_ble_eq_true rfl) ?_
      rw [j_pp]
      show JW _ _ _ _ _ _ _ _ (j_put (j_put (j_put (j_put (j_put M (nd p) (.inr (19, [.ref (it p), .ref (nd ((p + 1) + 1)), va_rf (lp nd p)]))) (nd (p + 1)) (.inr (19, [.ref (it (p + 1)), .ref (nd ((p + 1) + 1)), .null]))) (nd ((p + 1) + 1)) (.inr (19, [.ref (it ((p + 1) + 1)), va_rf (lk nd len ((p + 1) + 2)), .ref (nd p)]))) (nd (p + 1)) (.inr (19, [.null, .null, .null]))) q (.inr (12, [.int (m + 1), .int (nI (len - 1)), va_rf (lk nd len 0), va_rf (lp nd len)])))
      refine j_aload_n dJ4_unlink_89 rfl rfl ?_
      have fr_ : jFr G (fun a => a = q ∨ ∃ j, j < len ∧ a = nd j ∧ (j = (p + 1) ∨ j + 1 = (p + 1) ∨ j = (p + 1) + 1)) M (j_put (j_put (j_put (j_put (j_put M (nd p) (.inr (19, [.ref (it p), .ref (nd ((p + 1) + 1)), va_rf (lp nd p)]))) (nd (p + 1)) (.inr (19, [.ref (it (p + 1)), .ref (nd ((p + 1) + 1)), .null]))) (nd ((p + 1) + 1)) (.inr (19, [.ref (it ((p + 1) + 1)), va_rf (lk nd len ((p + 1) + 2)), .ref (nd p)]))) (nd (p + 1)) (.inr (19, [.null, .null, .null]))) q (.inr (12, [.int (m + 1), .int (nI (len - 1)), va_rf (lk nd len 0), va_rf (lp nd len)]))) 0 0 := (jFr.stepp (jFr.stepp (jFr.stepp (jFr.stepp (jFr.stepp (jFr.refl hW (N := 0) (D := 0)) hp_ (fun _ => Or.inr ⟨p, by omega, rfl, Or.inr (Or.inl rfl)⟩)) (j_pne (Ne.symm ne1_) hi_) (fun _ => Or.inr ⟨(p + 1), hi, rfl, Or.inl rfl⟩)) (j_pne ne2_ (j_pne (Ne.symm ne3_) hn_)) (fun _ => Or.inr ⟨(p + 1) + 1, hn, rfl, Or.inr (Or.inr rfl)⟩)) (j_pne (Ne.symm ne2_) j_peq) (fun _ => Or.inr ⟨(p + 1), hi, rfl, Or.inl rfl⟩)) (j_pne (j_nek (M := (j_put (j_put (j_put M (nd p) (.inr (19, [.ref (it p), .ref (nd ((p + 1) + 1)), va_rf (lp nd p)]))) (nd (p + 1)) (.inr (19, [.ref (it (p + 1)), .ref (nd ((p + 1) + 1)), .null]))) (nd ((p + 1) + 1)) (.inr (19, [.ref (it ((p + 1) + 1)), va_rf (lk nd len ((p + 1) + 2)), .ref (nd p)])))) (j_pne (j_nek (M := (j_put (j_put M (nd p) (.inr (19, [.ref (it p), .ref (nd ((p + 1) + 1)), va_rf (lp nd p)]))) (nd (p + 1)) (.inr (19, [.ref (it (p + 1)), .ref (nd ((p + 1) + 1)), .null])))) (j_pne (j_nek (M := (j_put M (nd p) (.inr (19, [.ref (it p), .ref (nd ((p + 1) + 1)), va_rf (lp nd p)])))) (j_pne (j_nek (M := M) hL.1 hp_ (Nat.ne_of_beq_eq_false rfl)) hL.1) (j_pne (Ne.symm ne1_) hi_) (Nat.ne_of_beq_eq_false rfl)) (j_pne (j_nek (M := M) hL.1 hp_ (Nat.ne_of_beq_eq_false rfl)) hL.1)) (j_pne ne2_ (j_pne (Ne.symm ne3_) hn_)) (Nat.ne_of_beq_eq_false rfl)) (j_pne (j_nek (M := (j_put M (nd p) (.inr (19, [.ref (it p), .ref (nd ((p + 1) + 1)), va_rf (lp nd p)])))) (j_pne (j_nek (M := M) hL.1 hp_ (Nat.ne_of_beq_eq_false rfl)) hL.1) (j_pne (Ne.symm ne1_) hi_) (Nat.ne_of_beq_eq_false rfl)) (j_pne (j_nek (M := M) hL.1 hp_ (Nat.ne_of_beq_eq_false rfl)) hL.1))) (j_pne (Ne.symm ne2_) j_peq) (Nat.ne_of_beq_eq_false rfl)) (j_pne (j_nek (M := (j_put (j_put M (nd p) (.inr (19, [.ref (it p), .ref (nd ((p + 1) + 1)), va_rf (lp nd p)]))) (nd (p + 1)) (.inr (19, [.ref (it (p + 1)), .ref (nd ((p + 1) + 1)), .null])))) (j_pne (j_nek (M := (j_put M (nd p) (.inr (19, [.ref (it p), .ref (nd ((p + 1) + 1)), va_rf (lp nd p)])))) (j_pne (j_nek (M := M) hL.1 hp_ (Nat.ne_of_beq_eq_false rfl)) hL.1) (j_pne (Ne.symm ne1_) hi_) (Nat.ne_of_beq_eq_false rfl)) (j_pne (j_nek (M := M) hL.1 hp_ (Nat.ne_of_beq_eq_false rfl)) hL.1)) (j_pne ne2_ (j_pne (Ne.symm ne3_) hn_)) (Nat.ne_of_beq_eq_false rfl)) (j_pne (j_nek (M := (j_put M (nd p) (.inr (19, [.ref (it p), .ref (nd ((p + 1) + 1)), va_rf (lp nd p)])))) (j_pne (j_nek (M := M) hL.1 hp_ (Nat.ne_of_beq_eq_false rfl)) hL.1) (j_pne (Ne.symm ne1_) hi_) (Nat.ne_of_beq_eq_false rfl)) (j_pne (j_nek (M := M) hL.1 hp_ (Nat.ne_of_beq_eq_false rfl)) hL.1)))) (fun _ => Or.inl rfl))
      have e1_ : va_rf (if (p + 1) = 0 then lk nd len 1 else lk nd len 0) = va_rf (lk nd len 0) := by rw [if_neg (by omega)]
      have e2_ : va_rf (if (p + 1) + 1 = len then lp nd (p + 1) else lp nd len) = va_rf (lp nd len) := by rw [if_neg (by omega)]
      exact j_areturn dJ4_unlink_90 rfl rfl rfl (jr_i ⟨rfl, LL.rem hL hi (by rw [e1_, e2_]; exact j_peq) (fun _ => by rw [rf_in hn]; exact (j_pne (j_nek (M := (j_put (j_put (j_put (j_put M (nd p) (.inr (19, [.ref (it p), .ref (nd ((p + 1) + 1)), va_rf (lp nd p)]))) (nd (p + 1)) (.inr (19, [.ref (it (p + 1)), .ref (nd ((p + 1) + 1)), .null]))) (nd ((p + 1) + 1)) (.inr (19, [.ref (it ((p + 1) + 1)), va_rf (lk nd len ((p + 1) + 2)), .ref (nd p)]))) (nd (p + 1)) (.inr (19, [.null, .null, .null])))) (j_pne ne1_ (j_pne ne3_ (j_pne ne1_ j_peq))) (j_pne (j_nek (M := (j_put (j_put (j_put M (nd p) (.inr (19, [.ref (it p), .ref (nd ((p + 1) + 1)), va_rf (lp nd p)]))) (nd (p + 1)) (.inr (19, [.ref (it (p + 1)), .ref (nd ((p + 1) + 1)), .null]))) (nd ((p + 1) + 1)) (.inr (19, [.ref (it ((p + 1) + 1)), va_rf (lk nd len ((p + 1) + 2)), .ref (nd p)])))) (j_pne (j_nek (M := (j_put (j_put M (nd p) (.inr (19, [.ref (it p), .ref (nd ((p + 1) + 1)), va_rf (lp nd p)]))) (nd (p + 1)) (.inr (19, [.ref (it (p + 1)), .ref (nd ((p + 1) + 1)), .null])))) (j_pne (j_nek (M := (j_put M (nd p) (.inr (19, [.ref (it p), .ref (nd ((p + 1) + 1)), va_rf (lp nd p)])))) (j_pne (j_nek (M := M) hL.1 hp_ (Nat.ne_of_beq_eq_false rfl)) hL.1) (j_pne (Ne.symm ne1_) hi_) (Nat.ne_of_beq_eq_false rfl)) (j_pne (j_nek (M := M) hL.1 hp_ (Nat.ne_of_beq_eq_false rfl)) hL.1)) (j_pne ne2_ (j_pne (Ne.symm ne3_) hn_)) (Nat.ne_of_beq_eq_false rfl)) (j_pne (j_nek (M := (j_put M (nd p) (.inr (19, [.ref (it p), .ref (nd ((p + 1) + 1)), va_rf (lp nd p)])))) (j_pne (j_nek (M := M) hL.1 hp_ (Nat.ne_of_beq_eq_false rfl)) hL.1) (j_pne (Ne.symm ne1_) hi_) (Nat.ne_of_beq_eq_false rfl)) (j_pne (j_nek (M := M) hL.1 hp_ (Nat.ne_of_beq_eq_false rfl)) hL.1))) (j_pne (Ne.symm ne2_) j_peq) (Nat.ne_of_beq_eq_false rfl)) (j_pne (j_nek (M := (j_put (j_put M (nd p) (.inr (19, [.ref (it p), .ref (nd ((p + 1) + 1)), va_rf (lp nd p)]))) (nd (p + 1)) (.inr (19, [.ref (it (p + 1)), .ref (nd ((p + 1) + 1)), .null])))) (j_pne (j_nek (M := (j_put M (nd p) (.inr (19, [.ref (it p), .ref (nd ((p + 1) + 1)), va_rf (lp nd p)])))) (j_pne (j_nek (M := M) hL.1 hp_ (Nat.ne_of_beq_eq_false rfl)) hL.1) (j_pne (Ne.symm ne1_) hi_) (Nat.ne_of_beq_eq_false rfl)) (j_pne (j_nek (M := M) hL.1 hp_ (Nat.ne_of_beq_eq_false rfl)) hL.1)) (j_pne ne2_ (j_pne (Ne.symm ne3_) hn_)) (Nat.ne_of_beq_eq_false rfl)) (j_pne (j_nek (M := (j_put M (nd p) (.inr (19, [.ref (it p), .ref (nd ((p + 1) + 1)), va_rf (lp nd p)])))) (j_pne (j_nek (M := M) hL.1 hp_ (Nat.ne_of_beq_eq_false rfl)) hL.1) (j_pne (Ne.symm ne1_) hi_) (Nat.ne_of_beq_eq_false rfl)) (j_pne (j_nek (M := M) hL.1 hp_ (Nat.ne_of_beq_eq_false rfl)) hL.1)))) (Nat.ne_of_beq_eq_false rfl)) (j_pne ne1_ (j_pne ne3_ (j_pne ne1_ j_peq))))) (fun _ => (j_pne (j_nek (M := (j_put (j_put (j_put (j_put M (nd p) (.inr (19, [.ref (it p), .ref (nd ((p + 1) + 1)), va_rf (lp nd p)]))) (nd (p + 1)) (.inr (19, [.ref (it (p + 1)), .ref (nd ((p + 1) + 1)), .null]))) (nd ((p + 1) + 1)) (.inr (19, [.ref (it ((p + 1) + 1)), va_rf (lk nd len ((p + 1) + 2)), .ref (nd p)]))) (nd (p + 1)) (.inr (19, [.null, .null, .null])))) (j_pne ne2_ j_peq) (j_pne (j_nek (M := (j_put (j_put (j_put M (nd p) (.inr (19, [.ref (it p), .ref (nd ((p + 1) + 1)), va_rf (lp nd p)]))) (nd (p + 1)) (.inr (19, [.ref (it (p + 1)), .ref (nd ((p + 1) + 1)), .null]))) (nd ((p + 1) + 1)) (.inr (19, [.ref (it ((p + 1) + 1)), va_rf (lk nd len ((p + 1) + 2)), .ref (nd p)])))) (j_pne (j_nek (M := (j_put (j_put M (nd p) (.inr (19, [.ref (it p), .ref (nd ((p + 1) + 1)), va_rf (lp nd p)]))) (nd (p + 1)) (.inr (19, [.ref (it (p + 1)), .ref (nd ((p + 1) + 1)), .null])))) (j_pne (j_nek (M := (j_put M (nd p) (.inr (19, [.ref (it p), .ref (nd ((p + 1) + 1)), va_rf (lp nd p)])))) (j_pne (j_nek (M := M) hL.1 hp_ (Nat.ne_of_beq_eq_false rfl)) hL.1) (j_pne (Ne.symm ne1_) hi_) (Nat.ne_of_beq_eq_false rfl)) (j_pne (j_nek (M := M) hL.1 hp_ (Nat.ne_of_beq_eq_false rfl)) hL.1)) (j_pne ne2_ (j_pne (Ne.symm ne3_) hn_)) (Nat.ne_of_beq_eq_false rfl)) (j_pne (j_nek (M := (j_put M (nd p) (.inr (19, [.ref (it p), .ref (nd ((p + 1) + 1)), va_rf (lp nd p)])))) (j_pne (j_nek (M := M) hL.1 hp_ (Nat.ne_of_beq_eq_false rfl)) hL.1) (j_pne (Ne.symm ne1_) hi_) (Nat.ne_of_beq_eq_false rfl)) (j_pne (j_nek (M := M) hL.1 hp_ (Nat.ne_of_beq_eq_false rfl)) hL.1))) (j_pne (Ne.symm ne2_) j_peq) (Nat.ne_of_beq_eq_false rfl)) (j_pne (j_nek (M := (j_put (j_put M (nd p) (.inr (19, [.ref (it p), .ref (nd ((p + 1) + 1)), va_rf (lp nd p)]))) (nd (p + 1)) (.inr (19, [.ref (it (p + 1)), .ref (nd ((p + 1) + 1)), .null])))) (j_pne (j_nek (M := (j_put M (nd p) (.inr (19, [.ref (it p), .ref (nd ((p + 1) + 1)), va_rf (lp nd p)])))) (j_pne (j_nek (M := M) hL.1 hp_ (Nat.ne_of_beq_eq_false rfl)) hL.1) (j_pne (Ne.symm ne1_) hi_) (Nat.ne_of_beq_eq_false rfl)) (j_pne (j_nek (M := M) hL.1 hp_ (Nat.ne_of_beq_eq_false rfl)) hL.1)) (j_pne ne2_ (j_pne (Ne.symm ne3_) hn_)) (Nat.ne_of_beq_eq_false rfl)) (j_pne (j_nek (M := (j_put M (nd p) (.inr (19, [.ref (it p), .ref (nd ((p + 1) + 1)), va_rf (lp nd p)])))) (j_pne (j_nek (M := M) hL.1 hp_ (Nat.ne_of_beq_eq_false rfl)) hL.1) (j_pne (Ne.symm ne1_) hi_) (Nat.ne_of_beq_eq_false rfl)) (j_pne (j_nek (M := M) hL.1 hp_ (Nat.ne_of_beq_eq_false rfl)) hL.1)))) (Nat.ne_of_beq_eq_false rfl)) (j_pne ne2_ j_peq))) (fun j hj h1 h2 h3 => fr_.2.2 (nd j) (hW.2 _ _ (hF_ j hj)) (fun h => h.elim (fun h => j_nek (M := M) (hF_ j hj) hL.1 (Nat.ne_of_beq_eq_false rfl) h) (fun ⟨k, hk, e, c⟩ => by have := hL.2.2 j k hj hk e; omega))), fr_.mono (fun a _ h => h.elim Or.inl (fun ⟨k, hk, e, _⟩ => Or.inr ⟨k, hk, e⟩)) (Nat.le_refl _) (Nat.le_refl _)⟩)
    · have hi_ : M.1 (nd (p + 1)) = some (.inr (19, [.ref (it (p + 1)), .null, .ref (nd p)])) := by
        rw [hF_ (p + 1) hi]; show some (Sum.inr (19, [.ref (it (p + 1)), va_rf (lk nd len ((p + 1) + 1)), va_rf (lp nd (p + 1))])) = _
        rw [rf_out (by omega)]; rfl
      have hp_ : M.1 (nd p) = some (.inr (19, [.ref (it p), .ref (nd (p + 1)), va_rf (lp nd p)])) := by
        rw [hF_ p (by omega)]; show some (Sum.inr (19, [.ref (it p), va_rf (lk nd len (p + 1)), va_rf (lp nd p)])) = _
        rw [rf_in hi]
      have ne1_ : nd p ≠ nd (p + 1) := fun h => absurd (hL.2.2 _ _ (by omega) hi h) (by omega)
      refine j_aload_n dJ4_unlink_0 rfl rfl ?_
      refine j_get dJ4_unlink_1 fd_J4_39_19 hi_ rfl ?_
      refine j_astore_n dJ4_unlink_4 rfl (by decide) rfl ?_
      refine j_aload_n dJ4_unlink_5 rfl rfl ?_
      refine j_get dJ4_unlink_6 fd_J4_36_19 hi_ rfl ?_
      refine j_astore_n dJ4_unlink_9 rfl (by decide) rfl ?_
      refine j_aload_n dJ4_unlink_10 rfl rfl ?_
      refine j_get dJ4_unlink_11 fd_J4_30_19 hi_ rfl ?_
      refine j_astore dJ4_unlink_14 rfl (by decide) rfl ?_
      refine j_aload dJ4_unlink_16 rfl rfl ?_
      refine j_ifnonnull (tgt := 29) dJ4_unlink_18 (by decide) ?_
      refine j_aload dJ4_unlink_29 rfl rfl ?_
      refine j_aload_n dJ4_unlink_31 rfl rfl ?_
      refine j_put_ dJ4_unlink_32 fd_J4_36_19 cl_19 (fun r hr => ⟨(ft_19_1 r hr).1, Or.inl (ft_19_1 r hr).2.1⟩) hp_ (Or.inr (by decide)) rfl rfl (Nat.le_of_ble_eq_true rfl) ?_
      show JW _ _ _ _ _ _ _ _ (j_put M (nd p) (.inr (19, [.ref (it p), .null, va_rf (lp nd p)])))
      refine j_aload_n dJ4_unlink_35 rfl rfl ?_
      refine j_null dJ4_unlink_36 ?_
      refine j_put_ dJ4_unlink_37 fd_J4_30_19 cl_19 (fun r hr => ⟨(ft_19_2 r hr).1, Or.inl (ft_19_2 r hr).2.1⟩) (j_pne (Ne.symm ne1_) hi_) (Or.inr (by decide)) rfl rfl (Nat.le_of_ble_eq_true rfl) ?_
      show JW _ _ _ _ _ _ _ _ (j_put (j_put M (nd p) (.inr (19, [.ref (it p), .null, va_rf (lp nd p)]))) (nd (p + 1)) (.inr (19, [.ref (it (p + 1)), .null, .null])))
      refine j_aload_n dJ4_unlink_40 rfl rfl ?_
      refine j_ifnonnullN dJ4_unlink_41 ?_
      refine j_aload_n dJ4_unlink_44 rfl rfl ?_
      refine j_aload dJ4_unlink_45 rfl rfl ?_
      refine j_put_ dJ4_unlink_47 fd_J4_27_12 cl_12 (fun r hr => ⟨(ft_12_3 r hr).1, Or.inl (ft_12_3 r hr).2.1⟩) (j_pne (j_nek (M := (j_put M (nd p) (.inr (19, [.ref (it p), .null, va_rf (lp nd p)])))) (j_pne (j_nek (M := M) hL.1 hp_ (Nat.ne_of_beq_eq_false rfl)) hL.1) (j_pne (Ne.symm ne1_) hi_) (Nat.ne_of_beq_eq_false rfl)) (j_pne (j_nek (M := M) hL.1 hp_ (Nat.ne_of_beq_eq_false rfl)) hL.1)) (Or.inr (by decide)) rfl rfl (Nat.le_of_ble_eq_true rfl) ?_
      show JW _ _ _ _ _ _ _ _ (j_put (j_put (j_put M (nd p) (.inr (19, [.ref (it p), .null, va_rf (lp nd p)]))) (nd (p + 1)) (.inr (19, [.ref (it (p + 1)), .null, .null]))) q (.inr (12, [.int m, .int (nI len), va_rf (lk nd len 0), .ref (nd p)])))
      refine j_goto (tgt := 64) dJ4_unlink_50 (by decide) ?_
      refine j_aload_n dJ4_unlink_64 rfl rfl ?_
      refine j_null dJ4_unlink_65 ?_
      refine j_put_ dJ4_unlink_66 fd_J4_39_19 cl_19 (fun r hr => ⟨(ft_19_0 r hr).1, Or.inl (ft_19_0 r hr).2.1⟩) (j_pne (j_nek (M := (j_put (j_put M (nd p) (.inr (19, [.ref (it p), .null, va_rf (lp nd p)]))) (nd (p + 1)) (.inr (19, [.ref (it (p + 1)), .null, .null])))) j_peq (j_pne (j_nek (M := (j_put M (nd p) (.inr (19, [.ref (it p), .null, va_rf (lp nd p)])))) (j_pne (j_nek (M := M) hL.1 hp_ (Nat.ne_of_beq_eq_false rfl)) hL.1) (j_pne (Ne.symm ne1_) hi_) (Nat.ne_of_beq_eq_false rfl)) (j_pne (j_nek (M := M) hL.1 hp_ (Nat.ne_of_beq_eq_false rfl)) hL.1)) (Nat.ne_of_beq_eq_false rfl)) j_peq) (Or.inr (by decide)) rfl rfl (Nat.le_of_ble_eq_true rfl) ?_
      show JW _ _ _ _ _ _ _ _ (j_put (j_put (j_put (j_put M (nd p) (.inr (19, [.ref (it p), .null, va_rf (lp nd p)]))) (nd (p + 1)) (.inr (19, [.ref (it (p + 1)), .null, .null]))) q (.inr (12, [.int m, .int (nI len), va_rf (lk nd len 0), .ref (nd p)]))) (nd (p + 1)) (.inr (19, [.null, .null, .null])))
      refine j_aload_n dJ4_unlink_69 rfl rfl ?_
      refine j_dup dJ4_unlink_70 rfl ?_
      refine j_get dJ4_unlink_71 fd_J4_7_12 (j_pne (j_nek (M := (j_put (j_put (j_put M (nd p) (.inr (19, [.ref (it p), .null, va_rf (lp nd p)]))) (nd (p + 1)) (.inr (19, [.ref (it (p + 1)), .null, .null]))) q (.inr (12, [.int m, .int (nI len), va_rf (lk nd len 0), .ref (nd p)])))) j_peq (j_pne (j_nek (M := (j_put (j_put M (nd p) (.inr (19, [.ref (it p), .null, va_rf (lp nd p)]))) (nd (p + 1)) (.inr (19, [.ref (it (p + 1)), .null, .null])))) j_peq (j_pne (j_nek (M := (j_put M (nd p) (.inr (19, [.ref (it p), .null, va_rf (lp nd p)])))) (j_pne (j_nek (M := M) hL.1 hp_ (Nat.ne_of_beq_eq_false rfl)) hL.1) (j_pne (Ne.symm ne1_) hi_) (Nat.ne_of_beq_eq_false rfl)) (j_pne (j_nek (M := M) hL.1 hp_ (Nat.ne_of_beq_eq_false rfl)) hL.1)) (Nat.ne_of_beq_eq_false rfl)) j_peq) (Nat.ne_of_beq_eq_false rfl)) j_peq) rfl ?_
      refine j_iconst (v := 1) dJ4_unlink_74 (by decide) ?_
      refine j_isub dJ4_unlink_75 ?_
      rw [show (((nI len) - 1)) = (nI (len - 1)) from nI_dec (by omega)]
      refine j_put_ dJ4_unlink_76 fd_J4_7_12 cl_12 (fun r hr => ⟨(ft_12_1 r hr).1, Or.inl (ft_12_1 r hr).2.1⟩) (j_pne (j_nek (M := (j_put (j_put (j_put M (nd p) (.inr (19, [.ref (it p), .null, va_rf (lp nd p)]))) (nd (p + 1)) (.inr (19, [.ref (it (p + 1)), .null, .null]))) q (.inr (12, [.int m, .int (nI len), va_rf (lk nd len 0), .ref (nd p)])))) j_peq (j_pne (j_nek (M := (j_put (j_put M (nd p) (.inr (19, [.ref (it p), .null, va_rf (lp nd p)]))) (nd (p + 1)) (.inr (19, [.ref (it (p + 1)), .null, .null])))) j_peq (j_pne (j_nek (M := (j_put M (nd p) (.inr (19, [.ref (it p), .null, va_rf (lp nd p)])))) (j_pne (j_nek (M := M) hL.1 hp_ (Nat.ne_of_beq_eq_false rfl)) hL.1) (j_pne (Ne.symm ne1_) hi_) (Nat.ne_of_beq_eq_false rfl)) (j_pne (j_nek (M := M) hL.1 hp_ (Nat.ne_of_beq_eq_false rfl)) hL.1)) (Nat.ne_of_beq_eq_false rfl)) j_peq) (Nat.ne_of_beq_eq_false rfl)) j_peq) (Or.inr (by decide)) rfl rfl (Nat.le_of_ble_eq_true rfl) ?_
      show JW _ _ _ _ _ _ _ _ (j_put (j_put (j_put (j_put (j_put M (nd p) (.inr (19, [.ref (it p), .null, va_rf (lp nd p)]))) (nd (p + 1)) (.inr (19, [.ref (it (p + 1)), .null, .null]))) q (.inr (12, [.int m, .int (nI len), va_rf (lk nd len 0), .ref (nd p)]))) (nd (p + 1)) (.inr (19, [.null, .null, .null]))) q (.inr (12, [.int m, .int (nI (len - 1)), va_rf (lk nd len 0), .ref (nd p)])))
      refine j_aload_n dJ4_unlink_79 rfl rfl ?_
      refine j_dup dJ4_unlink_80 rfl ?_
      refine j_get dJ4_unlink_81 fd_J4_33_12 j_peq rfl ?_
      refine j_iconst (v := 1) dJ4_unlink_84 (by decide) ?_
      refine j_iadd dJ4_unlink_85 ?_
      refine j_put_ dJ4_unlink_86 fd_J4_33_12 cl_12 (fun r hr => ⟨(ft_12_0 r hr).1, Or.inl (ft_12_0 r hr).2.1⟩) j_peq (Or.inr (by decide)) rfl rfl (Nat.le_of_ble_eq_true rfl) ?_
      rw [j_pp]
      show JW _ _ _ _ _ _ _ _ (j_put (j_put (j_put (j_put (j_put M (nd p) (.inr (19, [.ref (it p), .null, va_rf (lp nd p)]))) (nd (p + 1)) (.inr (19, [.ref (it (p + 1)), .null, .null]))) q (.inr (12, [.int m, .int (nI len), va_rf (lk nd len 0), .ref (nd p)]))) (nd (p + 1)) (.inr (19, [.null, .null, .null]))) q (.inr (12, [.int (m + 1), .int (nI (len - 1)), va_rf (lk nd len 0), .ref (nd p)])))
      refine j_aload_n dJ4_unlink_89 rfl rfl ?_
      have fr_ : jFr G (fun a => a = q ∨ ∃ j, j < len ∧ a = nd j ∧ (j = (p + 1) ∨ j + 1 = (p + 1) ∨ j = (p + 1) + 1)) M (j_put (j_put (j_put (j_put (j_put M (nd p) (.inr (19, [.ref (it p), .null, va_rf (lp nd p)]))) (nd (p + 1)) (.inr (19, [.ref (it (p + 1)), .null, .null]))) q (.inr (12, [.int m, .int (nI len), va_rf (lk nd len 0), .ref (nd p)]))) (nd (p + 1)) (.inr (19, [.null, .null, .null]))) q (.inr (12, [.int (m + 1), .int (nI (len - 1)), va_rf (lk nd len 0), .ref (nd p)]))) 0 0 := (jFr.stepp (jFr.stepp (jFr.stepp (jFr.stepp (jFr.stepp (jFr.refl hW (N := 0) (D := 0)) hp_ (fun _ => Or.inr ⟨p, by omega, rfl, Or.inr (Or.inl rfl)⟩)) (j_pne (Ne.symm ne1_) hi_) (fun _ => Or.inr ⟨(p + 1), hi, rfl, Or.inl rfl⟩)) (j_pne (j_nek (M := (j_put M (nd p) (.inr (19, [.ref (it p), .null, va_rf (lp nd p)])))) (j_pne (j_nek (M := M) hL.1 hp_ (Nat.ne_of_beq_eq_false rfl)) hL.1) (j_pne (Ne.symm ne1_) hi_) (Nat.ne_of_beq_eq_false rfl)) (j_pne (j_nek (M := M) hL.1 hp_ (Nat.ne_of_beq_eq_false rfl)) hL.1)) (fun _ => Or.inl rfl)) (j_pne (j_nek (M := (j_put (j_put M (nd p) (.inr (19, [.ref (it p), .null, va_rf (lp nd p)]))) (nd (p + 1)) (.inr (19, [.ref (it (p + 1)), .null, .null])))) j_peq (j_pne (j_nek (M := (j_put M (nd p) (.inr (19, [.ref (it p), .null, va_rf (lp nd p)])))) (j_pne (j_nek (M := M) hL.1 hp_ (Nat.ne_of_beq_eq_false rfl)) hL.1) (j_pne (Ne.symm ne1_) hi_) (Nat.ne_of_beq_eq_false rfl)) (j_pne (j_nek (M := M) hL.1 hp_ (Nat.ne_of_beq_eq_false rfl)) hL.1)) (Nat.ne_of_beq_eq_false rfl)) j_peq) (fun _ => Or.inr ⟨(p + 1), hi, rfl, Or.inl rfl⟩)) (j_pne (j_nek (M := (j_put (j_put (j_put M (nd p) (.inr (19, [.ref (it p), .null, va_rf (lp nd p)]))) (nd (p + 1)) (.inr (19, [.ref (it (p + 1)), .null, .null]))) q (.inr (12, [.int m, .int (nI len), va_rf (lk nd len 0), .ref (nd p)])))) j_peq (j_pne (j_nek (M := (j_put (j_put M (nd p) (.inr (19, [.ref (it p), .null, va_rf (lp nd p)]))) (nd (p + 1)) (.inr (19, [.ref (it (p + 1)), .null, .null])))) j_peq (j_pne (j_nek (M := (j_put M (nd p) (.inr (19, [.ref (it p), .null, va_rf (lp nd p)])))) (j_pne (j_nek (M := M) hL.1 hp_ (Nat.ne_of_beq_eq_false rfl)) hL.1) (j_pne (Ne.symm ne1_) hi_) (Nat.ne_of_beq_eq_false rfl)) (j_pne (j_nek (M := M) hL.1 hp_ (Nat.ne_of_beq_eq_false rfl)) hL.1)) (Nat.ne_of_beq_eq_false rfl)) j_peq) (Nat.ne_of_beq_eq_false rfl)) j_peq) (fun _ => Or.inl rfl))
      have e1_ : va_rf (if (p + 1) = 0 then lk nd len 1 else lk nd len 0) = va_rf (lk nd len 0) := by rw [if_neg (by omega)]
      have e2_ : va_rf (if (p + 1) + 1 = len then lp nd (p + 1) else lp nd len) = .ref (nd p) := by rw [if_pos (by omega)]; rfl
      exact j_areturn dJ4_unlink_90 rfl rfl rfl (jr_i ⟨rfl, LL.rem hL hi (by rw [e1_, e2_]; exact j_peq) (fun _ => by rw [rf_out (nd := nd) (len := len) (j := p + 1 + 1) (by omega)]; exact (j_pne (j_nek (M := (j_put (j_put (j_put (j_put M (nd p) (.inr (19, [.ref (it p), .null, va_rf (lp nd p)]))) (nd (p + 1)) (.inr (19, [.ref (it (p + 1)), .null, .null]))) q (.inr (12, [.int m, .int (nI len), va_rf (lk nd len 0), .ref (nd p)]))) (nd (p + 1)) (.inr (19, [.null, .null, .null])))) (j_pne ne1_ (j_pne (j_nek (M := (j_put (j_put M (nd p) (.inr (19, [.ref (it p), .null, va_rf (lp nd p)]))) (nd (p + 1)) (.inr (19, [.ref (it (p + 1)), .null, .null])))) (j_pne ne1_ j_peq) (j_pne (j_nek (M := (j_put M (nd p) (.inr (19, [.ref (it p), .null, va_rf (lp nd p)])))) (j_pne (j_nek (M := M) hL.1 hp_ (Nat.ne_of_beq_eq_false rfl)) hL.1) (j_pne (Ne.symm ne1_) hi_) (Nat.ne_of_beq_eq_false rfl)) (j_pne (j_nek (M := M) hL.1 hp_ (Nat.ne_of_beq_eq_false rfl)) hL.1)) (Nat.ne_of_beq_eq_false rfl)) (j_pne ne1_ j_peq))) (j_pne (j_nek (M := (j_put (j_put (j_put M (nd p) (.inr (19, [.ref (it p), .null, va_rf (lp nd p)]))) (nd (p + 1)) (.inr (19, [.ref (it (p + 1)), .null, .null]))) q (.inr (12, [.int m, .int (nI len), va_rf (lk nd len 0), .ref (nd p)])))) j_peq (j_pne (j_nek (M := (j_put (j_put M (nd p) (.inr (19, [.ref (it p), .null, va_rf (lp nd p)]))) (nd (p + 1)) (.inr (19, [.ref (it (p + 1)), .null, .null])))) j_peq (j_pne (j_nek (M := (j_put M (nd p) (.inr (19, [.ref (it p), .null, va_rf (lp nd p)])))) (j_pne (j_nek (M := M) hL.1 hp_ (Nat.ne_of_beq_eq_false rfl)) hL.1) (j_pne (Ne.symm ne1_) hi_) (Nat.ne_of_beq_eq_false rfl)) (j_pne (j_nek (M := M) hL.1 hp_ (Nat.ne_of_beq_eq_false rfl)) hL.1)) (Nat.ne_of_beq_eq_false rfl)) j_peq) (Nat.ne_of_beq_eq_false rfl)) j_peq) (Nat.ne_of_beq_eq_false rfl)) (j_pne ne1_ (j_pne (j_nek (M := (j_put (j_put M (nd p) (.inr (19, [.ref (it p), .null, va_rf (lp nd p)]))) (nd (p + 1)) (.inr (19, [.ref (it (p + 1)), .null, .null])))) (j_pne ne1_ j_peq) (j_pne (j_nek (M := (j_put M (nd p) (.inr (19, [.ref (it p), .null, va_rf (lp nd p)])))) (j_pne (j_nek (M := M) hL.1 hp_ (Nat.ne_of_beq_eq_false rfl)) hL.1) (j_pne (Ne.symm ne1_) hi_) (Nat.ne_of_beq_eq_false rfl)) (j_pne (j_nek (M := M) hL.1 hp_ (Nat.ne_of_beq_eq_false rfl)) hL.1)) (Nat.ne_of_beq_eq_false rfl)) (j_pne ne1_ j_peq))))) (fun h => absurd h (by omega)) (fun j hj h1 h2 h3 => fr_.2.2 (nd j) (hW.2 _ _ (hF_ j hj)) (fun h => h.elim (fun h => j_nek (M := M) (hF_ j hj) hL.1 (Nat.ne_of_beq_eq_false rfl) h) (fun ⟨k, hk, e, c⟩ => by have := hL.2.2 j k hj hk e; omega))), fr_.mono (fun a _ h => h.elim Or.inl (fun ⟨k, hk, e, _⟩ => Or.inr ⟨k, hk, e⟩)) (Nat.le_refl _) (Nat.le_refl _)⟩)

theorem J23_remove_m (hW : j_wf G M) {q len : Nat} {m : Int32} {nd it : Nat → Nat} (hL : LL M q m nd it len) {b i : Nat} (hI : M.1 b = some (.inr (17, [.ref (nd i), va_rf (lk nd len (i + 1)), .int (nI (i + 1)), .int m, .ref q]))) (hi : i < len) : JM l G 1 yJ23_remove wJ23_remove [.ref b] M (jr (fun v M' => v = none ∧ LL M' q (m + 1) (ldel nd i) (ldel it i) (len - 1) ∧ M'.1 b = some (.inr (17, [.null, va_rf (lk nd len (i + 1)), .int (nI i), .int (m + 1), .ref q])) ∧ jFr G (fun a => a = b ∨ a = q ∨ ∃ j, j < len ∧ a = nd j) M M' 0 0)) := by
  refine JM.of pn_J23 (Nat.le_of_ble_eq_true rfl) (hW.1) ?_
  show JW l G 1 YJ23_remove _ 0 [(0, .ref b)] [] M
  refine j_aload_n dJ23_remove_0 rfl rfl ?_
  refine j_callV (J23_checkForComodification_m hW hL hI) dJ23_remove_1 mt_J23_checkForComodification q852 q853 q854 hI (by decide) rfl cd_J23_checkForComodification (Nat.le_of_ble_eq_true rfl) rfl rfl (Nat.le_of_ble_eq_true rfl) (jk_n ?_) jx_n
  refine j_aload_n dJ23_remove_4 rfl rfl ?_
  refine j_get dJ23_remove_5 fd_J23_46_17 hI rfl ?_
  refine j_ifnonnull (tgt := 19) dJ23_remove_8 (by decide) ?_
  refine j_aload_n dJ23_remove_19 rfl rfl ?_
  refine j_get dJ23_remove_20 fd_J23_46_17 hI rfl ?_
  refine j_get dJ23_remove_23 fd_J23_49_19 (hL.2.1 i hi) rfl ?_
  refine j_astore_n dJ23_remove_26 (va_rf_isRef _) (by decide) rfl ?_
  refine j_aload_n dJ23_remove_27 rfl rfl ?_
  refine j_get dJ23_remove_28 fd_J23_1_17 hI rfl ?_
  refine j_aload_n dJ23_remove_31 rfl rfl ?_
  refine j_get dJ23_remove_32 fd_J23_46_17 hI rfl ?_
  refine j_callV (J4_unlink_m hW hL hi) dJ23_remove_35 mt_J4_unlink q1267 q1214 q1215 hL.1 (by decide) rfl cd_J4_unlink (Nat.le_of_ble_eq_true rfl) rfl rfl (Nat.le_of_ble_eq_true rfl) (jk_r (fun v_ M_ hp_ => ?_)) jx_r
  obtain ⟨rfl, hL_, hfr_⟩ := hp_
  show JW _ _ _ _ _ _ _ (.ref (it i) :: []) M_
  have hI_ : M_.1 b = some (.inr (17, [.ref (nd i), va_rf (lk nd len (i + 1)), .int (nI (i + 1)), .int m, .ref q])) := hfr_.cell hW hI (fun h => h.elim (fun h => j_nek (M := M) hI hL.1 (Nat.ne_of_beq_eq_false rfl) h) (fun ⟨j, hj, h⟩ => j_nek (M := M) hI (hL.2.1 j hj) (Nat.ne_of_beq_eq_false rfl) h))
  have hnq_ : q ≠ b := j_nek (M := M) hL.1 hI (Nat.ne_of_beq_eq_false rfl)
  have hnd_ : ∀ j, j < len → nd j ≠ b := fun j hj => j_nek (M := M) (hL.2.1 j hj) hI (Nat.ne_of_beq_eq_false rfl)
  have hld_ : ∀ j, j < len - 1 → ldel nd i j ≠ b := by
    intro j hj; unfold ldel; split
    · exact hnd_ _ (by omega)
    · exact hnd_ _ (by omega)
  refine j_pop dJ23_remove_38 rfl ?_
  refine j_aload_n dJ23_remove_39 rfl rfl ?_
  refine j_get dJ23_remove_40 fd_J23_29_17 hI_ rfl ?_
  refine j_aload_n dJ23_remove_43 rfl rfl ?_
  refine j_get dJ23_remove_44 fd_J23_46_17 hI_ rfl ?_
  have hnl_ : lk nd len (i + 1) ≠ some (nd i) := by
    unfold lk; split
    · next hh => exact fun h => absurd (hL.2.2 _ _ hh hi (Option.some.inj h)) (by omega)
    · exact fun h => by cases h
  refine j_acmp_ne (rx := lk nd len (i + 1)) (ry := some (nd i)) (tgt := 58) dJ23_remove_47 (by decide) (fun c47 => ?_) (fun c47 => absurd c47 hnl_)
  refine j_aload_n dJ23_remove_58 rfl rfl ?_
  refine j_dup dJ23_remove_59 rfl ?_
  refine j_get dJ23_remove_60 fd_J23_33_17 hI_ rfl ?_
  refine j_iconst (v := 1) dJ23_remove_63 (by decide) ?_
  refine j_isub dJ23_remove_64 ?_
  rw [show (((nI (i + 1)) - 1)) = (nI i) from nI_pred i]
  refine j_put_ dJ23_remove_65 fd_J23_33_17 cl_17 (fun r hr => ⟨(ft_17_2 r hr).1, Or.inl (ft_17_2 r hr).2.1⟩) hI_ (Or.inr (by decide)) rfl rfl (Nat.le_of_ble_eq_true rfl) ?_
  show JW _ _ _ _ _ _ _ _ (j_put M_ b (.inr (17, [.ref (nd i), va_rf (lk nd len (i + 1)), .int (nI i), .int m, .ref q])))
  refine j_aload_n dJ23_remove_68 rfl rfl ?_
  refine j_null dJ23_remove_69 ?_
  refine j_put_ dJ23_remove_70 fd_J23_46_17 cl_17 (fun r hr => ⟨(ft_17_0 r hr).1, Or.inl (ft_17_0 r hr).2.1⟩) j_peq (Or.inr (by decide)) rfl rfl (Nat.le_of_ble_eq_true rfl) ?_
  rw [j_pp]
  show JW _ _ _ _ _ _ _ _ (j_put M_ b (.inr (17, [.null, va_rf (lk nd len (i + 1)), .int (nI i), .int m, .ref q])))
  refine j_aload_n dJ23_remove_73 rfl rfl ?_
  refine j_dup dJ23_remove_74 rfl ?_
  refine j_get dJ23_remove_75 fd_J23_19_17 j_peq rfl ?_
  refine j_iconst (v := 1) dJ23_remove_78 (by decide) ?_
  refine j_iadd dJ23_remove_79 ?_
  refine j_put_ dJ23_remove_80 fd_J23_19_17 cl_17 (fun r hr => ⟨(ft_17_3 r hr).1, Or.inl (ft_17_3 r hr).2.1⟩) j_peq (Or.inr (by decide)) rfl rfl (Nat.le_of_ble_eq_true rfl) ?_
  rw [j_pp]
  show JW _ _ _ _ _ _ _ _ (j_put M_ b (.inr (17, [.null, va_rf (lk nd len (i + 1)), .int (nI i), .int (m + 1), .ref q])))
  exact j_return dJ23_remove_83 rfl (jr_i ⟨rfl, ⟨j_pne hnq_ hL_.1, fun j hj => j_pne (hld_ j hj) (hL_.2.1 j hj), hL_.2.2⟩, j_peq, (jFr.stepp (hfr_.mono (F' := (fun a => a = b ∨ a = q ∨ ∃ j, j < len ∧ a = nd j)) (fun a _ h => h.elim (fun h => Or.inr (Or.inl h)) (fun h => Or.inr (Or.inr h))) (Nat.le_refl _) (Nat.le_refl _)) hI_ (fun _ => Or.inl rfl))⟩)

theorem J25_intValue_m (hW : j_wf G M) {a : Nat} {x : Int32} (ha : M.1 a = some (.inr (18, [.int x]))) : JM l G 0 yJ25_intValue wJ25_intValue [.ref a] M (jv (.int x) M) := by
  refine JM.of pn_J25 (Nat.le_of_ble_eq_true rfl) (hW.1) ?_
  show JW l G 0 YJ25_intValue _ 0 [(0, .ref a)] [] M
  refine j_aload_n dJ25_intValue_0 rfl rfl ?_
  refine j_get dJ25_intValue_1 fd_J25_205_18 ha rfl ?_
  exact j_ireturn dJ25_intValue_4 rfl (rfl)

end J4
