section K11
variable {l : Launch} {G : j_G} {M : j_M} {W : jWt} {A : Nat → Nat} {H : HV}
theorem X1_gownsBy_m (hH : HAt G W M A H) (hOK_ : hOK H) : JM l G 3 yX1_gownsBy wX1_gownsBy [.ref (A 0)] M (jr (fun v M' => v = some (.ref M.2.1) ∧ M'.1 M.2.1 = some (.inl (0, 16, .inl (hGowns H (hn H)))) ∧ jEx G M M' 2 20)) := by
  refine JM.of pn_X1 (Nat.le_of_ble_eq_true rfl) (hH.wf.1) ?_
  show JW l G 3 YX1_gownsBy _ 0 [(0, .ref (A 0))] [] M
  refine j_bipush (v := 16) dX1_gownsBy_0 (by decide) ?_
  refine j_newI (n := 16) dX1_gownsBy_2 q267 rfl (by decide) ?_
  refine j_astore_n dX1_gownsBy_4 rfl (by decide) rfl ?_
  obtain ⟨ar, har_⟩ : ∃ q : Nat, q = M.2.1 := ⟨_, rfl⟩
  obtain ⟨Mr_, hMr_⟩ : ∃ X : j_M, X = j_new M (.inl (0, 16, .inl (fun _ => 0))) 16 := ⟨_, rfl⟩
  rw [← har_, ← hMr_]
  have hr_ : Mr_.1 ar = some (.inl (0, 16, .inl (fun _ => 0))) := by rw [hMr_, har_]; exact j_neq
  have hHr_ : HAt G W Mr_ A H := by rw [hMr_]; exact hH.newE
  have hEr_ : jEx G M Mr_ 1 16 := by rw [hMr_]; exact jFr.new hH.wf
  have hMr2_ : M.2.1 ≤ Mr_.2.1 := hEr_.2.1.1
  have harm_ : M.2.1 ≤ ar := Nat.le_of_eq har_.symm
  have harB_ : jB G ≤ ar := Nat.le_trans hH.wf.1 harm_
  refine j_aload_n dX1_gownsBy_5 rfl rfl ?_
  refine j_get dX1_gownsBy_6 fd_X1_14_1 hHr_.house rfl ?_
  refine j_callV (hHr_.biter) dX1_gownsBy_9 mt_J2_iterator q367 q368 q369 hHr_.al (by decide) rfl cd_J2_iterator (Nat.le_of_ble_eq_true rfl) rfl rfl (Nat.le_of_ble_eq_true rfl) (jk_v ?_) jx_v
  obtain ⟨it2_, hit2_⟩ : ∃ q : Nat, q = Mr_.2.1 := ⟨_, rfl⟩
  obtain ⟨M2_, hM2_⟩ : ∃ X : j_M, X = j_new Mr_ (bit H A 0 (-1)) 4 := ⟨_, rfl⟩
  rw [← hit2_, ← hM2_]
  have hI2_ : M2_.1 it2_ = some (bit H A 0 (-1)) := by rw [hM2_, hit2_]; exact j_neq
  have hH2_ : HAt G W M2_ A H := by rw [hM2_]; exact hHr_.newE
  have hE2_ : jEx G Mr_ M2_ 1 4 := by rw [hM2_]; exact jFr.new hHr_.wf
  have hq2_ : jB G ≤ it2_ := by rw [hit2_]; exact hHr_.wf.1
  have hqm2_ : Mr_.2.1 ≤ it2_ := Nat.le_of_eq hit2_.symm
  refine j_astore_n dX1_gownsBy_12 rfl (by decide) rfl ?_
  have lp2_ : ∀ (e k : Nat) (M_ : j_M) (lr : Int32) , e + k = hn H → HAt G W M_ A H → M_.1 it2_ = some (bit H A k lr) → jFr G jNo M M_ 2 20 → (M_.1 ar = some (.inl (0, 16, .inl (hGowns H k)))) → JW l G 3 YX1_gownsBy (jr (fun v M' => v = some (.ref ar) ∧ M'.1 ar = some (.inl (0, 16, .inl (hGowns H (hn H)))) ∧ jEx G M M' 2 20)) 13 [(0, .ref (A 0)), (1, .ref ar), (2, .ref it2_)] [] M_ := by
    intro e
    induction e with
    | zero =>
      intro k M_ lr  hek hA_ hI_ hf_ hk0_ 
      refine j_aload_n dX1_gownsBy_13 rfl rfl ?_
      refine j_callF (hA_.bhas hI_ (show k ≤ hn H by omega)) dX1_gownsBy_14 mt_J10_hasNext q393 (by decide +kernel) rfl q424 q426 hI_ (by decide) rfl cd_J10_hasNext (Nat.le_of_ble_eq_true rfl) rfl rfl (Nat.le_of_ble_eq_true rfl) (jk_v ?_) jx_v
      refine j_ifeqB (tgt := 45) dX1_gownsBy_19 (by decide) (fun c19 => ?_) (fun c19 => ?_)
      · have hkn_ : k = hn H := by omega
        refine j_aload_n dX1_gownsBy_45 rfl rfl ?_
        exact j_areturn dX1_gownsBy_46 rfl rfl rfl (jr_i ⟨rfl, by rw [← hkn_]; exact hk0_, hf_⟩)
      · exact absurd (of_decide_eq_true c19) (by omega)
    | succ e ih_ =>
      intro k M_ lr  hek hA_ hI_ hf_ hk0_ 
      refine j_aload_n dX1_gownsBy_13 rfl rfl ?_
      refine j_callF (hA_.bhas hI_ (show k ≤ hn H by omega)) dX1_gownsBy_14 mt_J10_hasNext q393 (by decide +kernel) rfl q424 q426 hI_ (by decide) rfl cd_J10_hasNext (Nat.le_of_ble_eq_true rfl) rfl rfl (Nat.le_of_ble_eq_true rfl) (jk_v ?_) jx_v
      refine j_ifeqB (tgt := 45) dX1_gownsBy_19 (by decide) (fun c19 => ?_) (fun c19 => ?_)
      · exact absurd c19 (by rw [decide_eq_true (show k < hn H by omega)]; decide)
      · have hkH_ : k < hn H := by omega
        have hk_ : k < hn H := by omega
        refine j_aload_n dX1_gownsBy_22 rfl rfl ?_
        refine j_callF (hA_.bnext hI_ hk_) dX1_gownsBy_23 mt_J10_next q439 (by decide +kernel) rfl q834 q836 hI_ (by decide) rfl cd_J10_next (Nat.le_of_ble_eq_true rfl) rfl rfl (Nat.le_of_ble_eq_true rfl) (jk_v ?_) jx_v
        obtain ⟨hA2_, hI2_, hf2_⟩ := hA_.bstep (lr2 := nI k) hI_ hq2_ hf_ (fun h => absurd h (by omega))
        have hk0_ := j_pne (a := it2_) (e := bit H A (k + 1) (nI k)) (j_nek (M := M_) hk0_ hI_ (Nat.ne_of_beq_eq_false rfl)) hk0_
        obtain ⟨M2_, hM2_⟩ : ∃ X : j_M, X = j_put M_ it2_ (bit H A (k + 1) (nI k)) := ⟨_, rfl⟩
        rw [← hM2_] at hA2_ hI2_ hf2_ hk0_ ⊢
        refine j_chk dX1_gownsBy_28 (hA2_.bro hk_) (by decide) rfl q857 (Or.inl rfl) ?_
        refine j_astore_n dX1_gownsBy_31 rfl (by decide) rfl ?_
        have hnum_ : hb H k 0 = nI k := (hOK_ k hk_).1
        have hk16_ : k < 16 := Nat.lt_of_lt_of_le hk_ hA_.2.1.1
        refine j_aload_n dX1_gownsBy_32 rfl rfl ?_
        refine j_aload_n dX1_gownsBy_33 rfl rfl ?_
        refine j_get dX1_gownsBy_34 fd_X1_189_3 (hA2_.bro hk_) rfl ?_
        refine j_aload_n dX1_gownsBy_37 rfl rfl ?_
        refine j_get dX1_gownsBy_38 fd_X1_226_3 (hA2_.bro hk_) rfl ?_
        refine j_iast (j := k) dX1_gownsBy_41 hk0_ hnum_ hk16_ (by decide) ?_
        have hX6_ := hA2_.putE (e := .inl (0, 16, .inl (va_up (hGowns H k) k (hb H k 5)))) hk0_ rfl harB_
        have hf6w_ := hf2_.stepp (e := .inl (0, 16, .inl (va_up (hGowns H k) k (hb H k 5)))) hk0_ (fun h => absurd h (by omega))
        obtain ⟨N6_, hN6_⟩ : ∃ X : j_M, X = j_put M2_ ar (.inl (0, 16, .inl (va_up (hGowns H k) k (hb H k 5)))) := ⟨_, rfl⟩
        have hw6_0_ : N6_.1 ar = some (.inl (0, 16, .inl (va_up (hGowns H k) k (hb H k 5)))) := by rw [hN6_]; exact j_peq
        have hw6_1_ : N6_.1 it2_ = some (.inr (16, [.int (nI (k + 1)), .int (nI k), .int (H.1 0), .ref (A 1)])) := by rw [hN6_]; exact j_pne (j_nek (M := M2_) hI2_ hk0_ (Nat.ne_of_beq_eq_false rfl)) hI2_
        rw [← hN6_] at hX6_ hf6w_
        refine j_mem (M' := N6_) hN6_ ?_
        refine j_goto (tgt := 13) dX1_gownsBy_42 (by decide) ?_
        refine j_locs (ls2 := [(0, .ref (A 0)), (1, .ref ar), (2, .ref it2_)]) ⟨rfl, rfl, rfl, trivial⟩ ?_
        exact ih_ (k + 1) _ _  (by omega) hX6_ hw6_1_ hf6w_ hw6_0_ 
  refine j_locs (ls2 := [(0, .ref (A 0)), (1, .ref ar), (2, .ref it2_)]) ⟨rfl, rfl, rfl, trivial⟩ ?_
  exact lp2_ (hn H) 0 M2_ (-1)  rfl hH2_ hI2_ ((hEr_.trans hE2_ (fun _ _ h => h) (fun _ _ h => h) (Nat.le_refl _) (Nat.le_refl _)).mono (fun _ _ q => False.elim q) (by decide) (by decide)) (hE2_.cell hHr_.wf hr_) 

end K11
