section K16
variable {l : Launch} {G : j_G} {M : j_M} {W : jWt} {A : Nat → Nat} {H : HV}
theorem X1_goes_m (hH : HAt G W M A H) (hG : jGd G W) (hx16_ : ∀ x, x ∈ hs H → x < 16) {b c : Nat} (hbn : b < hn H) (hc8 : c < 8) (hnum : hb H b 0 = nI b) (hcel : hb H b 4 = nI c) (how : Int32) : JM l G 7 yX1_goes wX1_goes [.ref (A 0), .ref (A (7 + b)), .int how] M (jr (fun v M' => v = none ∧ hTo G W M A H 1 5 (fun m => hGoes H b c how m) M')) := by
  refine JM.of pn_X1 (Nat.le_of_ble_eq_true rfl) (hH.wf.1) ?_
  show JW l G 7 YX1_goes _ 0 [(0, .ref (A 0)), (1, .ref (A (7 + b))), (2, .int how)] [] M
  refine j_aload_n dX1_goes_0 rfl rfl ?_
  refine j_get dX1_goes_1 fd_X1_30_1 hH.house rfl ?_
  refine j_aload_n dX1_goes_4 rfl rfl ?_
  refine j_get dX1_goes_5 fd_X1_186_3 (hH.bro hbn) rfl ?_
  refine j_bipush (v := (-15)) dX1_goes_8 (by decide) ?_
  refine j_iast (j := c) dX1_goes_10 hH.cells hcel hc8 (by decide) ?_
  have hX6_ := (hH.setc (f := (va_up (H.2.1 0) c (-15))) (e := .inl (0, 8, .inl (va_up (H.2.1 0) c (-15)))) rfl)
  obtain ⟨N6_, hN6_⟩ : ∃ X : j_M, X = (j_put M (A 5) (.inl (0, 8, .inl (va_up (H.2.1 0) c (-15))))) := ⟨_, rfl⟩
  rw [← hN6_] at hX6_
  refine j_mem (M' := N6_) hN6_ ?_
  refine j_aload_n dX1_goes_11 rfl rfl ?_
  refine j_get dX1_goes_12 fd_X1_27_1 hX6_.1.house rfl ?_
  refine j_aload_n dX1_goes_15 rfl rfl ?_
  refine j_get dX1_goes_16 fd_X1_189_3 (hX6_.1.bro hbn) rfl ?_
  rw [hb_a (by omega), hnum]
  refine j_callS (hX6_.1.takesS hG hx16_ (b := b) (by have := hH.2.1.1; omega)) dX1_goes_19 mt_X1_takesFrom q1168 q1169 cd_X1_takesFrom (Nat.le_of_ble_eq_true rfl) rfl rfl (Nat.le_of_ble_eq_true rfl) (jk_r (fun v_ M9_ hp_ => ?_)) jx_r
  obtain ⟨rfl, A2, m2, hZ_, hA2_, hfz_, hnz_⟩ := hp_
  show JW _ _ _ _ _ _ _ [] M9_
  refine j_locs (ls2 := [(1, .ref (A2 (7 + b))), (2, .int how)]) ⟨by rw [hA2_ (7 + b) (by have := hH.2.1.1; omega)]; rfl, rfl, trivial⟩ ?_
  refine j_aload_n dX1_goes_22 rfl rfl ?_
  refine j_iload_n dX1_goes_23 rfl ?_
  refine j_callV (X3_goes_m hZ_.wf (hZ_.bro hbn) how) dX1_goes_24 mt_X3_goes q1272 q1273 q1274 (hZ_.bro hbn) (by decide) rfl cd_X3_goes (Nat.le_of_ble_eq_true rfl) rfl rfl (Nat.le_of_ble_eq_true rfl) (jk_n ?_) jx_n
  have hX9_ := hZ_.setb' (b := b) (f := (hGoF (((hsS (hsa H 0 (va_up (H.2.1 0) c (-15))) m2 (hWo b (hs H)))).2.1 (2 + b)) how)) hbn rfl
  have hff_ : jFr G (hF A H) M M9_ 1 5 := ((jFr.refl hH.wf : jFr G (hF A H) M M 0 0).trans hX6_.2 (fun _ _ h => h) (fun _ _ h => h) (Nat.le_refl _) (Nat.le_refl _)).trans hfz_ (fun _ _ h => h) (fun _ _ h => h) (by decide) (by decide)
  exact j_return dX1_goes_27 rfl (jr_i ⟨rfl, A2, m2, hX9_.1, hA2_, hff_.trans hX9_.2 (fun _ _ h => h) (fun a ha h => (hnz_ a h).elim id (fun h2 => by have := (((jFr.refl hH.wf : jFr G (hF A H) M M 0 0).trans hX6_.2 (fun _ _ h => h) (fun _ _ h => h) (Nat.le_refl _) (Nat.le_refl _))).2.1.1; omega)) (Nat.le_refl _) (Nat.le_refl _), fun a h => (hnz_ a h).elim Or.inl (fun h2 => Or.inr (Nat.le_trans (((jFr.refl hH.wf : jFr G (hF A H) M M 0 0).trans hX6_.2 (fun _ _ h => h) (fun _ _ h => h) (Nat.le_refl _) (Nat.le_refl _))).2.1.1 h2))⟩)

end K16
