section K6
variable {l : Launch} {G : j_G} {M : j_M} {W : jWt} {A : Nat → Nat} {H : HV}
theorem X6_init_m (hW : j_wf G M) {c z kq : Nat} {own : Int32} (hc : M.1 c = some (.inr (6, [.int 0, .int 0, .int 0, .null, .null]))) : JM l G 1 yX6_init wX6_init [.ref c, .int own, .ref z, .ref kq] M (jn (j_put M c (.inr (6, [.int own, .int 0, .int 0, .ref z, .ref kq])))) := by
  refine JM.of pn_X6 (Nat.le_of_ble_eq_true rfl) (hW.1) ?_
  show JW l G 1 YX6_init _ 0 [(0, .ref c), (1, .int own), (2, .ref z), (3, .ref kq)] [] M
  refine j_aload_n dX6_init_0 rfl rfl ?_
  refine j_aload_n dX6_init_1 rfl rfl ?_
  refine j_put_ dX6_init_2 fd_X6_1_6 cl_6 (fun r hr => ⟨(ft_6_3 r hr).1, Or.inr ⟨rfl, (ft_6_3 r hr).2.2⟩⟩) hc (Or.inr (by decide)) rfl rfl (Nat.le_of_ble_eq_true rfl) ?_
  show JW _ _ _ _ _ _ _ _ (j_put M c (.inr (6, [.int 0, .int 0, .int 0, .ref z, .null])))
  refine j_aload_n dX6_init_5 rfl rfl ?_
  refine j_aload_n dX6_init_6 rfl rfl ?_
  refine j_put_ dX6_init_7 fd_X6_7_6 cl_6 (fun r hr => ⟨(ft_6_4 r hr).1, Or.inr ⟨rfl, (ft_6_4 r hr).2.2⟩⟩) j_peq (Or.inr (by decide)) rfl rfl (Nat.le_of_ble_eq_true rfl) ?_
  rw [j_pp]
  show JW _ _ _ _ _ _ _ _ (j_put M c (.inr (6, [.int 0, .int 0, .int 0, .ref z, .ref kq])))
  refine j_aload_n dX6_init_10 rfl rfl ?_
  refine j_objInit dX6_init_11 q1389 q150 q151 (Nat.le_of_ble_eq_true rfl) (Nat.le_of_ble_eq_true rfl) ?_
  refine j_aload_n dX6_init_14 rfl rfl ?_
  refine j_iload_n dX6_init_15 rfl ?_
  refine j_put_ dX6_init_16 fd_X6_17_6 cl_6 (fun r hr => ⟨(ft_6_0 r hr).1, Or.inr ⟨rfl, (ft_6_0 r hr).2.2⟩⟩) j_peq (Or.inr (by decide)) rfl rfl (Nat.le_of_ble_eq_true rfl) ?_
  rw [j_pp]
  show JW _ _ _ _ _ _ _ _ (j_put M c (.inr (6, [.int own, .int 0, .int 0, .ref z, .ref kq])))
  exact j_return dX6_init_19 rfl (rfl)

theorem X0_placed_m (hWd : jWd G W M) (hG : jGd G W) {q z kq i : Nat} {m : Int32} {nd : Nat → Nat} {xs : List Nat} {kf : Nat → Int32} (hL : LL M q m nd (hlist xs W.2) xs.length) (hxs : ∀ x, x ∈ xs → x < 16) (hlen : xs.length ≤ 16) (hZ : M.1 z = some (aobj i)) (hKq : M.1 kq = some (.inl (0, 16, .inl kf))) (hi : i < 2) (place : Int32) : JM l G 6 yX0_placed wX0_placed [.ref q, .ref kq, .ref z, .int place] M (jr (fun v M' => v = some (.int (hPlaced i xs kf place)) ∧ jEx G M M' 33 165)) := by
  refine JM.of pn_X0 (Nat.le_of_ble_eq_true rfl) (hWd.1.1) ?_
  show JW l G 6 YX0_placed _ 0 [(0, .ref q), (1, .ref kq), (2, .ref z), (3, .int place)] [] M
  refine j_aload_n dX0_placed_0 rfl rfl ?_
  refine j_callF (J3_iterator_m hWd.1 hL (by omega)) dX0_placed_1 mt_J3_iterator q1323 (by decide +kernel) rfl q1375 q944 hL.1 (by decide) rfl cd_J3_iterator (Nat.le_of_ble_eq_true rfl) rfl rfl (Nat.le_of_ble_eq_true rfl) (jk_v ?_) jx_v
  obtain ⟨it1, hit1⟩ : ∃ z : Nat, z = M.2.1 := ⟨_, rfl⟩
  obtain ⟨M1_, hM1_⟩ : ∃ X : j_M, X = j_new M (.inr (17, [.null, va_rf (lk nd xs.length 0), .int 0, .int m, .ref q])) 5 := ⟨_, rfl⟩
  rw [← hit1, ← hM1_]
  refine j_astore dX0_placed_6 rfl (by decide) rfl ?_
  have hE1_ : jEx G M M1_ 1 5 := by rw [hM1_]; exact jFr.new hWd.1
  have hm1_ : M.2.1 ≤ it1 := Nat.le_of_eq hit1.symm
  have lo_ : ∀ (vs us : List Nat) (M_ : j_M) (lr : Value), us ++ vs = xs → jEx G M M_ (1 + 2 * us.length) (5 + 10 * us.length) → M_.1 it1 = some (.inr (17, [lr, va_rf (lk nd xs.length us.length), .int (nI us.length), .int m, .ref q])) → (∀ x, x ∈ us → decide (hCount i kf xs x = place) = false) → JW l G 6 YX0_placed (jr (fun v M' => v = some (.int (hPlaced i xs kf place)) ∧ jEx G M M' 33 165)) 8 [(0, .ref q), (1, .ref kq), (2, .ref z), (3, .int place), (4, .ref it1)] [] M_ := by
    intro vs
    induction vs with
    | nil =>
      intro us M_ lr hx_ hE_ hI_ hno_
      have hul_ : us = xs := by rw [← hx_, List.append_nil]
      have hlu_ : us.length = xs.length := by rw [hul_]
      have hL_ := hL.ex hWd.1 hE_
      refine j_aload dX0_placed_8 rfl rfl ?_
      refine j_callF (J23_hasNext_m hE_.1 hL_ hI_ (by omega) (by omega)) dX0_placed_10 mt_J23_hasNext q1379 (by decide +kernel) rfl q433 q435 hI_ (by decide) rfl cd_J23_hasNext (Nat.le_of_ble_eq_true rfl) rfl rfl (Nat.le_of_ble_eq_true rfl) (jk_v ?_) jx_v
      refine j_ifeqB (tgt := 104) dX0_placed_15 (by decide) (fun c15 => ?_) (fun c15 => ?_)
      · have hfn_ : xs.find? (fun one => decide (hCount i kf xs one = place)) = none := by
          rw [List.find?_eq_none]; intro x hx; rw [hno_ x (by rw [hul_]; exact hx)]; decide
        refine j_bipush (v := (-11)) dX0_placed_104 (by decide) ?_
        exact j_ireturn dX0_placed_106 rfl (jr_i ⟨by unfold hPlaced; rw [hfn_]; rfl, hE_.mono (fun _ _ h => h) (by omega) (by omega)⟩)
      · exact absurd (of_decide_eq_true c15) (by omega)
    | cons v vs ih =>
      intro us M_ lr hx_ hE_ hI_ hno_
      have hul_ : us.length < xs.length := by rw [← hx_, List.length_append, List.length_cons]; omega
      have hv16_ : v < 16 := hxs v (by rw [← hx_]; exact List.mem_append_right _ List.mem_cons_self)
      have hlv_ : hlist xs W.2 us.length = W.2 v := by rw [← hx_]; exact hlist_mid us vs v W.2
      have hL_ := hL.ex hWd.1 hE_
      refine j_aload dX0_placed_8 rfl rfl ?_
      refine j_callF (J23_hasNext_m hE_.1 hL_ hI_ (by omega) (by omega)) dX0_placed_10 mt_J23_hasNext q1379 (by decide +kernel) rfl q433 q435 hI_ (by decide) rfl cd_J23_hasNext (Nat.le_of_ble_eq_true rfl) rfl rfl (Nat.le_of_ble_eq_true rfl) (jk_v ?_) jx_v
      refine j_ifeqB (tgt := 104) dX0_placed_15 (by decide) (fun c15 => ?_) (fun c15 => ?_)
      · exact absurd c15 (by rw [decide_eq_true hul_]; decide)
      · refine j_aload dX0_placed_18 rfl rfl ?_
        refine j_callF (J23_next_m hE_.1 hL_ hI_ (by omega) (by omega)) dX0_placed_20 mt_J23_next q1381 (by decide +kernel) rfl q847 q849 hI_ (by decide) rfl cd_J23_next (Nat.le_of_ble_eq_true rfl) rfl rfl (Nat.le_of_ble_eq_true rfl) (jk_v ?_) jx_v
        rw [hlv_]
        obtain ⟨M2_, hM2_⟩ : ∃ X : j_M, X = j_put M_ it1 (.inr (17, [.ref (nd us.length), va_rf (lk nd xs.length (us.length + 1)), .int (nI (us.length + 1)), .int m, .ref q])) := ⟨_, rfl⟩
        rw [← hM2_]
        have hI2_ : M2_.1 it1 = some (.inr (17, [.ref (nd us.length), va_rf (lk nd xs.length (us.length + 1)), .int (nI (us.length + 1)), .int m, .ref q])) := by rw [hM2_]; exact j_peq
        have hE2_ : jEx G M M2_ (1 + 2 * us.length) (5 + 10 * us.length) := by rw [hM2_]; exact hE_.stepp hI_ (fun h => absurd h (by omega))
        have hw2_ : jWd G W M2_ := hWd.ex hE2_
        refine j_chk dX0_placed_25 (hw2_.int hG hv16_) (by decide) rfl q1382 (Or.inl rfl) ?_
        refine j_callV (J25_intValue_m hE2_.1 (hw2_.int hG hv16_)) dX0_placed_28 mt_J25_intValue q1383 q1013 q1014 (hw2_.int hG hv16_) (by decide) rfl cd_J25_intValue (Nat.le_of_ble_eq_true rfl) rfl rfl (Nat.le_of_ble_eq_true rfl) (jk_v ?_) jx_v
        refine j_istore dX0_placed_31 (by decide) rfl ?_
        refine j_new_ dX0_placed_33 nw_X0_87 ?_
        refine j_dup dX0_placed_36 rfl ?_
        refine j_iload dX0_placed_37 rfl ?_
        refine j_aload_n dX0_placed_39 rfl rfl ?_
        refine j_aload_n dX0_placed_40 rfl rfl ?_
        obtain ⟨c, hc_⟩ : ∃ z : Nat, z = M2_.2.1 := ⟨_, rfl⟩
        obtain ⟨M3_, hM3_⟩ : ∃ X : j_M, X = j_new M2_ (.inr (6, [.int 0, .int 0, .int 0, .null, .null])) 5 := ⟨_, rfl⟩
        rw [← hM3_, ← hc_]
        have hC3_ : M3_.1 c = some (.inr (6, [.int 0, .int 0, .int 0, .null, .null])) := by rw [hM3_, hc_]; exact j_neq
        have hcm_ : M.2.1 ≤ c := by rw [hc_]; exact hE2_.2.1.1
        have hE3_ : jEx G M M3_ (1 + 2 * us.length + 1) (5 + 10 * us.length + 5) := by rw [hM3_]; exact hE2_.stepn
        have hne_ : it1 ≠ c := by rw [hc_]; exact Nat.ne_of_lt (hE2_.1.2 _ _ hI2_)
        have hI3_ : M3_.1 it1 = some (.inr (17, [.ref (nd us.length), va_rf (lk nd xs.length (us.length + 1)), .int (nI (us.length + 1)), .int m, .ref q])) := by rw [hM3_]; exact j_nne hE2_.1 hI2_
        refine j_callI (X6_init_m hE3_.1 hC3_) dX0_placed_41 mt_X6_init q1386 q1387 rfl rfl cd_X6_init (Nat.le_of_ble_eq_true rfl) rfl rfl (Nat.le_of_ble_eq_true rfl) (jk_n ?_) jx_n
        obtain ⟨M4_, hM4_⟩ : ∃ X : j_M, X = j_put M3_ c (.inr (6, [.int (nI v), .int 0, .int 0, .ref z, .ref kq])) := ⟨_, rfl⟩
        rw [← hM4_]
        have hC4_ : M4_.1 c = some (.inr (6, [.int (nI v), .int 0, .int 0, .ref z, .ref kq])) := by rw [hM4_]; exact j_peq
        have hE4_ : jEx G M M4_ (1 + 2 * us.length + 1) (5 + 10 * us.length + 5) := by rw [hM4_]; exact hE3_.stepp hC3_ (fun h => absurd h (by omega))
        have hI4_ : M4_.1 it1 = some (.inr (17, [.ref (nd us.length), va_rf (lk nd xs.length (us.length + 1)), .int (nI (us.length + 1)), .int m, .ref q])) := by rw [hM4_]; exact j_pne hne_ hI3_
        have hL4_ := hL.ex hWd.1 hE4_
        refine j_astore dX0_placed_44 rfl (by decide) rfl ?_
        refine j_aload_n dX0_placed_46 rfl rfl ?_
        refine j_callF (J3_iterator_m hE4_.1 hL4_ (by omega)) dX0_placed_47 mt_J3_iterator q1323 (by decide +kernel) rfl q1375 q944 hL4_.1 (by decide) rfl cd_J3_iterator (Nat.le_of_ble_eq_true rfl) rfl rfl (Nat.le_of_ble_eq_true rfl) (jk_v ?_) jx_v
        obtain ⟨it5, hit5⟩ : ∃ z : Nat, z = M4_.2.1 := ⟨_, rfl⟩
        obtain ⟨M5_, hM5_⟩ : ∃ X : j_M, X = j_new M4_ (.inr (17, [.null, va_rf (lk nd xs.length 0), .int 0, .int m, .ref q])) 5 := ⟨_, rfl⟩
        rw [← hit5, ← hM5_]
        refine j_astore dX0_placed_52 rfl (by decide) rfl ?_
        have hE5_ : jEx G M M5_ (1 + 2 * us.length + 2) (5 + 10 * us.length + 10) := by rw [hM5_]; exact hE4_.stepn
        have hm5_ : M.2.1 ≤ it5 := by rw [hit5]; exact hE4_.2.1.1
        have hI5_ : M5_.1 it1 = some (.inr (17, [.ref (nd us.length), va_rf (lk nd xs.length (us.length + 1)), .int (nI (us.length + 1)), .int m, .ref q])) := by rw [hM5_]; exact j_nne hE4_.1 hI4_
        have hC5_ : M5_.1 c = some (.inr (6, [.int (nI v), .int 0, .int 0, .ref z, .ref kq])) := by rw [hM5_]; exact j_nne hE4_.1 hC4_
        have hJ5_ : M5_.1 it5 = some (.inr (17, [.null, va_rf (lk nd xs.length 0), .int 0, .int m, .ref q])) := by rw [hM5_, hit5]; exact j_neq
        have hn15_ : it1 ≠ it5 := by rw [hit5]; exact Nat.ne_of_lt (hE4_.1.2 _ _ hI4_)
        have hnc5_ : c ≠ it5 := by rw [hit5]; exact Nat.ne_of_lt (hE4_.1.2 _ _ hC4_)
        have li_ : ∀ (ws ts : List Nat) (N_ : j_M) (lr2 : Value), ts ++ ws = xs → jEx G M N_ (1 + 2 * us.length + 2) (5 + 10 * us.length + 10) → N_.1 it1 = some (.inr (17, [.ref (nd us.length), va_rf (lk nd xs.length (us.length + 1)), .int (nI (us.length + 1)), .int m, .ref q])) → N_.1 c = some (.inr (6, [.int (nI v), .int (jb (ts.foldl (hMeets i kf v) (false, 0)).1), .int (ts.foldl (hMeets i kf v) (false, 0)).2, .ref z, .ref kq])) → N_.1 it5 = some (.inr (17, [lr2, va_rf (lk nd xs.length ts.length), .int (nI ts.length), .int m, .ref q])) → JW l G 6 YX0_placed (jr (fun v M' => v = some (.int (hPlaced i xs kf place)) ∧ jEx G M M' 33 165)) 54 [(0, .ref q), (1, .ref kq), (2, .ref z), (3, .int place), (4, .ref it1), (5, .int (nI v)), (6, .ref c), (7, .ref it5)] [] N_ := by
          intro ws
          induction ws with
          | nil =>
            intro ts N_ lr2 hy_ hF_ hK_ hC_ hJ_
            have htl_ : ts = xs := by rw [← hy_, List.append_nil]
            have hlt_ : ts.length = xs.length := by rw [htl_]
            have hLn_ := hL.ex hWd.1 hF_
            refine j_aload dX0_placed_54 rfl rfl ?_
            refine j_callF (J23_hasNext_m hF_.1 hLn_ hJ_ (by omega) (by omega)) dX0_placed_56 mt_J23_hasNext q1379 (by decide +kernel) rfl q433 q435 hJ_ (by decide) rfl cd_J23_hasNext (Nat.le_of_ble_eq_true rfl) rfl rfl (Nat.le_of_ble_eq_true rfl) (jk_v ?_) jx_v
            refine j_ifeqB (tgt := 89) dX0_placed_61 (by decide) (fun c61 => ?_) (fun c61 => ?_)
            · rw [htl_] at hC_
              refine j_aload dX0_placed_89 rfl rfl ?_
              refine j_get dX0_placed_91 fd_X0_96_6 hC_ rfl ?_
              refine j_iload_n dX0_placed_94 rfl ?_
              refine j_icmp_ne (tgt := 101) dX0_placed_95 (by decide) (fun c95 => ?_) (fun c95 => ?_)
              · refine j_goto (tgt := 8) dX0_placed_101 (by decide) ?_
                refine j_locs (ls2 := [(0, .ref q), (1, .ref kq), (2, .ref z), (3, .int place), (4, .ref it1)]) ⟨rfl, rfl, rfl, rfl, rfl, trivial⟩ ?_
                have hl2_ : (us ++ [v]).length = us.length + 1 := by rw [List.length_append]; rfl
                refine ih (us ++ [v]) N_ (.ref (nd us.length)) (by rw [List.append_assoc]; exact hx_) ?_ ?_ (fun x hx => ?_)
                · rw [hl2_]; exact hF_.mono (fun _ _ h => h) (by omega) (by omega)
                · rw [hl2_]; exact hK_
                · rcases List.mem_append.mp hx with h | h
                  · exact hno_ x h
                  · rw [List.mem_singleton.mp h]; exact decide_eq_false c95
              · have hfs_ : xs.find? (fun one => decide (hCount i kf xs one = place)) = some v := by
                  rw [← hx_, List.find?_append, show us.find? (fun one => decide (hCount i kf (us ++ v :: vs) one = place)) = none from by rw [List.find?_eq_none]; intro x hx; rw [hx_, hno_ x hx]; decide]
                  rw [List.find?_cons_of_pos (by rw [hx_]; exact decide_eq_true c95)]; rfl
                refine j_iload dX0_placed_98 rfl ?_
                exact j_ireturn dX0_placed_100 rfl (jr_i ⟨by unfold hPlaced; rw [hfs_]; rfl, hF_.mono (fun _ _ h => h) (by omega) (by omega)⟩)
            · exact absurd (of_decide_eq_true c61) (by omega)
          | cons o ws ih2 =>
            intro ts N_ lr2 hy_ hF_ hK_ hC_ hJ_
            have htl_ : ts.length < xs.length := by rw [← hy_, List.length_append, List.length_cons]; omega
            have ho16_ : o < 16 := hxs o (by rw [← hy_]; exact List.mem_append_right _ List.mem_cons_self)
            have hlo_ : hlist xs W.2 ts.length = W.2 o := by rw [← hy_]; exact hlist_mid ts ws o W.2
            have hLn_ := hL.ex hWd.1 hF_
            refine j_aload dX0_placed_54 rfl rfl ?_
            refine j_callF (J23_hasNext_m hF_.1 hLn_ hJ_ (by omega) (by omega)) dX0_placed_56 mt_J23_hasNext q1379 (by decide +kernel) rfl q433 q435 hJ_ (by decide) rfl cd_J23_hasNext (Nat.le_of_ble_eq_true rfl) rfl rfl (Nat.le_of_ble_eq_true rfl) (jk_v ?_) jx_v
            refine j_ifeqB (tgt := 89) dX0_placed_61 (by decide) (fun c61 => ?_) (fun c61 => ?_)
            · exact absurd c61 (by rw [decide_eq_true htl_]; decide)
            · refine j_aload dX0_placed_64 rfl rfl ?_
              refine j_callF (J23_next_m hF_.1 hLn_ hJ_ (by omega) (by omega)) dX0_placed_66 mt_J23_next q1381 (by decide +kernel) rfl q847 q849 hJ_ (by decide) rfl cd_J23_next (Nat.le_of_ble_eq_true rfl) rfl rfl (Nat.le_of_ble_eq_true rfl) (jk_v ?_) jx_v
              rw [hlo_]
              obtain ⟨N2_, hN2_⟩ : ∃ X : j_M, X = j_put N_ it5 (.inr (17, [.ref (nd ts.length), va_rf (lk nd xs.length (ts.length + 1)), .int (nI (ts.length + 1)), .int m, .ref q])) := ⟨_, rfl⟩
              rw [← hN2_]
              have hJ2_ : N2_.1 it5 = some (.inr (17, [.ref (nd ts.length), va_rf (lk nd xs.length (ts.length + 1)), .int (nI (ts.length + 1)), .int m, .ref q])) := by rw [hN2_]; exact j_peq
              have hF2_ : jEx G M N2_ (1 + 2 * us.length + 2) (5 + 10 * us.length + 10) := by rw [hN2_]; exact hF_.stepp hJ_ (fun h => absurd h (by omega))
              have hK2_ : N2_.1 it1 = some (.inr (17, [.ref (nd us.length), va_rf (lk nd xs.length (us.length + 1)), .int (nI (us.length + 1)), .int m, .ref q])) := by rw [hN2_]; exact j_pne hn15_ hK_
              have hC2_ : N2_.1 c = some (.inr (6, [.int (nI v), .int (jb (ts.foldl (hMeets i kf v) (false, 0)).1), .int (ts.foldl (hMeets i kf v) (false, 0)).2, .ref z, .ref kq])) := by rw [hN2_]; exact j_pne hnc5_ hC_
              have hwn_ : jWd G W N2_ := hWd.ex hF2_
              refine j_chk dX0_placed_71 (hwn_.int hG ho16_) (by decide) rfl q1382 (Or.inl rfl) ?_
              refine j_callV (J25_intValue_m hF2_.1 (hwn_.int hG ho16_)) dX0_placed_74 mt_J25_intValue q1383 q1013 q1014 (hwn_.int hG ho16_) (by decide) rfl cd_J25_intValue (Nat.le_of_ble_eq_true rfl) rfl rfl (Nat.le_of_ble_eq_true rfl) (jk_v ?_) jx_v
              refine j_istore dX0_placed_77 (by decide) rfl ?_
              refine j_aload dX0_placed_79 rfl rfl ?_
              refine j_iload dX0_placed_81 rfl ?_
              refine j_callV (X6_meets_m hF2_.1 (b := (ts.foldl (hMeets i kf v) (false, 0)).1) (n := (ts.foldl (hMeets i kf v) (false, 0)).2) hC2_ (hF2_.cell hWd.1 hZ) (hF2_.cell hWd.1 hKq) hi hv16_ ho16_) dX0_placed_83 mt_X6_meets q1407 q1408 q1409 hC2_ (by decide) rfl cd_X6_meets (Nat.le_of_ble_eq_true rfl) rfl rfl (Nat.le_of_ble_eq_true rfl) (jk_n ?_) jx_n
              obtain ⟨N3_, hN3_⟩ : ∃ X : j_M, X = j_put N2_ c (.inr (6, [.int (nI v), .int (jb (hMeets i kf v (ts.foldl (hMeets i kf v) (false, 0)) o).1), .int (hMeets i kf v (ts.foldl (hMeets i kf v) (false, 0)) o).2, .ref z, .ref kq])) := ⟨_, rfl⟩
              refine j_mem (M' := N3_) hN3_ ?_
              refine j_goto (tgt := 54) dX0_placed_86 (by decide) ?_
              refine j_locs (ls2 := [(0, .ref q), (1, .ref kq), (2, .ref z), (3, .int place), (4, .ref it1), (5, .int (nI v)), (6, .ref c), (7, .ref it5)]) ⟨rfl, rfl, rfl, rfl, rfl, rfl, rfl, rfl, trivial⟩ ?_
              have hl3_ : (ts ++ [o]).length = ts.length + 1 := by rw [List.length_append]; rfl
              refine ih2 (ts ++ [o]) N3_ (.ref (nd ts.length)) (by rw [List.append_assoc]; exact hy_) ?_ ?_ ?_ ?_
              · rw [hN3_]; exact hF2_.stepp hC2_ (fun h => absurd h (by omega))
              · rw [hN3_]; exact j_pne hne_ hK2_
              · rw [hN3_, List.foldl_append]; exact j_peq
              · rw [hN3_, hl3_]; exact j_pne (Ne.symm hnc5_) hJ2_
        refine j_locs (ls2 := [(0, .ref q), (1, .ref kq), (2, .ref z), (3, .int place), (4, .ref it1), (5, .int (nI v)), (6, .ref c), (7, .ref it5)]) ⟨rfl, rfl, rfl, rfl, rfl, rfl, rfl, rfl, trivial⟩ ?_
        exact li_ xs [] M5_ .null rfl hE5_ hI5_ hC5_ hJ5_
  refine j_locs (ls2 := [(0, .ref q), (1, .ref kq), (2, .ref z), (3, .int place), (4, .ref it1)]) ⟨rfl, rfl, rfl, rfl, rfl, trivial⟩ ?_
  exact lo_ xs [] M1_ .null rfl hE1_ (by rw [hM1_, hit1]; exact j_neq) (fun x hx => absurd hx (List.not_mem_nil))

end K6
