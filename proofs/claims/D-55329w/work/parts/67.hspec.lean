/-! ===== the House's lists, met by its methods; pure functions of a House ===== -/
section HAt2
variable {l : Launch} {G : j_G} {W : jWt} {M M' : j_M} {A : Nat → Nat} {H H' : HV}
theorem HAt.get (h : HAt G W M A H) {b : Nat} (hb : b < hn H) : JM l G 2 yJ2_get wJ2_get [.ref (A 1), .int (nI b)] M (jv (.ref (A (7 + b))) M) := by
  have := J2_get_m (l := l) h.wf h.al h.el (i := b) hb h.2.1.1 (by decide)
  rw [if_pos hb] at this
  exact this
abbrev bit (H : HV) (A : Nat → Nat) (k : Nat) (lr : Int32) : va_E := .inr (16, [.int (nI k), .int lr, .int (H.1 0), .ref (A 1)])
theorem HAt.biter (h : HAt G W M A H) : JM l G 2 yJ2_iterator wJ2_iterator [.ref (A 1)] M (jv (.ref M.2.1) (j_new M (bit H A 0 (-1)) 4)) := J2_iterator_m h.wf h.al
theorem HAt.bhas (h : HAt G W M A H) {q k : Nat} {lr : Int32} (hI : M.1 q = some (bit H A k lr)) (hk : k ≤ hn H) : JM l G 0 yJ10_hasNext wJ10_hasNext [.ref q] M (jv (.int (jb (decide (k < hn H)))) M) :=
  J10_hasNext_m h.wf h.al hI hk (Nat.lt_of_le_of_lt h.2.1.1 (by decide))
theorem HAt.bnext (h : HAt G W M A H) {q k : Nat} {lr : Int32} (hI : M.1 q = some (bit H A k lr)) (hk : k < hn H) : JM l G 1 yJ10_next wJ10_next [.ref q] M (jv (.ref (A (7 + k))) (j_put M q (bit H A (k + 1) (nI k)))) :=
  J10_next_m h.wf h.al h.el hI hk h.2.1.1 (by decide) (if_pos hk)
/-- after `next`, one step on: the house as it was, the iterator one further -/
theorem HAt.bstep {M0 : j_M} {F : Nat → Prop} {N D : Nat} (h : HAt G W M A H) {q k : Nat} {lr lr2 : Int32} (hI : M.1 q = some (bit H A k lr)) (hq : jB G ≤ q) (hf : jFr G F M0 M N D) (hF : q < M0.2.1 → F q) : HAt G W (j_put M q (bit H A (k + 1) lr2)) A H ∧ (j_put M q (bit H A (k + 1) lr2)).1 q = some (bit H A (k + 1) lr2) ∧ jFr G F M0 (j_put M q (bit H A (k + 1) lr2)) N D :=
  ⟨h.putE hI rfl hq, j_peq, hf.stepp hI hF⟩
abbrev lit (m : Int32) (nd : Nat → Nat) (len : Nat) (q : Nat) (k : Nat) (lr : Value) : va_E := .inr (17, [lr, va_rf (lk nd len k), .int (nI k), .int m, .ref q])
theorem jWd.bump {G : j_G} {W : jWt} {M : j_M} (h : jWd G W M) : jB G ≤ M.2.1 := h.1.1
end HAt2
def hHas (H : HV) (x : Int32) : Bool := mIn x 0 (nI (hn H) - 1)
theorem hHas_of {H : HV} {x : Int32} (h16 : hn H ≤ 16) (h : hHas H x = true) : ∃ b, b < hn H ∧ x = nI b := by
  have h1 := (Bool.and_eq_true _ _).mp h
  have h2 : 0 ≤ x := of_decide_eq_true h1.1
  have h3 : x ≤ nI (hn H) - 1 := of_decide_eq_true h1.2
  obtain ⟨b, hb, rfl⟩ := nI_of (x := x) (Int32.not_lt.mpr h2)
  refine ⟨b, ?_, rfl⟩
  rw [Int32.le_iff_toInt_le, show (1 : Int32) = nI 1 from rfl, pk_sub_toInt (by omega) (by omega), nI_toInt hb] at h3
  omega
def hSo (H : HV) (state : Int32) : Int32 := msum (fun b => jb (decide (hb H b 3 = state))) (hn H)
def hVoiceSum (H : HV) (x : Int32) : Int32 := msum (fun b => jb (decide (hb H b 8 = x))) (hn H)
def hVoices (H : HV) (b : Nat) : Int32 := if hb H b 1 = 0 then hVoiceSum H (nI b) else 2 * hVoiceSum H (nI b)
def hGowns (H : HV) (k : Nat) : Nat → Int32 := mfold (fun f b => va_up f b (hb H b 5)) (fun _ => 0) k
def hAllV (H : HV) (k : Nat) : Nat → Int32 := mfold (fun f b => if hb H b 8 = -15 then f else va_up f (mN (hb H b 8)) (f (mN (hb H b 8)) + (if hb H (mN (hb H b 8)) 1 = 0 then 1 else 2))) (fun _ => 0) k
def hPence (H : HV) : Int32 := msum (fun b => hb H b 7) (hn H)
def hFeasts (H : HV) : Int32 := msum (fun w => jb (decide (0 < H.2.1 1 w))) 52
/-- voices go to brethren, numbers are places -/
def hOK (H : HV) : Prop := ∀ b, b < hn H → hb H b 0 = nI b ∧ (hb H b 8 = -15 ∨ ∃ v, v < hn H ∧ hb H b 8 = nI v)
def hComesIn (H : HV) (p : Int32) : HV :=
  let x := if 9999 - H.1 7 < p then 9999 - H.1 7 else p
  hsz (hsz H 7 (H.1 7 + x)) 8 ((hsz H 7 (H.1 7 + x)).1 8 + x)
def hNoVs (x : Int32) (T : HV) (b : Nat) : HV := hsa T (2 + b) (va_up (T.2.1 (2 + b)) 8 (if hb T b 8 = x then -15 else hb T b 8))
def hNoV (H : HV) (x : Int32) (k : Nat) : HV := mfold (hNoVs x) H k
def hAgs (T : HV) (b : Nat) : HV :=
  let U := hsa T (2 + b) (va_up (T.2.1 (2 + b)) 2 (hb T b 2 + jb (decide (hb T b 3 = 0) || decide (hb T b 3 = 1))))
  hsa U (2 + b) (va_up (U.2.1 (2 + b)) 5 (hb U b 5 + jb (decide (hb U b 3 = 1))))
def hAging (H : HV) (k : Nat) : HV := mfold hAgs H k
theorem hNoV_22 (H : HV) (x : Int32) (k : Nat) : (hNoV H x k).2.2 = H.2.2 := mfold_inv (f := hNoVs x) (a := H) (P := fun T : HV => T.2.2 = H.2.2) rfl (fun _ _ h => h) k
theorem hAging_22 (H : HV) (k : Nat) : (hAging H k).2.2 = H.2.2 := mfold_inv (f := hAgs) (a := H) (P := fun T : HV => T.2.2 = H.2.2) rfl (fun _ _ h => h) k
theorem hNoV_m (H : HV) (x : Int32) (k : Nat) : (hNoV H x k).1 = H.1 := mfold_inv (f := hNoVs x) (a := H) (P := fun T : HV => T.1 = H.1) rfl (fun _ _ h => h) k
theorem hAging_m (H : HV) (k : Nat) : (hAging H k).1 = H.1 := mfold_inv (f := hAgs) (a := H) (P := fun T : HV => T.1 = H.1) rfl (fun _ _ h => h) k
