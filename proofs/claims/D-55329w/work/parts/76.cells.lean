/-! ===== from cell to cell ===== -/
def nxC (f : Nat → Int32) : Nat → Nat → Nat
  | 0, c => c
  | e + 1, c => if f c = -15 then nxC f e (c + 1) else c
def hNx (f : Nat → Int32) (c : Nat) : Nat := nxC f (8 - c) c
theorem nxC_ge (f : Nat → Int32) : ∀ e c, c ≤ nxC f e c ∧ nxC f e c ≤ c + e
  | 0, c => ⟨Nat.le_refl _, Nat.le_refl _⟩
  | e + 1, c => by
    unfold nxC
    split
    · have := nxC_ge f e (c + 1)
      exact ⟨by omega, by omega⟩
    · exact ⟨Nat.le_refl _, by omega⟩
theorem nxC_no (f : Nat → Int32) : ∀ e c k, c ≤ k → k < nxC f e c → f k = -15
  | 0, c, k, h1, h2 => by
    have : nxC f 0 c = c := rfl
    omega
  | e + 1, c, k, h1, h2 => by
    unfold nxC at h2
    split at h2
    · next q =>
      by_cases h : k = c
      · rw [h]; exact q
      · exact nxC_no f e (c + 1) k (by omega) h2
    · omega
theorem nxC_at (f : Nat → Int32) : ∀ e c, nxC f e c < c + e → f (nxC f e c) ≠ -15
  | 0, c, h => by
    have : nxC f 0 c = c := rfl
    omega
  | e + 1, c, h => by
    unfold nxC at h ⊢
    split
    · next q =>
      rw [if_pos q] at h
      exact nxC_at f e (c + 1) (by omega)
    · next q => exact q
theorem hNx_ge {f : Nat → Int32} {c : Nat} (h : c ≤ 8) : c ≤ hNx f c ∧ hNx f c ≤ 8 := by
  have := nxC_ge f (8 - c) c
  unfold hNx
  omega
theorem hNx_no {f : Nat → Int32} {c k : Nat} (h1 : c ≤ k) (h2 : k < hNx f c) : f k = -15 := nxC_no f _ c k h1 h2
theorem hNx_at {f : Nat → Int32} {c : Nat} (hc : c ≤ 8) (h : hNx f c < 8) : f (hNx f c) ≠ -15 := nxC_at f _ c (by unfold hNx at h; omega)
theorem mfold_skip {α : Type} {g : α → Nat → α} {a : α} {k : Nat} : ∀ {k' : Nat}, k ≤ k' → (∀ c t, k ≤ c → c < k' → g t c = t) → mfold g a k' = mfold g a k
  | k', h, hs => by
    induction k' with
    | zero => rw [Nat.le_zero.mp h]
    | succ n ih =>
      by_cases q : k = n + 1
      · rw [q]
      · show g (mfold g a n) n = _
        rw [hs n _ (by omega) (Nat.lt_succ_self _), ih (by omega) (fun c t h1 h2 => hs c t h1 (by omega))]
theorem msum_skip {f : Nat → Int32} {k : Nat} : ∀ {k' : Nat}, k ≤ k' → (∀ c, k ≤ c → c < k' → f c = 0) → msum f k' = msum f k
  | k', h, hs => by
    induction k' with
    | zero => rw [Nat.le_zero.mp h]
    | succ n ih =>
      by_cases q : k = n + 1
      · rw [q]
      · show msum f n + f n = _
        rw [hs n (by omega) (Nat.lt_succ_self _), ih (by omega) (fun c h1 h2 => hs c h1 (by omega)), Int32.add_zero]
/-- a cell holds a brother, or nobody -/
def hCO (H : HV) : Prop := ∀ c, c < 8 → H.2.1 0 c = -15 ∨ ∃ b, b < hn H ∧ H.2.1 0 c = nI b
/-- a sum over the cells with a brother -/
def hCs (H : HV) (g : Nat → Int32) (c : Nat) : Int32 := if H.2.1 0 c = -15 then 0 else g (mN (H.2.1 0 c))
theorem hCs_at {H : HV} {g : Nat → Int32} {k v : Nat} (h0 : H.2.1 0 k ≠ -15) (e : H.2.1 0 k = nI v) (hv : v < 16) : hCs H g k = g v := by
  unfold hCs
  rw [if_neg h0, e, mN_nI (by omega)]
def hEntB (H : HV) (b : Nat) : Bool := decide (hb H b 3 = 1) && decide (hb H b 6 = 0)
def hEnt (H : HV) : Int32 := msum (hCs H (fun b => jb (decide (hb H b 3 = 1) && decide (hb H b 6 = 0)))) 8
def hUps (k : Nat) (g : HV → Nat → Int32) (T : HV) (v : Nat) : HV := hsa T (2 + v) (va_up (T.2.1 (2 + v)) k (g T v))
/-- over the cells: field k of each brother in a cell becomes g -/
def hCel (f0 : Nat → Int32) (k : Nat) (g : HV → Nat → Int32) (T : HV) (c : Nat) : HV := if f0 c = -15 then T else hUps k g T (mN (f0 c))
theorem hCel_22 (f0 : Nat → Int32) (k : Nat) (g : HV → Nat → Int32) (H : HV) (n : Nat) : (mfold (hCel f0 k g) H n).2.2 = H.2.2 :=
  mfold_inv (f := hCel f0 k g) (a := H) (P := fun T : HV => T.2.2 = H.2.2) rfl (fun t c h => by unfold hCel; split; (· exact h); (· exact h)) n
theorem hCel_0 (f0 : Nat → Int32) (k : Nat) (g : HV → Nat → Int32) (H : HV) (n : Nat) : (mfold (hCel f0 k g) H n).2.1 0 = H.2.1 0 :=
  mfold_inv (f := hCel f0 k g) (a := H) (P := fun T : HV => T.2.1 0 = H.2.1 0) rfl (fun t c h => by
    unfold hCel
    split
    · exact h
    · exact (va_up_ne _ _ (by omega)).trans h) n
theorem hCel_1 (f0 : Nat → Int32) (k : Nat) (g : HV → Nat → Int32) (H : HV) (n : Nat) : (mfold (hCel f0 k g) H n).1 = H.1 :=
  mfold_inv (f := hCel f0 k g) (a := H) (P := fun T : HV => T.1 = H.1) rfl (fun t c h => by unfold hCel; split; (· exact h); (· exact h)) n
theorem hCel_at {f0 : Nat → Int32} {k c v : Nat} {g : HV → Nat → Int32} {T : HV} (h : f0 c ≠ -15) (e : f0 c = nI v) (hv : v < 16) : hCel f0 k g T c = hUps k g T v := by
  unfold hCel
  rw [if_neg h, e, mN_nI (by omega)]
def gGive (each : Int32) (T : HV) (v : Nat) : Int32 := hb T v 7 + (if hEntB T v then each else 0)
def gBan (T : HV) (v : Nat) : Int32 := hb T v 6 - (if 0 < hb T v 6 then 1 else 0)
def hGiveAll (H : HV) (each : Int32) : HV := mfold (hCel (H.2.1 0) 7 (gGive each)) H 8
def hBanAll (H : HV) : HV := mfold (hCel (H.2.1 0) 6 gBan) H 8
abbrev hFp (H : HV) : Int32 := H.2.1 1 (mN (H.1 6))
def hEachP (H : HV) : Int32 := if hFp H * hEnt H ≤ H.1 7 then hFp H else H.1 7 / hEnt H
def hFeastIs (H : HV) : Int32 × HV :=
  if hFp H = 0 then (0, H) else if hEnt H = 0 then (0, H) else
    (hEachP H * hEnt H, hsz (hsz (hGiveAll H (hEachP H)) 7 ((hGiveAll H (hEachP H)).1 7 - hEachP H * hEnt H)) 9 ((hsz (hGiveAll H (hEachP H)) 7 ((hGiveAll H (hEachP H)).1 7 - hEachP H * hEnt H)).1 9 + hEachP H * hEnt H))
def hWk (H : HV) : Prop := ∃ w, w < 52 ∧ H.1 6 = nI w
theorem gGive_t {each : Int32} {T : HV} {v : Nat} (h : hEntB T v = true) : gGive each T v = hb T v 7 + each := by
  unfold gGive
  rw [if_pos h]
theorem gGive_f {each : Int32} {T : HV} {v : Nat} (h : hEntB T v = false) : gGive each T v = hb T v 7 + 0 := by
  unfold gGive
  rw [h]; rfl
def hNextFeast (H : HV) : Int32 := mres (mfind (fun k => decide (0 < H.2.1 1 ((mN (H.1 6) + k) % 52))) 52) (-15)
