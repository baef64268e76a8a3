/-! ===== what the reference's methods compute, as functions of its state ===== -/
abbrev mo (s : MS) (b k : Nat) : Int32 := s.2 0 (64 + 16 * b + k)
abbrev mw (s : MS) (i : Nat) : Int32 := s.2 0 i
def mset (s : MS) (b k : Nat) (v : Int32) : MS := ms_a s 0 (va_up (s.2 0) (64 + 16 * b + k) v)
def mwset (s : MS) (i : Nat) (v : Int32) : MS := ms_a s 0 (va_up (s.2 0) i v)
def msum (f : Nat → Int32) : Nat → Int32
  | 0 => 0
  | k + 1 => msum f k + f k
def mfind (p : Nat → Bool) (n : Nat) : Option Nat := (List.range n).find? p
def mres (o : Option Nat) (d : Int32) : Int32 := match o with
  | some b => nI b
  | none => d
def mfold {α : Type} (f : α → Nat → α) (a : α) : Nat → α
  | 0 => a
  | k + 1 => f (mfold f a k) k
abbrev mSo (s : MS) (b : Nat) (how : Int32) : Bool := decide (mo s b 2 = how)
abbrev mEnt (s : MS) (b : Nat) : Bool := mSo s b 1 && decide (mo s b 5 = 0)
def mBr (s : MS) (b : Int32) : Bool := decide (0 ≤ b) && decide (b ≤ mw s 2 - 1)
def mIn (v a b : Int32) : Bool := decide (a ≤ v) && decide (v ≤ b)
def mThat (s : MS) (n : Nat) (how : Int32) : Int32 := msum (fun b => jb (mSo s b how)) n
def mInCell (s : MS) (n : Nat) (c : Int32) : Option Nat := mfind (fun b => mSo s b 1 && decide (mo s b 3 = c)) n
def mBrotherIn (s : MS) (n : Nat) (c : Int32) : Int32 := mres (mInCell s n c) (-15)
def mCounts (s : MS) (b : Nat) : Int32 := if mo s b 1 = 1 then 2 else 1
def mVoices (s : MS) (n b : Nat) : Int32 := if mo s b 2 = 0 then msum (fun k => if mo s k 7 = nI b + 1 then mCounts s b else 0) n else 0
def mClear (s : MS) (b : Nat) (n : Nat) : MS := mfold (fun t k => if mo t k 7 = nI b + 1 then mset t k 7 0 else t) s n
def mGo1 (s : MS) (b : Nat) : MS := if mo s b 2 = 1 then s else mset s b 7 0
def mVoicesGo (s : MS) (n b : Nat) : MS := if mo (mGo1 s b) b 2 = 0 then mGo1 s b else mClear (mGo1 s b) b n
def mStamps (s : MS) (b : Nat) : MS := mset (mwset s 10 (mw s 10 + 1)) b 8 (mw (mwset s 10 (mw s 10 + 1)) 10)
def mBecomes (s : MS) (n b : Nat) (how : Int32) : MS := mVoicesGo (mset (mset s b 2 how) b 5 0) n b
/-- refusing: the state and the answer -/
def mNot (s : MS) (reason of : Int32) : MS := ms_z (ms_z s 2 reason) 3 of
def mRef (s : MS) (not : Int32) : MS := if not = -14 then ms_z (ms_z s 0 (s.1 2)) 1 (s.1 3) else s
def mReason (s : MS) (d : Bool) : Int32 := if s.1 0 = 0 then -15 else if d then s.1 1 else s.1 0
def mThinks (s : MS) : MS := ms_a s 3 (fun i => if i < 320 then s.2 0 i else s.2 3 i)
def mForgets (s : MS) : MS := ms_a s 0 (fun i => if i < 320 then s.2 3 i else s.2 0 i)
def mComesIn (s : MS) (p : Int32) : MS :=
  let x := if p < 9999 - mw s 3 then p else 9999 - mw s 3
  mwset (mwset s 3 (mw s 3 + x)) 4 (mw (mwset s 3 (mw s 3 + x)) 4 + x)
theorem mw_set_self (s : MS) (i : Nat) (v : Int32) : mw (mwset s i v) i = v := by simp [mw, mwset, ms_a, va_up]
theorem mw_set_ne (s : MS) {i j : Nat} (v : Int32) (h : j ≠ i) : mw (mwset s i v) j = mw s j := by simp [mw, mwset, ms_a, va_up, h]
theorem m_ix (b k : Nat) : (64 : Int32) + 16 * nI b + nI k = nI (64 + 16 * b + k) := by
  show nI 64 + nI 16 * nI b + nI k = _
  rw [pk_mul, nI_add, nI_add]
section MJV
variable {M : j_M} {L : Nat → Nat}
theorem mjv {x y : Int32} {s t : MS} (h : x = y) (h2 : s = t) : jv (.int y) (mput M L t) (.inl (some (.int x)), mput M L s) := by subst h; subst h2; rfl
/-- the post of a method without an answer -/
def jn (M : j_M) : j_Res → Prop := fun r => r = (.inl none, M)
theorem mjn {s t : MS} (h2 : s = t) : jn (mput M L t) (.inl none, mput M L s) := by subst h2; rfl
variable {l : Launch} {G : j_G} {h : Nat} {Y : j_Y} {Q : j_Res → Prop} {pc : Nat} {ls : List (Nat × Value)}
theorem jk_n {Mv : j_M} {pc2 : Nat} {rest : List Value} (k : JW l G h Y Q pc2 ls rest Mv) : ∀ v M', jn Mv (.inl v, M') → JW l G h Y Q pc2 ls (v.toList ++ rest) M' := by
  intro v M' e
  cases e
  exact k
theorem jx_n {Mv : j_M} : ∀ q M', jn Mv (.inr q, M') → JX l G h Y Q pc ls q M' := by
  intro q M' e
  cases e
end MJV
theorem mfind_some {p : Nat → Bool} {n k : Nat} (hk : k < n) (h0 : ∀ j, j < k → p j = false) (h1 : p k = true) : mfind p n = some k := by
  unfold mfind
  rw [List.find?_range_eq_some]
  exact ⟨h1, List.mem_range.mpr hk, fun j hj => by simp [h0 j hj]⟩
theorem mfind_none {p : Nat → Bool} {n : Nat} (h0 : ∀ j, j < n → p j = false) : mfind p n = none := by
  unfold mfind
  rw [List.find?_range_eq_none]
  exact fun j hj => by simp [h0 j hj]
abbrev mAhead (s : MS) (n a b : Nat) : Bool := if mVoices s n a = mVoices s n b then decide (mo s a 8 < mo s b 8) else decide (mVoices s n b < mVoices s n a)
abbrev mSenior (s : MS) (a b : Nat) : Bool := decide (mo s a 8 < mo s b 8)
abbrev mShab (s : MS) (a b : Nat) : Bool := if mo s a 4 = mo s b 4 then mSenior s a b else decide (mo s b 4 < mo s a 4)
/-- who of those that are so stands at a place, by 'ahead' -/
def mCountAhead (s : MS) (n : Nat) (how : Int32) (ahead : Nat → Nat → Bool) (b : Nat) : Int32 := msum (fun k => jb (mSo s k how && ahead k b)) n
def mAt (s : MS) (n : Nat) (how : Int32) (ahead : Nat → Nat → Bool) (place : Int32) : Option Nat := mfind (fun b => mSo s b how && decide (mCountAhead s n how ahead b = place)) n
def mRanked (s : MS) (n : Nat) (place : Int32) : Int32 := mres (mAt s n 0 (mAhead s n) place) (-11)
def mShabbyAt (s : MS) (n : Nat) (place : Int32) : Int32 := mres (mAt s n 1 (mShab s) place) (-11)
def mSeniorAt (s : MS) (n : Nat) (place : Int32) : Int32 := mres (mAt s n 1 (mSenior s) place) (-11)
def mEntMany (s : MS) (n : Nat) : Int32 := msum (fun b => jb (mEnt s b)) n
def mPlace (s : MS) (n b : Nat) : Int32 := msum (fun k => jb (mSo s k 0 && decide (mo s k 8 < mo s b 8))) n
def mBroke (s : MS) (b : Nat) : Int32 := msum (fun r => mo s b (9 + r)) 5
def mBanned (s : MS) (n : Nat) : Int32 := msum (fun b => jb (decide (0 < mo s b 5))) n
def mGotAll (s : MS) (n : Nat) : Int32 := msum (fun b => mo s b 6) n
def mInLine (s : MS) (n : Nat) (place : Int32) : Int32 := mres (mfind (fun b => mSo s b 0 && decide (mPlace s n b = place)) n) (-11)
def mOr (f : Nat → Int32) : Nat → Int32
  | 0 => 0
  | k + 1 => mOr f k ||| f k
theorem nI_toN {n : Nat} (h : n < 2 ^ 31) : (nI n).toNatClampNeg = n := nI_clamp h
theorem mBr_of {s : MS} {n : Nat} {x : Int32} (hn : s.2 0 2 = nI n) (hn16 : n ≤ 16) (h : mBr s x = true) : ∃ b, b < n ∧ x = nI b := by
  have h1 := (Bool.and_eq_true _ _).mp h
  have h2 : 0 ≤ x := of_decide_eq_true h1.1
  have h3 : x ≤ mw s 2 - 1 := of_decide_eq_true h1.2
  have h4 : mw s 2 = nI n := hn
  rw [h4] at h3
  obtain ⟨b, hb, rfl⟩ := nI_of (x := x) (Int32.not_lt.mpr h2)
  refine ⟨b, ?_, rfl⟩
  rw [Int32.le_iff_toInt_le, show (1 : Int32) = nI 1 from rfl, pk_sub_toInt (by omega) (by omega), nI_toInt hb] at h3
  omega
theorem mBr_nI {s : MS} {n b : Nat} (hn : s.2 0 2 = nI n) (hn16 : n ≤ 16) (hb : b < n) : mBr s (nI b) = true := by
  have h4 : mw s 2 = nI n := hn
  unfold mBr
  rw [h4]
  simp only [Bool.and_eq_true, decide_eq_true_eq]
  refine ⟨nI_pos' (by omega), ?_⟩
  rw [Int32.le_iff_toInt_le, show (1 : Int32) = nI 1 from rfl, pk_sub_toInt (by omega) (by omega), nI_toInt (by omega)]
  omega
/-- the exit test of a loop over the brethren -/
theorem n_end {n k : Nat} {x : Int32} (hn : x = nI n) (hn16 : n ≤ 16) (hk : k ≤ n) (c : x ≤ nI k) : k = n := by
  subst hn
  rcases Nat.lt_or_ge k n with q | q
  · exact absurd c (nI_ge q (by omega))
  · omega
theorem n_on {n k : Nat} {x : Int32} (hn : x = nI n) (hn16 : n ≤ 16) (c : ¬ x ≤ nI k) (hk : k ≤ n) : k < n := by
  subst hn
  rcases Nat.lt_or_ge k n with q | q
  · exact q
  · exact absurd (nI_le q (by omega)) c
theorem c_end {n k : Nat} (hn : n < 2 ^ 31) (hk : k ≤ n) (c : nI n ≤ nI k) : k = n := by
  rcases Nat.lt_or_ge k n with q | q
  · exact absurd c (nI_ge q (by omega))
  · omega
theorem c_on {n k : Nat} (hn : n < 2 ^ 31) (c : ¬ nI n ≤ nI k) (hk : k ≤ n) : k < n := by
  rcases Nat.lt_or_ge k n with q | q
  · exact q
  · exact absurd (nI_le q (by omega)) c
/-- what a state's row 2 is after the usual writes -/
theorem mset_2 (s : MS) (b k : Nat) (v : Int32) : (mset s b k v).2 0 2 = s.2 0 2 := by
  exact (congrFun (va_up_self s.2 0 _) 2).trans (va_up_ne _ _ (by omega))
theorem mwset_ne (s : MS) {i j : Nat} (v : Int32) (h : j ≠ i) : (mwset s i v).2 0 j = s.2 0 j := by
  exact (congrFun (va_up_self s.2 0 _) j).trans (va_up_ne _ _ h)
theorem mGo1_2 (s : MS) (b : Nat) : (mGo1 s b).2 0 2 = s.2 0 2 := by
  unfold mGo1
  split
  · rfl
  · exact mset_2 _ _ _ _
theorem mClear_2 (s : MS) (b n : Nat) : (mClear s b n).2 0 2 = s.2 0 2 := by
  unfold mClear
  induction n with
  | zero => rfl
  | succ n ih =>
    show (if mo (mfold _ s n) n 7 = nI b + 1 then mset (mfold _ s n) n 7 0 else mfold _ s n).2 0 2 = _
    split
    · rw [mset_2]; exact ih
    · exact ih
theorem mVoicesGo_2 (s : MS) (n b : Nat) : (mVoicesGo s n b).2 0 2 = s.2 0 2 := by
  unfold mVoicesGo
  split
  · exact mGo1_2 _ _
  · rw [mClear_2]; exact mGo1_2 _ _
theorem mBecomes_2 (s : MS) (n b : Nat) (how : Int32) : (mBecomes s n b how).2 0 2 = s.2 0 2 := by
  unfold mBecomes
  rw [mVoicesGo_2, mset_2, mset_2]
theorem mStamps_2 (s : MS) (b : Nat) : (mStamps s b).2 0 2 = s.2 0 2 := by
  unfold mStamps
  rw [mset_2, mwset_ne _ _ (by decide)]
