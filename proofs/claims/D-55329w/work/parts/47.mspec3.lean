/-! ===== what the reference answers ===== -/
theorem m_sw (x : Int32) (m : Nat) (hm : m < 2 ^ 31) : (∃ w, w ≤ m ∧ x = nI w) ∨ ((x.toInt < 0 ∨ (m : Int) < x.toInt) ∧ mIn x 0 (nI m) = false) := by
  by_cases h : x.toInt < 0 ∨ (m : Int) < x.toInt
  · refine Or.inr ⟨h, ?_⟩
    unfold mIn
    rw [Bool.and_eq_false_iff]
    rcases h with h | h
    · exact Or.inl (decide_eq_false (fun q => by
        rw [Int32.le_iff_toInt_le] at q
        have : (0 : Int32).toInt = 0 := rfl
        omega))
    · exact Or.inr (decide_eq_false (fun q => by
        rw [Int32.le_iff_toInt_le, nI_toInt hm] at q
        omega))
  · left
    have h0 : ¬ x < 0 := fun q => h (Or.inl (by
      rw [Int32.lt_iff_toInt_lt] at q
      exact q))
    obtain ⟨j, hj, rfl⟩ := nI_of h0
    rw [nI_toInt hj] at h
    exact ⟨j, by omega, rfl⟩
theorem mIn_nI {m w : Nat} (hm : m < 2 ^ 31) (hw : w ≤ m) : mIn (nI w) 0 (nI m) = true := by
  unfold mIn
  rw [Bool.and_eq_true]
  exact ⟨decide_eq_true (nI_pos' (by omega)), decide_eq_true ((nI_leI (by omega) hm).mpr hw)⟩
def mOfK (s : MS) (n b : Nat) : Nat → Int32
  | 0 => mo s b 0
  | 1 => mo s b 1
  | 2 => mo s b 2
  | 3 => if mSo s b 1 then mo s b 3 else -15
  | 4 => if mSo s b 1 then mo s b 4 else -15
  | 5 => mo s b 5
  | 6 => mo s b 6
  | 7 => mBroke s b
  | 8 => if mo s b 7 = 0 then -15 else mo s b 7 - 1
  | 9 => if mSo s b 0 then mPlace s n b else -15
  | _ => -12
def mBrotherOf (s : MS) (n : Nat) (x w : Int32) : Int32 := if mBr s x then (if mIn w 0 (nI 9) then mOfK s n (mN x) (mN w) else -12) else -11
def mBroke1 (s : MS) (x r : Int32) : Int32 := if mBr s x && mIn r 0 4 then mo s (mN x) (9 + mN r) else -11
def mInCell1 (s : MS) (n : Nat) (c : Int32) : Int32 := if mIn c 0 7 then mBrotherIn s n c else -11
def mVoices1 (s : MS) (n : Nat) (x : Int32) : Int32 := if mBr s x then mVoices s n (mN x) else -11
abbrev mBit (x : Int32) : Int32 := 1 <<< (x &&& 31)
def mEntitled (s : MS) (n : Nat) : Int32 := mOr (fun b => if mEnt s b then mBit (nI b) else 0) n
def mEntCell (s : MS) (n c : Nat) : Int32 := if mBrotherIn s n (nI c) < 0 then 0 else if mo s (mN (mBrotherIn s n (nI c))) 5 = 0 then mBit (mBrotherIn s n (nI c)) else 0
def mEntitledA (s : MS) (n : Nat) : Int32 := mOr (fun c => mEntCell s n c) 8
def mCntStep (t : MS) (b : Nat) : MS :=
  if mo t b 7 - 1 < 0 then t else ms_a t 4 (va_up (t.2 4) (mN (mo t b 7 - 1)) (t.2 4 (mN (mo t b 7 - 1)) + mCounts t (mN (mo t b 7 - 1))))
def mCnt (s : MS) (k : Nat) : MS := mfold mCntStep (mCp s 4 (fun _ => 0) 16) k
def mVoicesA (s : MS) (n : Nat) (x : Int32) : Int32 × MS := if mBr s x then ((mCnt s n).2 4 (mN x), mCnt s n) else (-11, s)
def mVc (s : MS) (n : Nat) : Prop := ∀ b, b < n → ∃ v, v ≤ 16 ∧ mo s b 7 = nI v
theorem mCnt_w (s : MS) (k : Nat) : (mCnt s k).2 0 = s.2 0 := by
  unfold mCnt
  refine mfold_inv (f := mCntStep) (P := fun t : MS => t.2 0 = s.2 0) (mCp_ne s _ _ (by decide)) (fun t b ht => ?_) k
  unfold mCntStep
  split
  · exact ht
  · exact (ms_ne t _ (by decide)).trans ht
theorem mCnt_2 (s : MS) (k : Nat) : (mCnt s k).2 0 2 = s.2 0 2 := by rw [mCnt_w]
def mNext (s : MS) : Int32 := mres (mfind (fun k => decide (0 < mw s (12 + (mN (mw s 1) + k) % 52))) 52) (-15)
abbrev mChr (x : Int32) : Int32 := vp_nar .char ((x.toUInt32 % 65536).toInt32)
def mAppend (s : MS) (len : Nat) (x : Int32) : Int32 × MS :=
  if mIn x 32 126 then if len = 60 then (-13, s) else (nI (len + 1), ms_z (ms_a s 5 (va_up (s.2 5) len (mChr x))) 13 (nI (len + 1))) else (-12, s)
def mAcc (s : MS) (n : Nat) : Nat → Int32
  | 0 => mw s 0
  | 1 => mw s 1
  | 2 => mw s 2
  | 3 => mThat s n 0
  | 4 => mThat s n 1
  | 5 => mThat s n 2
  | 6 => mThat s n 3
  | 7 => mBanned s n
  | 8 => mw s 9
  | 9 => mw s 3
  | 10 => mw s 4
  | 11 => mw s 5
  | 12 => mw s 6
  | 13 => mw s 7
  | 14 => mw s 8
  | 15 => s.1 13
  | 16 => s.1 8
  | _ => -12
def mAccount (s : MS) (n : Nat) (x : Int32) : Int32 := if mIn x 0 (nI 16) then mAcc s n (mN x) else -12
def mHoused (s : MS) (n : Nat) : Int32 := msum (fun c => if mBrotherIn s n (nI c) < 0 then 0 else 1) 8
def mBal (s : MS) (n : Nat) : Bool := (decide (mw s 3 = 100 + mw s 4 - mw s 5 - mw s 6) && decide (mw s 5 = mGotAll s n)) && decide (mHoused s n = mThat s n 1)
def mAgesAll (s : MS) (n : Nat) : Int32 := msum (fun b => if mSo s b 1 then mo s b 0 else 0) n
def mMean (s : MS) (n : Nat) : UInt64 := if mThat s n 1 = 0 then 0 else FP.ddiv (FP.i2d (mAgesAll s n)) (FP.i2d (mThat s n 1))
def mShare (s : MS) (n : Nat) : UInt32 := if mThat s n 1 = 0 then 0 else FP.fdiv (FP.i2f (mEntMany s n)) (FP.i2f (mThat s n 1))
def mUndo (s : MS) (c f : Nat) : Int32 × MS :=
  if c = 0 then (-15, s) else (nI (c - 1), mCp (ms_z s 8 (nI (c - 1))) 0 (fun i => s.2 1 (320 * ((f + (c - 1)) % 8) + i)) 320)
def mSave (s : MS) : Int32 × MS := (mw s 2, ms_z (mCp s 2 (s.2 0) 320) 10 1)
def mRestore (s : MS) : Int32 × MS := if s.1 10 = 0 then (-15, s) else (s.2 2 2, ms_z (ms_z (mCp s 0 (s.2 2) 320) 8 0) 9 0)
