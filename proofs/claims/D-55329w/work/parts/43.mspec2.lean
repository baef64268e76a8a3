/-! ===== what the reference's other methods compute ===== -/
def mN (x : Int32) : Nat := x.toNatClampNeg
theorem mN_nI {n : Nat} (h : n < 2 ^ 31) : mN (nI n) = n := nI_clamp h
theorem ms_aa (s : MS) (j : Nat) (f g : Nat → Int32) : ms_a (ms_a s j f) j g = ms_a s j g := by
  unfold ms_a
  refine Prod.ext rfl (funext fun i => ?_)
  by_cases h : i = j <;> simp [va_up, h]
theorem ms_z_self (s : MS) {k : Nat} {v : Int32} (h : s.1 k = v) : ms_z s k v = s := by
  unfold ms_z
  refine Prod.ext (funext fun i => ?_) rfl
  by_cases e : i = k
  · subst e; simp [va_up, h]
  · simp [va_up, e]
theorem ms_a_self (s : MS) {j : Nat} {f : Nat → Int32} (h : f = s.2 j) : ms_a s j f = s := by
  unfold ms_a
  refine Prod.ext rfl (funext fun i => ?_)
  by_cases e : i = j
  · subst e; simp [va_up, h]
  · simp [va_up, e]
theorem ms_at (s : MS) (j : Nat) (f : Nat → Int32) : (ms_a s j f).2 j = f := va_up_self _ _ _
theorem ms_ne (s : MS) {i j : Nat} (f : Nat → Int32) (h : i ≠ j) : (ms_a s j f).2 i = s.2 i := va_up_ne _ _ h
theorem mfold_inv {α : Type} {f : α → Nat → α} {a : α} {P : α → Prop} (h0 : P a) (hs : ∀ x k, P x → P (f x k)) : ∀ k, P (mfold f a k)
  | 0 => h0
  | k + 1 => hs _ _ (mfold_inv h0 hs k)
def mCp (s : MS) (j : Nat) (f : Nat → Int32) (k : Nat) : MS := ms_a s j (fun i => if i < k then f i else s.2 j i)
theorem mCp_0 (s : MS) (j : Nat) (f : Nat → Int32) : mCp s j f 0 = s := ms_a_self s (funext fun _ => if_neg (Nat.not_lt_zero _))
theorem mCp_at (s : MS) (j : Nat) (f : Nat → Int32) (k : Nat) : (mCp s j f k).2 j = fun i => if i < k then f i else s.2 j i := va_up_self _ _ _
theorem mCp_ne (s : MS) {i j : Nat} (f : Nat → Int32) (k : Nat) (h : i ≠ j) : (mCp s j f k).2 i = s.2 i := va_up_ne _ _ h
theorem mCp_step (s : MS) (j : Nat) (f : Nat → Int32) (k : Nat) {x : Int32} (hx : x = f k) : mCp s j f (k + 1) = ms_a (mCp s j f k) j (va_up ((mCp s j f k).2 j) k x) := by
  subst hx
  rw [mCp_at]
  unfold mCp
  rw [ms_aa]
  congr 1
  funext i
  by_cases h : i = k
  · subst h; simp [va_up]
  · have : (i < k + 1) = (i < k) := propext (by omega)
    simp [va_up, h, this]
/-- row 'to' of the undos takes what is in mind -/
def mUnd (u : MS) (to k : Nat) : MS := ms_a u 1 (fun i => if 320 * to ≤ i ∧ i < 320 * to + k then u.2 3 (i - 320 * to) else u.2 1 i)
theorem mUnd_0 (u : MS) (to : Nat) : mUnd u to 0 = u := ms_a_self u (funext fun _ => if_neg (by omega))
theorem mUnd_step (u : MS) (to k : Nat) : mUnd u to (k + 1) = ms_a (mUnd u to k) 1 (va_up ((mUnd u to k).2 1) (320 * to + k) ((mUnd u to k).2 3 k)) := by
  have e1 : (mUnd u to k).2 1 = fun i => if 320 * to ≤ i ∧ i < 320 * to + k then u.2 3 (i - 320 * to) else u.2 1 i := ms_at _ _ _
  have e3 : (mUnd u to k).2 3 = u.2 3 := ms_ne _ _ (by decide)
  rw [e1, e3]
  unfold mUnd
  rw [ms_aa]
  congr 1
  funext i
  by_cases h : i = 320 * to + k
  · subst h
    simp only [va_up, if_true]
    rw [if_pos (by omega), show 320 * to + k - 320 * to = k by omega]
  · have : (320 * to ≤ i ∧ i < 320 * to + (k + 1)) = (320 * to ≤ i ∧ i < 320 * to + k) := propext (by omega)
    simp only [va_up, if_neg h, this]
def kC (c : Nat) : Nat := if c = 8 then 7 else c
def kF (c f : Nat) : Nat := if c = 8 then (f + 1) % 8 else f
def kTo (c f : Nat) : Nat := (kF c f + kC c) % 8
def mKeeps (s : MS) (c f : Nat) : MS :=
  ms_z (mUnd (ms_z (ms_z s 9 (nI (kF c f))) 8 (nI (kC c))) (kTo c f) 320) 8 (nI (kC c + 1))
def mRemembers (s : MS) (c f : Nat) : MS := mKeeps (mThinks s) c f
def mPub (c f : Nat) (not : Int32 × MS) (k : MS → Int32 × MS) : Int32 × MS := if not.1 = 0 then k (mRemembers not.2 c f) else (not.1, mRef not.2 not.1)
/-! refusals -/
def mNotVoice (s : MS) (x y : Int32) : Int32 × MS :=
  if mBr s x && mBr s y then
    if mo s (mN x) 2 = 1 then
      if 0 < mo s (mN x) 5 then (-14, mNot s 4 (mo s (mN x) 5)) else if mo s (mN y) 2 = 0 then (0, s) else (-14, mNot s 2 (mo s (mN y) 2))
    else (-14, mNot s 3 (mo s (mN x) 2))
  else (-11, s)
def mNotChoose (s : MS) (n : Nat) (c : Int32) : Int32 × MS :=
  if mIn c 0 7 then if mBrotherIn s n c < 0 then (if mThat s n 0 = 0 then (-14, mNot s 6 c) else (0, s)) else (-14, mNot s 5 (mBrotherIn s n c)) else (-11, s)
def mNotLeave (s : MS) (n : Nat) (c : Int32) : Int32 × MS := if mIn c 0 7 then if mBrotherIn s n c < 0 then (-14, mNot s 7 c) else (0, s) else (-11, s)
def mNotFeast (s : MS) (w p : Int32) : Int32 × MS :=
  if mIn w 0 51 && mIn p 1 9 then if mw s (12 + mN w) = 0 ∧ mw s 9 = 6 then (-14, mNot s 8 6) else (0, s) else (-12, s)
def mNotBreach (s : MS) (x r : Int32) : Int32 × MS := if mBr s x && mIn r 0 4 then if mo s (mN x) 2 = 1 then (0, s) else (-14, mNot s 3 (mo s (mN x) 2)) else (-11, s)
def mNotPardon (s : MS) (x : Int32) : Int32 × MS :=
  if mBr s x then
    if mo s (mN x) 2 = 1 then
      if mo s (mN x) 5 = 0 then (-14, mNot s 10 x) else if mw s 8 = 2 then (-14, mNot s 9 2) else (0, s)
    else (-14, mNot s 3 (mo s (mN x) 2))
  else (-11, s)
/-! what is done -/
def mGives (s : MS) (n : Nat) (x y : Int32) : Int32 × MS := (mVoices (mset s (mN x) 7 (y + 1)) n (mN y), mset s (mN x) 7 (y + 1))
def mChoosesB (s : MS) (n b : Nat) (c : Int32) : MS := mStamps (mset (mset (mBecomes s n b 1) b 3 c) b 4 0) b
def mChooses (s : MS) (n : Nat) (c : Int32) : Int32 × MS := (mRanked s n 0, mChoosesB s n (mN (mRanked s n 0)) c)
def mLeaves (s : MS) (n : Nat) (c : Int32) : Int32 × MS := (mBrotherIn s n c, mBecomes s n (mN (mBrotherIn s n c)) 3)
def mTells (s : MS) (w p : Int32) : Int32 × MS :=
  let t := if mw s (12 + mN w) = 0 then mwset s 9 (mw s 9 + 1) else s
  (mw (mwset t (12 + mN w) p) 9, mwset t (12 + mN w) p)
def mBreaks (s : MS) (n : Nat) (x r : Int32) : Int32 × MS :=
  let b := mN x
  let times := mo s b (9 + mN r) + 1
  let t := mset s b (9 + mN r) times
  let u := if times = 3 then mBecomes t n b 2 else mset t b 5 (mo t b 5 + times)
  (mo u b 5, u)
def mPardons (s : MS) (x : Int32) : Int32 × MS :=
  let t := mset s (mN x) 5 0
  (mo s (mN x) 5, mwset t 8 (mw t 8 + 1))
def mPuts (s : MS) (p : Int32) : Int32 × MS := (mw (mComesIn s p) 3, mComesIn s p)
/-! the weeks -/
def mGive (s : MS) (each : Int32) (k : Nat) : MS := mfold (fun t b => if mEnt t b then mset t b 6 (mo t b 6 + each) else t) s k
def mEach (s : MS) (n : Nat) : Int32 := if mw s (12 + mN (mw s 1)) < mw s 3 / mEntMany s n then mw s (12 + mN (mw s 1)) else mw s 3 / mEntMany s n
def mPaid (t : MS) (x : Int32) : MS := mwset (mwset t 3 (mw t 3 - x)) 5 (mw (mwset t 3 (mw t 3 - x)) 5 + x)
def mFeastComes (s : MS) (n : Nat) : Int32 × MS :=
  if mEntMany s n = 0 then (0, s) else if mw s (12 + mN (mw s 1)) = 0 then (0, s) else (mEach s n * mEntMany s n, mPaid (mGive s (mEach s n) n) (mEach s n * mEntMany s n))
def mBans (s : MS) (k : Nat) : MS := mfold (fun t b => mset t b 5 (if 0 < mo t b 5 then mo t b 5 - 1 else 0)) s k
def mRents (s : MS) (n k : Nat) : MS := mfold (fun t c => if mBrotherIn t n (nI c) < 0 then mComesIn t 2 else t) s k
def mAges (s : MS) (k : Nat) : MS := mfold (fun t b =>
  let u := mset t b 0 (mo t b 0 + jb (mSo t b 0 || mSo t b 1))
  mset u b 4 (mo u b 4 + jb (mSo u b 1))) s k
def mGownStep (s : MS) (b : Nat) : MS :=
  let u := mset s b 4 0
  let u1 := mwset u 3 (mw u 3 - 8)
  let u2 := mwset u1 6 (mw u1 6 + 8)
  mwset u2 7 (mw u2 7 + 1)
def mGowns (n : Nat) : Nat → MS → MS
  | 0, s => s
  | f + 1, s => match mAt s n 1 (mShab s) 0 with
    | none => s
    | some b => if 2 ≤ mo s b 4 ∧ 8 ≤ mw s 3 then mGowns n f (mGownStep s b) else s
def mYear0 (s : MS) : MS :=
  let u := mwset s 1 0
  let u1 := mwset u 0 (mw u 0 + 1)
  mwset u1 8 0
def mYear (s : MS) (n : Nat) : MS := mGowns n (mN (mw (mAges (mYear0 s) n) 3) / 8 + 1) (mAges (mYear0 s) n)
def mWeekOn (s : MS) (n : Nat) : MS :=
  let t := mwset s 1 (mw s 1 + 1)
  if mw t 1 = 52 then mYear t n else t
def mWeekGoes (s : MS) (n : Nat) : Int32 × MS := ((mFeastComes s n).1, mWeekOn (mRents (mBans (mFeastComes s n).2 n) n 8) n)
def mWkStep (n : Nat) (a : Int32 × MS) (_ : Nat) : Int32 × MS := (a.1 + (mWeekGoes a.2 n).1, (mWeekGoes a.2 n).2)
def mWeeksGo (s : MS) (n k : Nat) : Int32 × MS := mfold (mWkStep n) (0, s) k
/-! the row of the many, and of the week, through all of it -/
theorem mGive_2 (s : MS) (e : Int32) (k : Nat) : (mGive s e k).2 0 2 = s.2 0 2 := by
  unfold mGive
  induction k with
  | zero => rfl
  | succ k ih =>
    show (if mEnt (mfold _ s k) k = true then mset (mfold _ s k) k 6 _ else mfold _ s k).2 0 2 = _
    split
    · rw [mset_2]; exact ih
    · exact ih
theorem mset_1 (s : MS) (b k : Nat) (v : Int32) : (mset s b k v).2 0 1 = s.2 0 1 := (congrFun (va_up_self s.2 0 _) 1).trans (va_up_ne _ _ (by omega))
theorem mset_i (s : MS) (b k i : Nat) (v : Int32) (h : i < 64) : (mset s b k v).2 0 i = s.2 0 i := (congrFun (va_up_self s.2 0 _) i).trans (va_up_ne _ _ (by omega))
theorem mComesIn_i (s : MS) (p : Int32) (i : Nat) (h3 : i ≠ 3) (h4 : i ≠ 4) : (mComesIn s p).2 0 i = s.2 0 i := by
  unfold mComesIn
  rw [mwset_ne _ _ h4, mwset_ne _ _ h3]
theorem mGive_i (s : MS) (e : Int32) (k i : Nat) (h : i < 64) : (mGive s e k).2 0 i = s.2 0 i := by
  unfold mGive
  induction k with
  | zero => rfl
  | succ k ih =>
    show (if mEnt (mfold _ s k) k = true then mset (mfold _ s k) k 6 _ else mfold _ s k).2 0 i = _
    split
    · rw [mset_i _ _ _ _ _ h]; exact ih
    · exact ih
theorem mPaid_i (s : MS) (x : Int32) (i : Nat) (h3 : i ≠ 3) (h5 : i ≠ 5) : (mPaid s x).2 0 i = s.2 0 i := by
  unfold mPaid
  rw [mwset_ne _ _ h5, mwset_ne _ _ h3]
theorem mFeastComes_i (s : MS) (n i : Nat) (h : i < 64) (h3 : i ≠ 3) (h5 : i ≠ 5) : (mFeastComes s n).2.2 0 i = s.2 0 i := by
  unfold mFeastComes
  split
  · rfl
  · split
    · rfl
    · rw [mPaid_i _ _ _ h3 h5, mGive_i _ _ _ _ h]
theorem mBans_i (s : MS) (k i : Nat) (h : i < 64) : (mBans s k).2 0 i = s.2 0 i := by
  unfold mBans
  induction k with
  | zero => rfl
  | succ k ih =>
    show (mset (mfold _ s k) k 5 _).2 0 i = _
    rw [mset_i _ _ _ _ _ h]; exact ih
theorem mRents_i (s : MS) (n k i : Nat) (h3 : i ≠ 3) (h4 : i ≠ 4) : (mRents s n k).2 0 i = s.2 0 i := by
  unfold mRents
  induction k with
  | zero => rfl
  | succ k ih =>
    show (if mBrotherIn (mfold _ s k) n (nI k) < 0 then mComesIn (mfold _ s k) 2 else mfold _ s k).2 0 i = _
    split
    · rw [mComesIn_i _ _ _ h3 h4]; exact ih
    · exact ih
theorem mAges_i (s : MS) (k i : Nat) (h : i < 64) : (mAges s k).2 0 i = s.2 0 i := by
  unfold mAges
  induction k with
  | zero => rfl
  | succ k ih =>
    show (mset (mset (mfold _ s k) k 0 _) k 4 _).2 0 i = _
    rw [mset_i _ _ _ _ _ h, mset_i _ _ _ _ _ h]; exact ih
theorem mGownStep_i (s : MS) (b i : Nat) (h : i < 64) (h3 : i ≠ 3) (h6 : i ≠ 6) (h7 : i ≠ 7) : (mGownStep s b).2 0 i = s.2 0 i := by
  unfold mGownStep
  simp only []
  rw [mwset_ne _ _ h7, mwset_ne _ _ h6, mwset_ne _ _ h3, mset_i _ _ _ _ _ h]
theorem mGowns_i (n i : Nat) (h : i < 64) (h3 : i ≠ 3) (h6 : i ≠ 6) (h7 : i ≠ 7) : ∀ (f : Nat) (s : MS), (mGowns n f s).2 0 i = s.2 0 i := by
  intro f
  induction f with
  | zero => intro s; rfl
  | succ f ih =>
    intro s
    unfold mGowns
    split
    · rfl
    · split
      · rw [ih, mGownStep_i _ _ _ h h3 h6 h7]
      · rfl
theorem mYear0_2 (s : MS) : (mYear0 s).2 0 2 = s.2 0 2 := by
  unfold mYear0
  simp only []
  rw [mwset_ne _ _ (by decide), mwset_ne _ _ (by decide), mwset_ne _ _ (by decide)]
theorem mYear0_1 (s : MS) : (mYear0 s).2 0 1 = 0 := by
  unfold mYear0
  simp only []
  rw [mwset_ne _ _ (by decide), mwset_ne _ _ (by decide)]
  exact mw_set_self _ _ _
theorem mYear_2 (s : MS) (n : Nat) : (mYear s n).2 0 2 = s.2 0 2 := by
  unfold mYear
  rw [mGowns_i _ _ (by decide) (by decide) (by decide) (by decide), mAges_i _ _ _ (by decide), mYear0_2]
theorem mYear_1 (s : MS) (n : Nat) : (mYear s n).2 0 1 = 0 := by
  unfold mYear
  rw [mGowns_i _ _ (by decide) (by decide) (by decide) (by decide), mAges_i _ _ _ (by decide), mYear0_1]
theorem mWeekOn_2 (s : MS) (n : Nat) : (mWeekOn s n).2 0 2 = s.2 0 2 := by
  unfold mWeekOn
  simp only []
  split
  · rw [mYear_2, mwset_ne _ _ (by decide)]
  · rw [mwset_ne _ _ (by decide)]
theorem mWeekGoes_2 (s : MS) (n : Nat) : (mWeekGoes s n).2.2 0 2 = s.2 0 2 := by
  unfold mWeekGoes
  rw [mWeekOn_2, mRents_i _ _ _ _ (by decide) (by decide), mBans_i _ _ _ (by decide), mFeastComes_i _ _ _ (by decide) (by decide) (by decide)]
/-- the week of a state is one of the year's -/
def mWk (s : MS) : Prop := ∃ k, k < 52 ∧ s.2 0 1 = nI k
theorem mWeekOn_wk {s : MS} {n : Nat} (h : mWk s) : mWk (mWeekOn s n) := by
  obtain ⟨k, hk, e⟩ := h
  have e1 : mw (mwset s 1 (mw s 1 + 1)) 1 = nI (k + 1) := by
    rw [mw_set_self]
    show s.2 0 1 + 1 = _
    rw [e, nI_1]
  unfold mWeekOn
  simp only []
  split
  · exact ⟨0, by decide, mYear_1 _ _⟩
  · next q =>
    refine ⟨k + 1, ?_, e1⟩
    rw [e1] at q
    rcases Nat.lt_or_ge (k + 1) 52 with w | w
    · exact w
    · have : k = 51 := by omega
      subst this
      exact absurd rfl q
theorem mWeekGoes_wk {s : MS} {n : Nat} (h : mWk s) : mWk (mWeekGoes s n).2 := by
  refine mWeekOn_wk ?_
  obtain ⟨k, hk, e⟩ := h
  exact ⟨k, hk, by rw [mRents_i _ _ _ _ (by decide) (by decide), mBans_i _ _ _ (by decide), mFeastComes_i _ _ _ (by decide) (by decide) (by decide), e]⟩
theorem mWeeksGo_2 (s : MS) (n k : Nat) : (mWeeksGo s n k).2.2 0 2 = s.2 0 2 := by
  exact mfold_inv (f := mWkStep n) (a := ((0 : Int32), s)) (P := fun x : Int32 × MS => x.2.2 0 2 = s.2 0 2) rfl (fun x k hx => (mWeekGoes_2 x.2 n).trans hx) k
theorem mWeeksGo_wk {s : MS} {n : Nat} (h : mWk s) (k : Nat) : mWk (mWeeksGo s n k).2 := by
  exact mfold_inv (f := mWkStep n) (a := ((0 : Int32), s)) (P := fun x : Int32 × MS => mWk x.2) h (fun x k hx => mWeekGoes_wk (s := x.2) hx) k
theorem mCp_2 {s : MS} {j : Nat} {f : Nat → Int32} {k : Nat} (h : 0 ≠ j) : (mCp s j f k).2 0 2 = s.2 0 2 := congrFun (mCp_ne s f k h) 2
theorem mThinks_2 (s : MS) : (mThinks s).2 0 2 = s.2 0 2 := rfl
theorem mUnd_w (u : MS) (to k : Nat) : (mUnd u to k).2 0 = u.2 0 := ms_ne _ _ (by decide)
theorem mKeeps_w (s : MS) (c f : Nat) : (mKeeps s c f).2 0 = s.2 0 := mUnd_w (ms_z (ms_z s 9 (nI (kF c f))) 8 (nI (kC c))) (kTo c f) 320
theorem mRemembers_w (s : MS) (c f : Nat) : (mRemembers s c f).2 0 = s.2 0 := mKeeps_w _ _ _
theorem mRemembers_2 (s : MS) (c f : Nat) : (mRemembers s c f).2 0 2 = s.2 0 2 := by rw [mRemembers_w]
theorem mNot_2 (s : MS) (r o : Int32) : (mNot s r o).2 0 2 = s.2 0 2 := rfl
theorem mRef_2 (s : MS) (x : Int32) : (mRef s x).2 0 2 = s.2 0 2 := by
  unfold mRef
  split <;> rfl
theorem mwset_2 (s : MS) {i : Nat} (v : Int32) (h : 2 ≠ i) : (mwset s i v).2 0 2 = s.2 0 2 := mwset_ne s v h
/-! a refusal that is none leaves all as it is -/
theorem mNotVoice_0 {s : MS} {x y : Int32} (h : (mNotVoice s x y).1 = 0) : mBr s x = true ∧ mBr s y = true ∧ mo s (mN x) 2 = 1 ∧ mo s (mN y) 2 = 0 ∧ ¬ 0 < mo s (mN x) 5 ∧ (mNotVoice s x y).2 = s := by
  unfold mNotVoice at h ⊢
  split at h
  · split at h
    · split at h
      · cases h
      · split at h
        · simp_all [← Int32.not_lt]
        · cases h
    · cases h
  · cases h
theorem mNotChoose_0 {s : MS} {n : Nat} {c : Int32} (h : (mNotChoose s n c).1 = 0) : mIn c 0 7 = true ∧ mBrotherIn s n c < 0 ∧ mThat s n 0 ≠ 0 ∧ (mNotChoose s n c).2 = s := by
  unfold mNotChoose at h ⊢
  split at h
  · split at h
    · split at h
      · cases h
      · simp_all [← Int32.not_lt]
    · cases h
  · cases h
theorem mNotLeave_0 {s : MS} {n : Nat} {c : Int32} (h : (mNotLeave s n c).1 = 0) : mIn c 0 7 = true ∧ ¬ mBrotherIn s n c < 0 ∧ (mNotLeave s n c).2 = s := by
  unfold mNotLeave at h ⊢
  split at h
  · split at h
    · cases h
    · simp_all [← Int32.not_lt]
  · cases h
theorem mNotFeast_0 {s : MS} {w p : Int32} (h : (mNotFeast s w p).1 = 0) : mIn w 0 51 = true ∧ mIn p 1 9 = true ∧ (mNotFeast s w p).2 = s := by
  unfold mNotFeast at h ⊢
  split at h
  · next h1 =>
    split at h
    · cases h
    · next h2 =>
      rw [if_pos h1, if_neg h2]
      have h3 := (Bool.and_eq_true _ _).mp h1
      exact ⟨h3.1, h3.2, rfl⟩
  · cases h
theorem mNotBreach_0 {s : MS} {x r : Int32} (h : (mNotBreach s x r).1 = 0) : mBr s x = true ∧ mIn r 0 4 = true ∧ mo s (mN x) 2 = 1 ∧ (mNotBreach s x r).2 = s := by
  unfold mNotBreach at h ⊢
  split at h
  · split at h
    · simp_all [← Int32.not_lt]
    · cases h
  · cases h
theorem mNotPardon_0 {s : MS} {x : Int32} (h : (mNotPardon s x).1 = 0) : mBr s x = true ∧ mo s (mN x) 2 = 1 ∧ mo s (mN x) 5 ≠ 0 ∧ (mNotPardon s x).2 = s := by
  unfold mNotPardon at h ⊢
  split at h
  · split at h
    · split at h
      · cases h
      · split at h
        · cases h
        · simp_all [← Int32.not_lt]
    · cases h
  · cases h
theorem mIn_of {x : Int32} {a b : Nat} (hb : b < 2 ^ 31) (h : mIn x (nI a) (nI b) = true) (ha : a ≤ b) : ∃ k, a ≤ k ∧ k ≤ b ∧ x = nI k := by
  have h1 := (Bool.and_eq_true _ _).mp h
  have h2 : nI a ≤ x := of_decide_eq_true h1.1
  have h3 : x ≤ nI b := of_decide_eq_true h1.2
  rw [Int32.le_iff_toInt_le, nI_toInt (by omega)] at h2
  rw [Int32.le_iff_toInt_le, nI_toInt (by omega)] at h3
  have h4 : ¬ x < 0 := by
    rw [Int32.lt_iff_toInt_lt]
    show ¬ x.toInt < 0
    omega
  obtain ⟨j, hj, rfl⟩ := nI_of h4
  rw [nI_toInt hj] at h2 h3
  exact ⟨j, by omega, by omega, rfl⟩
theorem mres_of {o : Option Nat} {d : Int32} (hd : d < 0) (h : ¬ mres o d < 0) : ∃ b, o = some b := by
  cases o with
  | none => exact absurd hd h
  | some b => exact ⟨b, rfl⟩
theorem mfind_lt {p : Nat → Bool} {n b : Nat} (h : mfind p n = some b) : b < n ∧ p b = true := by
  have h1 := List.find?_some h
  have h2 := List.mem_of_find?_eq_some h
  exact ⟨List.mem_range.mp h2, h1⟩
theorem mBrotherIn_of {s : MS} {n : Nat} {c : Int32} (h : ¬ mBrotherIn s n c < 0) : ∃ b, b < n ∧ mBrotherIn s n c = nI b ∧ mInCell s n c = some b := by
  obtain ⟨b, e⟩ := mres_of (by decide) h
  exact ⟨b, (mfind_lt e).1, by unfold mBrotherIn; rw [e]; rfl, e⟩
/-! someone is ahead of all -/
theorem m_least (n : Nat) (P : Nat → Bool) (lt : Nat → Nat → Bool) (hi : ∀ a, lt a a = false) (ht : ∀ a b c, lt a b = true → lt b c = true → lt a c = true) : ∀ m, m ≤ n → (∃ b, b < m ∧ P b = true) → ∃ b, b < m ∧ P b = true ∧ ∀ q, q < m → P q = true → lt q b = false := by
  intro m
  induction m with
  | zero => intro _ ⟨b, h, _⟩; exact absurd h (Nat.not_lt_zero _)
  | succ m ih =>
    intro hm ⟨b, hb, hp⟩
    by_cases hex : ∃ b, b < m ∧ P b = true
    · obtain ⟨d, hd, hpd, hmin⟩ := ih (by omega) hex
      by_cases hm1 : P m = true ∧ lt m d = true
      · refine ⟨m, by omega, hm1.1, fun q hq hpq => ?_⟩
        rcases Nat.lt_or_ge q m with w | w
        · cases e : lt q m with
          | false => rfl
          | true => have := ht q m d e hm1.2; rw [hmin q w hpq] at this; cases this
        · have : q = m := by omega
          subst this; exact hi _
      · refine ⟨d, by omega, hpd, fun q hq hpq => ?_⟩
        rcases Nat.lt_or_ge q m with w | w
        · exact hmin q w hpq
        · have : q = m := by omega
          subst this
          cases e : lt q d with
          | false => rfl
          | true => exact absurd ⟨hpq, e⟩ hm1
    · have : b = m := by
        rcases Nat.lt_or_ge b m with w | w
        · exact absurd ⟨b, w, hp⟩ hex
        · omega
      subst this
      refine ⟨b, by omega, hp, fun q hq hpq => ?_⟩
      rcases Nat.lt_or_ge q b with w | w
      · exact absurd ⟨q, w, hpq⟩ hex
      · have : q = b := by omega
        subst this; exact hi _
theorem msum_0 {f : Nat → Int32} : ∀ {n : Nat}, (∀ k, k < n → f k = 0) → msum f n = 0
  | 0, _ => rfl
  | n + 1, h => by
    show msum f n + f n = 0
    rw [msum_0 (fun k hk => h k (by omega)), h n (by omega)]; rfl
theorem mThat_pos {s : MS} {n : Nat} {how : Int32} (h : mThat s n how ≠ 0) : ∃ b, b < n ∧ mSo s b how = true := by
  refine Classical.byContradiction fun q => h (msum_0 fun k hk => ?_)
  cases e : mSo s k how with
  | false => rfl
  | true => exact absurd ⟨k, hk, e⟩ q
theorem i32_lt_irrefl (a : Int32) : ¬ a < a := by rw [Int32.lt_iff_toInt_lt]; omega
theorem i32_lt_trans {a b c : Int32} (h1 : a < b) (h2 : b < c) : a < c := by rw [Int32.lt_iff_toInt_lt] at *; omega
theorem mAhead_irr (s : MS) (n a : Nat) : mAhead s n a a = false := by simp [mAhead, i32_lt_irrefl]
theorem mAhead_tr (s : MS) (n a b c : Nat) (h1 : mAhead s n a b = true) (h2 : mAhead s n b c = true) : mAhead s n a c = true := by
  unfold mAhead at *
  split at h1 <;> split at h2 <;> simp only [decide_eq_true_eq] at h1 h2
  · rw [if_pos (by simp_all)]; simpa using i32_lt_trans h1 h2
  · rw [if_neg (by simp_all)]; simp_all
  · rw [if_neg (by simp_all)]; simp_all
  · have h3 := i32_lt_trans h2 h1
    rw [if_neg (fun e => i32_lt_irrefl _ (by rw [e] at h3; exact h3))]; simpa using h3
theorem mRanked_0 {s : MS} {n : Nat} (h : mThat s n 0 ≠ 0) : ∃ b, b < n ∧ mRanked s n 0 = nI b ∧ mAt s n 0 (mAhead s n) 0 = some b := by
  obtain ⟨d, hd, hp, hmin⟩ := m_least n (fun b => mSo s b 0) (mAhead s n) (mAhead_irr s n) (mAhead_tr s n) n (Nat.le_refl _) (mThat_pos h)
  have hc : (mAt s n 0 (mAhead s n) 0).isSome = true := by
    unfold mAt mfind
    rw [List.find?_isSome]
    refine ⟨d, List.mem_range.mpr hd, ?_⟩
    have : mCountAhead s n 0 (mAhead s n) d = 0 := msum_0 fun k hk => by
      cases e : mSo s k 0 with
      | false => rfl
      | true => rw [hmin k hk e]; rfl
    simp only [this, Bool.and_eq_true, decide_true, and_true]
    exact hp
  obtain ⟨b, e⟩ := Option.isSome_iff_exists.mp hc
  exact ⟨b, (mfind_lt e).1, by unfold mRanked; rw [e]; rfl, e⟩
theorem mBr_eq {t s : MS} {x : Int32} (h : t.2 0 2 = s.2 0 2) : mBr t x = mBr s x := by
  show (decide (0 ≤ x) && decide (x ≤ t.2 0 2 - 1)) = _
  rw [h]
  rfl
theorem m_ix320 (b k : Nat) : (320 : Int32) * nI b + nI k = nI (320 * b + k) := by
  show nI 320 * nI b + nI k = _
  rw [pk_mul, nI_add]
def mCome (s : MS) (n c f : Nat) (age : Int32) (kin : Bool) : Int32 × MS :=
  if mIn age 50 90 then
    if n = 16 then (-14, mRef (mNot s 1 16) (-14)) else (nI n, mStamps (mset (mset (mwset (mRemembers s c f) 2 (nI (n + 1))) n 0 age) n 1 (jb kin)) n)
  else (-12, s)
def mWithdraw (s : MS) (n c f : Nat) (x : Int32) : Int32 × MS :=
  if mBr s x then
    if mo s (mN x) 2 = 0 then (mThat (mBecomes (mRemembers s c f) n (mN x) 3) n 0, mBecomes (mRemembers s c f) n (mN x) 3) else (-14, mRef (mNot s 2 (mo s (mN x) 2)) (-14))
  else (-11, s)
def mGift (s : MS) (c f : Nat) (p : Int32) : Int32 × MS := if mIn p 1 500 then mPuts (mRemembers s c f) p else (-12, s)
def mWeeks (s : MS) (n c f : Nat) (w : Int32) : Int32 × MS := if mIn w 1 60 then mWeeksGo (mRemembers s c f) n (mN w) else (-12, s)
def mWouldGet (s : MS) (n : Nat) (x w : Int32) : Int32 × MS :=
  if mBr s x then
    if mIn w 0 60 then (mo (mWeeksGo (mThinks s) n (mN w)).2 (mN x) 6 - mo s (mN x) 6, mForgets (mWeeksGo (mThinks s) n (mN w)).2) else (-12, s)
  else (-11, s)
def mChestIn (s : MS) (n : Nat) (w : Int32) : Int32 × MS := if mIn w 0 60 then (mw (mWeeksGo (mThinks s) n (mN w)).2 3, mForgets (mWeeksGo (mThinks s) n (mN w)).2) else (-12, s)
theorem mFeastComes_2 (s : MS) (n : Nat) : (mFeastComes s n).2.2 0 2 = s.2 0 2 := mFeastComes_i s n 2 (by decide) (by decide) (by decide)
theorem mBans_2 (s : MS) (k : Nat) : (mBans s k).2 0 2 = s.2 0 2 := mBans_i s k 2 (by decide)
theorem mRents_2 (s : MS) (n k : Nat) : (mRents s n k).2 0 2 = s.2 0 2 := mRents_i s n k 2 (by decide) (by decide)
theorem mAges_2 (s : MS) (k : Nat) : (mAges s k).2 0 2 = s.2 0 2 := mAges_i s k 2 (by decide)
theorem mComesIn_2 (s : MS) (p : Int32) : (mComesIn s p).2 0 2 = s.2 0 2 := mComesIn_i s p 2 (by decide) (by decide)
theorem mGownStep_2 (s : MS) (b : Nat) : (mGownStep s b).2 0 2 = s.2 0 2 := mGownStep_i s b 2 (by decide) (by decide) (by decide) (by decide)
theorem mWk_w {s t : MS} (h : t.2 0 = s.2 0) (hw : mWk s) : mWk t := by
  obtain ⟨k, hk, e⟩ := hw
  exact ⟨k, hk, by rw [h]; exact e⟩
theorem mThat_w {s t : MS} (h : t.2 0 = s.2 0) (n : Nat) (how : Int32) : mThat t n how = mThat s n how := by
  simp only [mThat, mSo, mo, h]
theorem mInCell_w {s t : MS} (h : t.2 0 = s.2 0) (n : Nat) (c : Int32) : mInCell t n c = mInCell s n c := by
  simp only [mInCell, mSo, mo, h]
theorem mBrotherIn_w {s t : MS} (h : t.2 0 = s.2 0) (n : Nat) (c : Int32) : mBrotherIn t n c = mBrotherIn s n c := by
  unfold mBrotherIn
  rw [mInCell_w h]
theorem mGowns_end {n f : Nat} {t : MS} (hn16 : n ≤ 16) (h : mShabbyAt t n 0 < 0) : mGowns n (f + 1) t = t := by
  unfold mGowns
  unfold mShabbyAt at h
  split
  · rfl
  · next b e =>
    rw [e] at h
    have h2 := (mfind_lt e).1
    exact absurd h (nI_pos (by omega))
theorem mShabby_of {n : Nat} {t : MS} (h : ¬ mShabbyAt t n 0 < 0) : ∃ b, b < n ∧ mShabbyAt t n 0 = nI b ∧ mAt t n 1 (mShab t) 0 = some b := by
  obtain ⟨b, e⟩ := mres_of (by decide) h
  exact ⟨b, (mfind_lt e).1, by unfold mShabbyAt; rw [e]; rfl, e⟩
theorem mGowns_no {n f b : Nat} {t : MS} (ha : mAt t n 1 (mShab t) 0 = some b) (h : ¬ (2 ≤ mo t b 4 ∧ 8 ≤ mw t 3)) : mGowns n (f + 1) t = t := by
  unfold mGowns
  rw [ha]
  exact if_neg h
theorem mGowns_go {n f b : Nat} {t : MS} (ha : mAt t n 1 (mShab t) 0 = some b) (h2 : 2 ≤ mo t b 4) (h8 : 8 ≤ mw t 3) : mGowns n (f + 1) t = mGowns n f (mGownStep t b) := by
  conv => lhs; unfold mGowns
  rw [ha]
  exact if_pos ⟨h2, h8⟩
theorem mGownStep_3 {b : Nat} {t : MS} (h8 : 8 ≤ mw t 3) : mN (mw (mGownStep t b) 3) + 8 = mN (mw t 3) := by
  have e : mw (mGownStep t b) 3 = mw t 3 - 8 := by
    unfold mGownStep
    simp only []
    show (mwset _ 7 _).2 0 3 = _
    rw [mwset_ne _ _ (by decide), mwset_ne _ _ (by decide)]
    show mw (mwset _ 3 _) 3 = _
    rw [mw_set_self]
    show (mset t b 4 0).2 0 3 - 8 = _
    rw [mset_i _ _ _ _ _ (by decide)]
  rw [e]
  have h0 : ¬ mw t 3 < 0 := by
    rw [Int32.le_iff_toInt_le] at h8
    rw [Int32.lt_iff_toInt_lt]
    show ¬ _ < (0 : Int)
    have : (8 : Int32).toInt = 8 := by decide
    omega
  obtain ⟨j, hj, ej⟩ := nI_of h0
  rw [ej] at h8 ⊢
  have h9 : 8 ≤ j := by
    rw [show (8 : Int32) = nI 8 from rfl] at h8
    exact (nI_leI (by decide) hj).mp h8
  rw [show (8 : Int32) = nI 8 from rfl, pk_sub h9, mN_nI (by omega), mN_nI hj]
  omega
theorem mwset1_2 (s : MS) (v : Int32) : (mwset s 1 v).2 0 2 = s.2 0 2 := mwset_ne s v (by decide)
