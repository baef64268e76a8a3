/-! ===== orders, and what they leave alone ===== -/
def mRow (s t : MS) : Prop := t.1 = s.1 ∧ ∀ j, j ≠ 0 → t.2 j = s.2 j
theorem mRow_refl (s : MS) : mRow s s := ⟨rfl, fun _ _ => rfl⟩
theorem mRow.trans {s t u : MS} (h : mRow s t) (h2 : mRow t u) : mRow s u := ⟨h2.1.trans h.1, fun j hj => (h2.2 j hj).trans (h.2 j hj)⟩
theorem mRow_a (s : MS) (f : Nat → Int32) : mRow s (ms_a s 0 f) := ⟨rfl, fun _ hj => ms_ne s f hj⟩
theorem mRow_set (s : MS) (b k : Nat) (v : Int32) : mRow s (mset s b k v) := mRow_a _ _
theorem mRow_w (s : MS) (i : Nat) (v : Int32) : mRow s (mwset s i v) := mRow_a _ _
theorem mRow_clear (s : MS) (b n : Nat) : mRow s (mClear s b n) := by
  unfold mClear
  refine mfold_inv (P := fun t => mRow s t) (mRow_refl s) (fun t k ht => ?_) n
  split
  · exact ht.trans (mRow_set _ _ _ _)
  · exact ht
theorem mRow_go1 (s : MS) (b : Nat) : mRow s (mGo1 s b) := by
  unfold mGo1
  split
  · exact mRow_refl s
  · exact mRow_set _ _ _ _
theorem mRow_voices (s : MS) (n b : Nat) : mRow s (mVoicesGo s n b) := by
  unfold mVoicesGo
  split
  · exact mRow_go1 _ _
  · exact (mRow_go1 _ _).trans (mRow_clear _ _ _)
theorem mRow_becomes (s : MS) (n b : Nat) (how : Int32) : mRow s (mBecomes s n b how) := ((mRow_set _ _ _ _).trans (mRow_set _ _ _ _)).trans (mRow_voices _ _ _)
theorem mRow_stamps (s : MS) (b : Nat) : mRow s (mStamps s b) := (mRow_w _ _ _).trans (mRow_set _ _ _ _)
theorem mRow_chooses (s : MS) (n b : Nat) (c : Int32) : mRow s (mChoosesB s n b c) := (((mRow_becomes _ _ _ _).trans (mRow_set _ _ _ _)).trans (mRow_set _ _ _ _)).trans (mRow_stamps _ _)
theorem mRow_comesIn (s : MS) (p : Int32) : mRow s (mComesIn s p) := (mRow_w _ _ _).trans (mRow_w _ _ _)
theorem mRow_tells (s : MS) (w p : Int32) : mRow s (mTells s w p).2 := by
  show mRow s (mwset (if mw s (12 + mN w) = 0 then mwset s 9 (mw s 9 + 1) else s) (12 + mN w) p)
  refine mRow.trans ?_ (mRow_w _ _ _)
  split
  · exact mRow_w _ _ _
  · exact mRow_refl s
theorem mRow_breaks (s : MS) (n : Nat) (x r : Int32) : mRow s (mBreaks s n x r).2 := by
  unfold mBreaks
  simp only []
  refine mRow.trans (mRow_set s (mN x) (9 + mN r) (mo s (mN x) (9 + mN r) + 1)) ?_
  split
  · exact mRow_becomes _ _ _ _
  · exact mRow_set _ _ _ _
theorem mRow_pardons (s : MS) (x : Int32) : mRow s (mPardons s x).2 := (mRow_set _ _ _ _).trans (mRow_w _ _ _)
theorem mRow_give (s : MS) (e : Int32) (k : Nat) : mRow s (mGive s e k) := by
  unfold mGive
  refine mfold_inv (P := fun t => mRow s t) (mRow_refl s) (fun t k ht => ?_) k
  split
  · exact ht.trans (mRow_set _ _ _ _)
  · exact ht
theorem mRow_feast (s : MS) (n : Nat) : mRow s (mFeastComes s n).2 := by
  unfold mFeastComes
  split
  · exact mRow_refl s
  · split
    · exact mRow_refl s
    · exact (mRow_give _ _ _).trans ((mRow_w _ _ _).trans (mRow_w _ _ _))
theorem mRow_bans (s : MS) (k : Nat) : mRow s (mBans s k) := by
  unfold mBans
  exact mfold_inv (P := fun t => mRow s t) (mRow_refl s) (fun t k ht => ht.trans (mRow_set _ _ _ _)) k
theorem mRow_rents (s : MS) (n k : Nat) : mRow s (mRents s n k) := by
  unfold mRents
  refine mfold_inv (P := fun t => mRow s t) (mRow_refl s) (fun t k ht => ?_) k
  split
  · exact ht.trans (mRow_comesIn _ _)
  · exact ht
theorem mRow_ages (s : MS) (k : Nat) : mRow s (mAges s k) := by
  unfold mAges
  exact mfold_inv (P := fun t => mRow s t) (mRow_refl s) (fun t k ht => (ht.trans (mRow_set _ _ _ _)).trans (mRow_set _ _ _ _)) k
theorem mRow_gownStep (s : MS) (b : Nat) : mRow s (mGownStep s b) := (((mRow_set _ _ _ _).trans (mRow_w _ _ _)).trans (mRow_w _ _ _)).trans (mRow_w _ _ _)
theorem mRow_gowns (n : Nat) : ∀ (f : Nat) (s : MS), mRow s (mGowns n f s) := by
  intro f
  induction f with
  | zero => intro s; exact mRow_refl s
  | succ f ih =>
    intro s
    unfold mGowns
    split
    · exact mRow_refl s
    · split
      · exact (mRow_gownStep _ _).trans (ih _)
      · exact mRow_refl s
theorem mRow_year (s : MS) (n : Nat) : mRow s (mYear s n) := ((((mRow_w _ _ _).trans (mRow_w _ _ _)).trans (mRow_w _ _ _)).trans (mRow_ages _ _)).trans (mRow_gowns _ _ _)
theorem mRow_weekOn (s : MS) (n : Nat) : mRow s (mWeekOn s n) := by
  unfold mWeekOn
  simp only []
  split
  · exact (mRow_w _ _ _).trans (mRow_year _ _)
  · exact mRow_w _ _ _
theorem mRow_week (s : MS) (n : Nat) : mRow s (mWeekGoes s n).2 := (((mRow_feast _ _).trans (mRow_bans _ _)).trans (mRow_rents _ _ _)).trans (mRow_weekOn _ _)
theorem mRow_weeks (s : MS) (n k : Nat) : mRow s (mWeeksGo s n k).2 :=
  mfold_inv (f := mWkStep n) (a := ((0 : Int32), s)) (P := fun x : Int32 × MS => mRow s x.2) (mRow_refl s) (fun x k hx => hx.trans (mRow_week x.2 n)) k
/-! rows below 64 -/
theorem mClear_i (s : MS) (b n i : Nat) (h : i < 64) : (mClear s b n).2 0 i = s.2 0 i := by
  unfold mClear
  refine mfold_inv (P := fun t : MS => t.2 0 i = s.2 0 i) rfl (fun t k ht => ?_) n
  split
  · rw [mset_i _ _ _ _ _ h]; exact ht
  · exact ht
theorem mGo1_i (s : MS) (b i : Nat) (h : i < 64) : (mGo1 s b).2 0 i = s.2 0 i := by
  unfold mGo1
  split
  · rfl
  · exact mset_i _ _ _ _ _ h
theorem mVoicesGo_i (s : MS) (n b i : Nat) (h : i < 64) : (mVoicesGo s n b).2 0 i = s.2 0 i := by
  unfold mVoicesGo
  split
  · exact mGo1_i _ _ _ h
  · rw [mClear_i _ _ _ _ h]; exact mGo1_i _ _ _ h
theorem mBecomes_i (s : MS) (n b : Nat) (how : Int32) (i : Nat) (h : i < 64) : (mBecomes s n b how).2 0 i = s.2 0 i := by
  unfold mBecomes
  rw [mVoicesGo_i _ _ _ _ h, mset_i _ _ _ _ _ h, mset_i _ _ _ _ _ h]
theorem mStamps_i (s : MS) (b i : Nat) (h : i < 64) (h2 : i ≠ 10) : (mStamps s b).2 0 i = s.2 0 i := by
  unfold mStamps
  rw [mset_i _ _ _ _ _ h, mwset_ne _ _ h2]
theorem mChoosesB_i (s : MS) (n b : Nat) (c : Int32) (i : Nat) (h : i < 64) (h2 : i ≠ 10) : (mChoosesB s n b c).2 0 i = s.2 0 i := by
  unfold mChoosesB
  rw [mStamps_i _ _ _ h h2, mset_i _ _ _ _ _ h, mset_i _ _ _ _ _ h, mBecomes_i _ _ _ _ _ h]
theorem mTells_i (s : MS) (w p : Int32) (i : Nat) (h : i < 9) : (mTells s w p).2.2 0 i = s.2 0 i := by
  show (mwset (if mw s (12 + mN w) = 0 then mwset s 9 (mw s 9 + 1) else s) (12 + mN w) p).2 0 i = _
  rw [mwset_ne _ _ (by omega)]
  split
  · rw [mwset_ne _ _ (by omega)]
  · rfl
theorem mBreaks_i (s : MS) (n : Nat) (x r : Int32) (i : Nat) (h : i < 64) : (mBreaks s n x r).2.2 0 i = s.2 0 i := by
  unfold mBreaks
  simp only []
  split
  · rw [mBecomes_i _ _ _ _ _ h, mset_i _ _ _ _ _ h]
  · rw [mset_i _ _ _ _ _ h, mset_i _ _ _ _ _ h]
theorem mPardons_i (s : MS) (x : Int32) (i : Nat) (h : i < 64) (h2 : i ≠ 8) : (mPardons s x).2.2 0 i = s.2 0 i := by
  show (mwset (mset s (mN x) 5 0) 8 _).2 0 i = _
  rw [mwset_ne _ _ h2, mset_i _ _ _ _ _ h]
/-! the order that was read -/
def mNotNow (t : MS) (n : Nat) : Nat → Int32 × MS
  | 0 => mNotVoice t (t.2 6 0) (t.2 6 1)
  | 1 => mNotChoose t n (t.2 6 0)
  | 2 => mNotLeave t n (t.2 6 0)
  | 3 => mNotBreach t (t.2 6 0) (t.2 6 1)
  | 4 => mNotPardon t (t.2 6 0)
  | 5 => mNotFeast t (t.2 6 0) (t.2 6 1)
  | 6 => (if mIn (t.2 6 0) 1 500 then 0 else -12, t)
  | _ => (if mIn (t.2 6 0) 1 60 then 0 else -12, t)
def mDoesNow (t : MS) (n : Nat) : Nat → Int32 × MS
  | 0 => mGives t n (t.2 6 0) (t.2 6 1)
  | 1 => mChooses t n (t.2 6 0)
  | 2 => mLeaves t n (t.2 6 0)
  | 3 => mBreaks t n (t.2 6 0) (t.2 6 1)
  | 4 => mPardons t (t.2 6 0)
  | 5 => mTells t (t.2 6 0) (t.2 6 1)
  | 6 => mPuts t (t.2 6 0)
  | _ => mWeeksGo t n (mN (t.2 6 0))
theorem mDoesNow_row (t : MS) (n : Nat) : ∀ q, mRow t (mDoesNow t n q).2
  | 0 => mRow_set _ _ _ _
  | 1 => mRow_chooses _ _ _ _
  | 2 => mRow_becomes _ _ _ _
  | 3 => mRow_breaks _ _ _ _
  | 4 => mRow_pardons _ _
  | 5 => mRow_tells _ _ _
  | 6 => mRow_comesIn _ _
  | _ + 7 => mRow_weeks _ _ _
theorem mDoesNow_2 (t : MS) (n : Nat) : ∀ q, (mDoesNow t n q).2.2 0 2 = t.2 0 2
  | 0 => mset_i _ _ _ _ _ (by decide)
  | 1 => mChoosesB_i _ _ _ _ _ (by decide) (by decide)
  | 2 => mBecomes_i _ _ _ _ _ (by decide)
  | 3 => mBreaks_i _ _ _ _ _ (by decide)
  | 4 => mPardons_i _ _ _ (by decide) (by decide)
  | 5 => mTells_i _ _ _ _ (by decide)
  | 6 => mComesIn_i _ _ _ (by decide) (by decide)
  | _ + 7 => mWeeksGo_2 _ _ _
theorem mWk_1 {s t : MS} (h : t.2 0 1 = s.2 0 1) (hw : mWk s) : mWk t := by
  obtain ⟨k, hk, e⟩ := hw
  exact ⟨k, hk, h.trans e⟩
theorem mDoesNow_wk {t : MS} {n : Nat} (h : mWk t) : ∀ q, mWk (mDoesNow t n q).2
  | 0 => mWk_1 (mset_i _ _ _ _ _ (by decide)) h
  | 1 => mWk_1 (mChoosesB_i _ _ _ _ _ (by decide) (by decide)) h
  | 2 => mWk_1 (mBecomes_i _ _ _ _ _ (by decide)) h
  | 3 => mWk_1 (mBreaks_i _ _ _ _ _ (by decide)) h
  | 4 => mWk_1 (mPardons_i _ _ _ (by decide) (by decide)) h
  | 5 => mWk_1 (mTells_i _ _ _ _ (by decide)) h
  | 6 => mWk_1 (mComesIn_i _ _ _ (by decide) (by decide)) h
  | _ + 7 => mWeeksGo_wk h _
theorem mNotNow_0 {t : MS} {n : Nat} : ∀ {q}, (mNotNow t n q).1 = 0 → (mNotNow t n q).2 = t
  | 0, h => (mNotVoice_0 h).2.2.2.2.2
  | 1, h => (mNotChoose_0 h).2.2.2
  | 2, h => (mNotLeave_0 h).2.2
  | 3, h => (mNotBreach_0 h).2.2.2
  | 4, h => (mNotPardon_0 h).2.2.2
  | 5, h => (mNotFeast_0 h).2.2
  | 6, _ => rfl
  | _ + 7, _ => rfl
/-- a state in which orders can be read and done -/
def mRd (inp : Nat → Int32) (len n : Nat) (t : MS) : Prop := t.1 13 = nI len ∧ t.2 5 = inp ∧ t.2 0 2 = nI n ∧ mWk t
abbrev mR (t : MS) (len a : Nat) : pRes := pOrder (t.2 5) len a (t.1 16) (t.2 6)
def mT1 (t : MS) (len a : Nat) : MS := msP t (mR t len a).2.1 (mR t len a).2.2.1 (mR t len a).2.2.2
def mQ (t : MS) (len a : Nat) : Nat := mN (mR t len a).2.2.1
def mT2 (t : MS) (n len a : Nat) : MS := (mDoesNow (mT1 t len a) n (mQ t len a)).2
def mT3 (t : MS) (n len a : Nat) : MS := ms_z (mT2 t n len a) 17 ((mT2 t n len a).1 17 + 1)
def mDoes (n len : Nat) : Nat → Nat → MS → Bool × MS
  | 0, _, t => (false, t)
  | f + 1, a, t =>
    if (mR t len a).1 then
      if (mNotNow (mT1 t len a) n (mQ t len a)).1 = 0 then
        if pAt (t.2 5) len (mR t len a).2.1 59 then mDoes n len f ((mR t len a).2.1 + 1) (ms_z (mT3 t n len a) 14 (nI ((mR t len a).2.1 + 1))) else (true, mT3 t n len a)
      else (false, (mNotNow (mT1 t len a) n (mQ t len a)).2)
    else (false, mT1 t len a)
def mAll (s : MS) (len : Nat) : pRes := pAll (s.2 5) len 61 0 (s.1 16) (s.2 6)
def mS1 (s : MS) (len : Nat) : MS := msP s (mAll s len).2.1 (mAll s len).2.2.1 (mAll s len).2.2.2
def mS2 (s : MS) (len : Nat) : MS := ms_z (ms_z (mThinks (mS1 s len)) 17 0) 14 0
def mRun (s : MS) (n c f len : Nat) : Int32 × MS :=
  if (mAll s len).1 then
    if (mDoes n len 61 0 (mS2 s len)).1 then
      ((ms_z (mDoes n len 61 0 (mS2 s len)).2 13 0).1 17, mKeeps (ms_z (mDoes n len 61 0 (mS2 s len)).2 13 0) c f)
    else (-14, mRef (mNot (mForgets (ms_z (mDoes n len 61 0 (mS2 s len)).2 13 0)) 11 ((mDoes n len 61 0 (mS2 s len)).2.1 17)) (-14))
  else (-1000 - nI (mAll s len).2.1, ms_z (mS1 s len) 13 0)
/-! lines -/
def mLn (s : MS) (cs : List Int32) : MS := ms_z (ms_a s 7 (fun i => if h : i < cs.length then cs[i] else s.2 7 i)) 19 (nI cs.length)
theorem mLn_0 (s : MS) : ms_z s 19 0 = mLn s [] := by
  unfold mLn
  rw [ms_a_self s (funext fun i => by simp)]; rfl
theorem mLn_7 (s : MS) (cs : List Int32) : (mLn s cs).2 7 = fun i => if h : i < cs.length then cs[i] else s.2 7 i := ms_at s 7 _
theorem ms_az (s : MS) (j k : Nat) (f : Nat → Int32) (v : Int32) : ms_a (ms_z s k v) j f = ms_z (ms_a s j f) k v := rfl
theorem mLn_s (s : MS) (cs : List Int32) (c : Int32) : ms_z (ms_a (mLn s cs) 7 (va_up ((mLn s cs).2 7) cs.length c)) 19 (nI (cs.length + 1)) = mLn s (cs ++ [c]) := by
  rw [mLn_7]
  unfold mLn
  rw [ms_az, ms_zz, ms_aa]
  have hl : (cs ++ [c]).length = cs.length + 1 := by simp
  rw [show nI (cs.length + 1) = nI (cs ++ [c]).length by rw [hl]]
  congr 2
  funext i
  by_cases h : i = cs.length
  · subst h; simp [va_up]
  · by_cases h2 : i < cs.length
    · have h3 : i < (cs ++ [c]).length := by simp; omega
      simp only [va_up, if_neg h, dif_pos h2, dif_pos h3]
      rw [List.getElem_append_left h2]
    · have h3 : ¬ i < (cs ++ [c]).length := by simp; omega
      simp only [va_up, if_neg h, dif_neg h2, dif_neg h3]
theorem mLn_2 (s : MS) (cs : List Int32) : (mLn s cs).2 0 2 = s.2 0 2 := rfl
theorem mLn_w (s : MS) (cs : List Int32) : (mLn s cs).2 0 = s.2 0 := rfl
def mDec (v : Int32) : List Int32 := (if 9 < v then [mChr (48 + v / 10)] else []) ++ [mChr (48 + (v - v / 10 * 10))]
def mCellTxt (s : MS) (n : Nat) (c : Int32) : List Int32 :=
  if mBrotherIn s n c < 0 then [mChr 45] else (mDec (mBrotherIn s n c) ++ (if 0 < mo s (mN (mBrotherIn s n c)) 5 then [mChr 33] else [])) ++ (if 2 ≤ mo s (mN (mBrotherIn s n c)) 4 then [mChr 42] else [])
def mTellN (s : MS) (n : Nat) : Nat → List Int32
  | 0 => []
  | k + 1 => (mTellN s n k ++ (if 0 < k then [mChr 32] else [])) ++ mCellTxt s n (nI k)
def mTell (s : MS) (n : Nat) : Int32 × MS := (nI (mTellN s n 8).length, mLn s (mTellN s n 8))
def mWaitTxt (s : MS) (n b : Nat) : List Int32 :=
  ((mDec (nI b) ++ (if mo s b 1 = 1 then [mChr 107] else [])) ++ [mChr 58]) ++ mDec (mVoices s n b)
def mWaitN (s : MS) (n : Nat) : Nat → List Int32
  | 0 => []
  | k + 1 => (mWaitN s n k ++ (if 0 < k then [mChr 44] else [])) ++ mWaitTxt s n (mN (mInLine s n (nI k)))
def mTellWaiting (s : MS) (n m : Nat) : Int32 × MS := (nI (mWaitN s n m).length, mLn s (mWaitN s n m))
theorem mDec_len (v : Int32) : (mDec v).length ≤ 2 := by
  unfold mDec
  split <;> simp
theorem mCellTxt_len (s : MS) (n : Nat) (c : Int32) : (mCellTxt s n c).length ≤ 4 := by
  unfold mCellTxt
  have := mDec_len (mBrotherIn s n c)
  split
  · simp
  · split <;> split <;> simp <;> omega
theorem mTellN_len (s : MS) (n : Nat) : ∀ k, (mTellN s n k).length ≤ 5 * k
  | 0 => by simp [mTellN]
  | k + 1 => by
    have h1 := mTellN_len s n k
    have h2 := mCellTxt_len s n (nI k)
    unfold mTellN
    split <;> simp <;> omega
theorem mWaitTxt_len (s : MS) (n b : Nat) : (mWaitTxt s n b).length ≤ 6 := by
  unfold mWaitTxt
  have h1 := mDec_len (nI b)
  have h2 := mDec_len (mVoices s n b)
  split <;> simp <;> omega
theorem mWaitN_len (s : MS) (n : Nat) : ∀ k, (mWaitN s n k).length ≤ 7 * k
  | 0 => by simp [mWaitN]
  | k + 1 => by
    have h1 := mWaitN_len s n k
    have h2 := mWaitTxt_len s n (mN (mInLine s n (nI k)))
    unfold mWaitN
    split <;> simp <;> omega
def mCharacter (s : MS) (x : Int32) : Int32 := if mIn x 0 (s.1 19 - 1) then s.2 7 (mN x) else -11
theorem mT1_2 (t : MS) (len a : Nat) : (mT1 t len a).2 0 2 = t.2 0 2 := rfl
theorem mQ_of {t : MS} {len a : Nat} (h : (mR t len a).1 = true) : mQ t len a ≤ 7 ∧ (mT1 t len a).1 16 = nI (mQ t len a) := by
  obtain ⟨k, hk, e⟩ := pOrder_it h
  have e2 : mQ t len a = k := by
    unfold mQ
    rw [e, mN_nI (by omega)]
  rw [e2]
  exact ⟨hk, e⟩
def mNc (t : MS) (p : Int32 × MS) : Prop := p.2 = t ∨ ∃ r o, p.2 = mNot t r o
theorem mNc_ite {t : MS} {c : Prop} [Decidable c] {a b : Int32 × MS} (ha : mNc t a) (hb : mNc t b) : mNc t (if c then a else b) := by
  split
  · exact ha
  · exact hb
theorem mNc_s {t : MS} {x : Int32} : mNc t (x, t) := Or.inl rfl
theorem mNc_n {t : MS} {x r o : Int32} : mNc t (x, mNot t r o) := Or.inr ⟨r, o, rfl⟩
theorem mNotNow_c (t : MS) (n : Nat) : ∀ q, mNc t (mNotNow t n q)
  | 0 => mNc_ite (mNc_ite (mNc_ite mNc_n (mNc_ite mNc_s mNc_n)) mNc_n) mNc_s
  | 1 => mNc_ite (mNc_ite (mNc_ite mNc_n mNc_s) mNc_n) mNc_s
  | 2 => mNc_ite (mNc_ite mNc_n mNc_s) mNc_s
  | 3 => mNc_ite (mNc_ite mNc_s mNc_n) mNc_s
  | 4 => mNc_ite (mNc_ite (mNc_ite mNc_n (mNc_ite mNc_n mNc_s)) mNc_n) mNc_s
  | 5 => mNc_ite (mNc_ite mNc_n mNc_s) mNc_s
  | 6 => mNc_s
  | _ + 7 => mNc_s
theorem mNotNow_s (t : MS) (n k : Nat) (hk : k ≠ 2 ∧ k ≠ 3) (q : Nat) : (mNotNow t n q).2.1 k = t.1 k := by
  rcases mNotNow_c t n q with h | ⟨r, o, h⟩
  · rw [h]
  · rw [h]
    show va_up (va_up t.1 2 r) 3 o k = _
    rw [va_up_ne _ _ hk.2, va_up_ne _ _ hk.1]
theorem mT2_s (t : MS) (n len a k : Nat) (hk : k ≠ 14 ∧ k ≠ 16) : (mT2 t n len a).1 k = t.1 k := by
  unfold mT2
  rw [(mDoesNow_row (mT1 t len a) n _).1]
  show va_up (va_up t.1 14 _) 16 _ k = _
  rw [va_up_ne _ _ hk.2, va_up_ne _ _ hk.1]
theorem mT2_14 (t : MS) (n len a : Nat) : (mT2 t n len a).1 14 = nI (mR t len a).2.1 := by
  unfold mT2
  rw [(mDoesNow_row (mT1 t len a) n _).1]; rfl
theorem mT2_5 (t : MS) (n len a : Nat) : (mT2 t n len a).2 5 = t.2 5 := by
  unfold mT2
  rw [(mDoesNow_row (mT1 t len a) n _).2 5 (by decide)]; rfl
theorem mT2_2 (t : MS) (n len a : Nat) : (mT2 t n len a).2 0 2 = t.2 0 2 := by
  unfold mT2
  rw [mDoesNow_2]; rfl
theorem mT2_wk {t : MS} {n len a : Nat} (h : mWk t) : mWk (mT2 t n len a) := mDoesNow_wk (t := mT1 t len a) h _
theorem mDoes_s (n len k : Nat) (hk : k ≠ 2 ∧ k ≠ 3 ∧ k ≠ 14 ∧ k ≠ 16 ∧ k ≠ 17) : ∀ (f a : Nat) (t : MS), (mDoes n len f a t).2.1 k = t.1 k := by
  have h1 : ∀ (t : MS) a, (mT1 t len a).1 k = t.1 k := fun t a => by
    show va_up (va_up t.1 14 _) 16 _ k = _
    rw [va_up_ne _ _ hk.2.2.2.1, va_up_ne _ _ hk.2.2.1]
  have h3 : ∀ (t : MS) a, (mT3 t n len a).1 k = t.1 k := fun t a => by
    show va_up (mT2 t n len a).1 17 _ k = _
    rw [va_up_ne _ _ hk.2.2.2.2, mT2_s _ _ _ _ _ ⟨hk.2.2.1, hk.2.2.2.1⟩]
  intro f
  induction f with
  | zero => intro a t; rfl
  | succ f ih =>
    intro a t
    unfold mDoes
    split
    · split
      · split
        · rw [ih]
          show va_up (mT3 t n len a).1 14 _ k = _
          rw [va_up_ne _ _ hk.2.2.1, h3]
        · exact h3 t a
      · show (mNotNow (mT1 t len a) n _).2.1 k = _
        rw [mNotNow_s _ _ _ ⟨hk.1, hk.2.1⟩, h1]
    · exact h1 t a
theorem mThat_n {s : MS} {how : Int32} : ∀ (n : Nat), ∃ m, m ≤ n ∧ mThat s n how = nI m
  | 0 => ⟨0, Nat.le_refl _, rfl⟩
  | n + 1 => by
    obtain ⟨m, hm, e⟩ := mThat_n (s := s) (how := how) n
    have e2 : mThat s (n + 1) how = mThat s n how + jb (mSo s n how) := rfl
    rw [e2, e]
    cases mSo s n how
    · exact ⟨m, by omega, nI_add m 0⟩
    · exact ⟨m + 1, by omega, nI_add m 1⟩
