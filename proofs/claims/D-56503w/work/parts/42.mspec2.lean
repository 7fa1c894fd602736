/-! WHAT THE MODEL'S OTHER METHODS COMPUTE: the answer and the store behind it -/
set_option maxRecDepth 100000
abbrev thr (S : xS) (v : Int32) : xS := sF S 26 0 0 v
/-- a number of a script that passed 'in' is its own index -/
theorem inI_of {v : Int32} {n : Nat} (hn : n < 2 ^ 30) (h : inI v 0 (nI n - 1) = true) : ∃ j, j < n ∧ v = nI j := by
  unfold inI at h
  have h0 : (0 : Int32).toInt = 0 := rfl
  simp only [Bool.and_eq_true, Bool.not_eq_true', decide_eq_false_iff_not] at h
  obtain ⟨h1, h2⟩ := h
  rcases Nat.eq_zero_or_pos n with e | e
  · subst e
    exfalso
    rw [Int32.lt_iff_toInt_lt] at h1 h2
    have e1 : (nI 0 - 1 : Int32).toInt = -1 := by decide
    rw [e1] at h2
    omega
  · have e2 : nI n - 1 = nI (n - 1) := by
      have k := pk_sub (a := n) (b := 1) e
      exact k
    rw [e2] at h2
    obtain ⟨j, hj, rfl⟩ := nI_of h1
    refine ⟨j, ?_, rfl⟩
    have := Nat.not_lt.mp (fun z => h2 ((nI_ltI (a := n - 1) (b := j) (by omega) hj).mpr z))
    omega
theorem inI_of' {v : Int32} {n : Nat} {m : Int32} (hm : m = nI n - 1) (hn : n < 2 ^ 30) (h : inI v 0 m = true) : ∃ j, j < n ∧ v = nI j := by
  subst hm
  exact inI_of hn h
def mRaises (S : xS) (which : Int32) : Int32 × xS := (0, thr S which)
def mDayOf (S : xS) : Int32 × xS := (S.2.1 7 0 0, thr S 0)
def mEntries (S : xS) : Int32 × xS := (nI (S.1 2 0), thr S 0)
def mAddMachine (S : xS) (kind setup : Int32) : Int32 × xS :=
  if inI kind 0 3 = false then (0, thr S 1) else if inI setup 0 30 = false then (0, thr S 1) else if S.1 0 0 = 6 then (0, thr S 2)
  else (nI (S.1 0 0 + 1) - 1, sN (sF (sF (thr S 0) 0 (S.1 0 0) 0 kind) 1 (S.1 0 0) 0 setup) 0 0 (S.1 0 0 + 1))
def mTake (S : xS) (i : Nat) : Nat → xS
  | 0 => S
  | k + 1 => sF (mTake S i k) 2 i k (-1)
theorem mTake_1 (S : xS) (i : Nat) : ∀ k, (mTake S i k).1 = S.1
  | 0 => rfl
  | k + 1 => mTake_1 S i k
def mAddMember (S : xS) : Int32 × xS :=
  if S.1 1 0 = 10 then (0, thr S 1) else (nI (S.1 1 0 + 1) - 1, sN (mTake (thr S 0) (S.1 1 0) 4) 1 0 (S.1 1 0 + 1))
/-- the letter of the entry e, as it stands -/
def mLetE (S : xS) (e : Nat) : Int32 := mLetter S.2.1 (S.1 2 0) (S.2.1 10 e 0) (S.2.1 10 e 0).toNatClampNeg (S.2.1 11 e 0) (S.2.1 11 e 0).toNatClampNeg (S.2.1 12 e 0) (S.2.1 13 e 0) (S.2.1 14 e 0) (S.2.1 15 e 0)
/-- a waiting entry that can be booked -/
def mCand (S : xS) (e : Nat) : Bool := decide (S.2.1 16 e 0 = 119) && decide (mLetE S e = 111)
/-- the first such entry from k on, of the n that stand -/
def firstC (c : Nat → Bool) : Nat → Nat → Option Nat
  | 0, _ => none
  | n + 1, k => if c k = true then some k else firstC c n (k + 1)
def mFirst (S : xS) : Option Nat := firstC (mCand S) (S.1 2 0) 0
/-- how many wait -/
def mWait (S : xS) : Nat → Nat
  | 0 => 0
  | n + 1 => mWait S n + if S.2.1 16 n 0 = 119 then 1 else 0
def mGivesN : Nat → xS → xS
  | 0, S => S
  | f + 1, S => match mFirst S with
    | none => S
    | some k => mGivesN f (sF S 16 k 0 98)
def mGives (S : xS) : xS := mGivesN (mWait S (S.1 2 0)) S
theorem firstC_none {c : Nat → Bool} : ∀ {n k : Nat}, firstC c n k = none → ∀ j, k ≤ j → j < k + n → c j = false
  | 0, k, _, j, h1, h2 => by omega
  | n + 1, k, h, j, h1, h2 => by
    unfold firstC at h
    split at h
    · cases h
    · next hk =>
      by_cases e : j = k
      · subst e
        cases hc : c j
        · rfl
        · exact absurd hc hk
      · exact firstC_none h j (by omega) (by omega)
theorem firstC_some {c : Nat → Bool} {i : Nat} (hi : c i = true) : ∀ {n k : Nat}, k ≤ i → i < k + n → (∀ j, k ≤ j → j < i → c j = false) → firstC c n k = some i
  | 0, k, h1, h2, _ => by omega
  | n + 1, k, h1, h2, h => by
    unfold firstC
    by_cases e : k = i
    · subst e
      rw [if_pos hi]
    · rw [if_neg (by rw [h k (Nat.le_refl _) (by omega)]; decide)]
      exact firstC_some hi (by omega) (by omega) (fun j h3 h4 => h j (by omega) h4)
theorem firstC_no {c : Nat → Bool} : ∀ {n k : Nat}, (∀ j, k ≤ j → j < k + n → c j = false) → firstC c n k = none
  | 0, k, _ => rfl
  | n + 1, k, h => by
    unfold firstC
    rw [if_neg (by rw [h k (Nat.le_refl _) (by omega)]; decide)]
    exact firstC_no (fun j h1 h2 => h j (by omega) (by omega))
theorem mWait_set {S : xS} {k : Nat} {v : Int32} (hv : ¬ v = 119) (hs : S.2.1 16 k 0 = 119) : ∀ n, mWait (sF S 16 k 0 v) n + (if k < n then 1 else 0) = mWait S n
  | 0 => rfl
  | n + 1 => by
    have ih := mWait_set (S := S) (k := k) hv hs n
    show mWait (sF S 16 k 0 v) n + (if fset S.2.1 16 k 0 v 16 n 0 = 119 then 1 else 0) + _ = mWait S n + _
    by_cases e : n = k
    · subst e
      rw [fset_s, if_neg hv, if_pos hs, if_pos (by omega)]
      rw [if_neg (by omega)] at ih
      omega
    · rw [fset_i _ _ _ _ _ _ e]
      have e2 : (if k < n + 1 then 1 else 0 : Nat) = (if k < n then 1 else 0 : Nat) := by split <;> split <;> omega
      rw [e2]
      omega
theorem mWait_pos {S : xS} {k : Nat} (hs : S.2.1 16 k 0 = 119) : ∀ {n : Nat}, k < n → 1 ≤ mWait S n
  | 0, h => by omega
  | n + 1, h => by
    show 1 ≤ mWait S n + if S.2.1 16 n 0 = 119 then 1 else 0
    by_cases e : n = k
    · subst e
      rw [if_pos hs]
      omega
    · have := mWait_pos hs (n := n) (by omega)
      omega
theorem mGives_step {S : xS} {f k : Nat} (hk : k < S.1 2 0) (hs : S.2.1 16 k 0 = 119) (hl : mLetE S k = 111) (hc : ∀ j, j < k → mCand S j = false) (hw : mWait S (S.1 2 0) ≤ f) : ∃ f1, f = f1 + 1 ∧ mWait (sF S 16 k 0 98) (S.1 2 0) ≤ f1 ∧ mGivesN f S = mGivesN f1 (sF S 16 k 0 98) := by
  have h1 := mWait_pos hs hk
  have h2 := mWait_set (S := S) (k := k) (v := 98) (by decide) hs (S.1 2 0)
  rw [if_pos hk] at h2
  refine ⟨f - 1, by omega, by omega, ?_⟩
  obtain ⟨f1, rfl⟩ : ∃ f1, f = f1 + 1 := ⟨f - 1, by omega⟩
  have hF : mFirst S = some k := firstC_some (by simp [mCand, hs, hl]) (Nat.zero_le _) (by omega) (fun j _ h => hc j h)
  show (match mFirst S with
    | none => S
    | some k => mGivesN f1 (sF S 16 k 0 98)) = _
  rw [hF]
  rfl
theorem mGives_done {S : xS} {f : Nat} (hc : ∀ j, j < S.1 2 0 → mCand S j = false) : mGivesN f S = S := by
  cases f with
  | zero => rfl
  | succ f =>
    have hF : mFirst S = none := firstC_no (fun j _ h => hc j (by omega))
    show (match mFirst S with
      | none => S
      | some k => mGivesN f (sF S 16 k 0 98)) = _
    rw [hF]
theorem mWF_st {S : xS} (h : mWF S) (k : Nat) {v : Int32} (hv : narrow .char (.int v) = .int v) : mWF (sF S 16 k 0 v) := by
  refine ⟨h.1, h.2.1, h.2.2.1, h.2.2.2.1, h.2.2.2.2.1, h.2.2.2.2.2.1, h.2.2.2.2.2.2.1, h.2.2.2.2.2.2.2.1, h.2.2.2.2.2.2.2.2.1, h.2.2.2.2.2.2.2.2.2.1, h.2.2.2.2.2.2.2.2.2.2.1, h.2.2.2.2.2.2.2.2.2.2.2.1, fun e => ?_⟩
  show narrow .char (.int (fset S.2.1 16 k 0 v 16 e 0)) = .int (fset S.2.1 16 k 0 v 16 e 0)
  by_cases he : e = k
  · subst he
    rw [fset_s]
    exact hv
  · rw [fset_i _ _ _ _ _ _ he]
    exact h.2.2.2.2.2.2.2.2.2.2.2.2 e
def mSweep (S : xS) : Nat → xS
  | 0 => S
  | k + 1 => sF (mSweep S k) 16 k 0 (if ((mSweep S k).2.1 16 k 0 = 119 ∨ (mSweep S k).2.1 16 k 0 = 98) ∧ mLiveFor (mSweep S k).2.1 ((mSweep S k).2.1 10 k 0).toNatClampNeg ((mSweep S k).2.1 11 k 0).toNatClampNeg ((mSweep S k).2.1 12 k 0) = false then 99 else (mSweep S k).2.1 16 k 0)
theorem mAsk_down {x : Int32} {k : Nat} (ex : x = nI k - 1) (hk : k ≤ 6) (h : ¬ x < 0) : ∃ j, k = j + 1 ∧ x = nI j := by
  subst ex
  cases k with
  | zero => exact absurd (by decide) h
  | succ j => exact ⟨j, rfl, by rw [nI_succ]; exact Int32.add_sub_cancel _ _⟩
theorem mAsk_zero {x : Int32} {k : Nat} (ex : x = nI k - 1) (hk : k ≤ 6) (h : x < 0) : k = 0 := by
  cases k with
  | zero => rfl
  | succ j =>
    exfalso
    subst ex
    rw [nI_succ, Int32.add_sub_cancel] at h
    exact nI_pos (by omega) h
theorem nI_m1 (j : Nat) : nI j + (-1) = nI j - 1 := by rw [Int32.sub_eq_add_neg]
def mAddNeed (S : xS) (kind other : Int32) : Bool × xS :=
  if inI kind 0 3 = false then (false, thr S 1) else if inI other 0 3 = false then (false, thr S 1) else if kind = other then (false, thr S 1)
  else if mReach S.2.1 4 other.toNatClampNeg kind.toNatClampNeg = true then (false, thr S 2)
  else (decide (S.2.1 5 kind.toNatClampNeg other.toNatClampNeg = 0), mGives (mSweep (sF (thr S 0) 5 kind.toNatClampNeg other.toNatClampNeg 1) (S.1 2 0)))
def mInduct (S : xS) (member kind : Int32) : Int32 × xS :=
  if inI member 0 (nI (S.1 1 0) - 1) = false then (0, thr S 1) else if inI kind 0 3 = false then (0, thr S 2)
  else if allN 4 (fun j => decide (S.2.1 5 kind.toNatClampNeg j = 0) || mLive S.2.1 (S.2.1 7 0 0) member.toNatClampNeg 4 j) = false then (0, thr S 3)
  else (if S.2.1 2 member.toNatClampNeg kind.toNatClampNeg = -1 then -1 else S.2.1 7 0 0 - S.2.1 2 member.toNatClampNeg kind.toNatClampNeg, mGives (sF (thr S 0) 2 member.toNatClampNeg kind.toNatClampNeg (S.2.1 7 0 0)))
def mIsLive (S : xS) (member kind day : Int32) : Bool × xS :=
  if inI member 0 (nI (S.1 1 0) - 1) = false then (false, thr S 1) else if inI kind 0 3 = false then (false, thr S 2) else if inI day (S.2.1 7 0 0) 999 = false then (false, thr S 2)
  else (mLive S.2.1 day member.toNatClampNeg 4 kind.toNatClampNeg, thr S 0)
def mAdds (S : xS) (member machine day start minutes work state : Int32) : Int32 × xS :=
  (nI (S.1 2 0 + 1) - 1, sN (sF (sF (sF (sF (sF (sF (sF S 10 (S.1 2 0) 0 member) 11 (S.1 2 0) 0 machine) 12 (S.1 2 0) 0 day) 13 (S.1 2 0) 0 start) 14 (S.1 2 0) 0 minutes) 15 (S.1 2 0) 0 work) 16 (S.1 2 0) 0 state) 2 0 (S.1 2 0 + 1))
def mLet6 (S : xS) (member machine day start minutes work : Int32) : Int32 := mLetter S.2.1 (S.1 2 0) member member.toNatClampNeg machine machine.toNatClampNeg day start minutes work
def mBook (S : xS) (member machine day start minutes work : Int32) : Int32 × xS :=
  if ¬ mLacks S member machine day start minutes work ≤ 0 then (0, thr S (mLacks S member machine day start minutes work))
  else if mLet6 S member machine day start minutes work = 105 then (0, thr S 3) else if mLet6 S member machine day start minutes work = 109 then (0, thr S 4) else if mLet6 S member machine day start minutes work = 116 then (0, thr S 5)
  else if S.1 2 0 = 150 then (0, thr S 6) else mAdds (thr S 0) member machine day start minutes work 98
def mAwait (S : xS) (member machine day start minutes work : Int32) : Int32 × xS :=
  if ¬ mLacks S member machine day start minutes work ≤ 0 then (0, thr S (mLacks S member machine day start minutes work))
  else if mLet6 S member machine day start minutes work = 105 then (0, thr S 3) else if mLet6 S member machine day start minutes work = 111 then (0, thr S 4)
  else if S.1 2 0 = 150 then (0, thr S 4) else mAdds (thr S 0) member machine day start minutes work 119
def mCheck (S : xS) (member machine day start minutes work : Int32) : Int32 × xS :=
  if ¬ mLacks S member machine day start minutes work ≤ 0 then (0, thr S (mLacks S member machine day start minutes work))
  else (mLet6 S member machine day start minutes work, thr S 0)
/-- the minutes that each layer asks for, from the top down: (n, asked) -/
def mAsk (S : xS) (ki : Nat) (L : Nat) : Nat → Int32 × (Nat → Int32) → Int32 × (Nat → Int32)
  | 0, p => p
  | k + 1, p => mAsk S ki L k (p.1 + (if S.2.1 24 ki k = 100 then (if 0 < p.1 - S.2.1 23 ki k then p.1 - S.2.1 23 ki k else 0) else 0), upd p.2 k (p.1 + (if S.2.1 24 ki k = 100 then (if 0 < p.1 - S.2.1 23 ki k then p.1 - S.2.1 23 ki k else 0) else 0)))
def mLay (S : xS) (ki : Nat) (l : Nat) (amount : Int32) : Int32 :=
  if S.2.1 24 ki l = 102 then amount + S.2.1 23 ki l else if S.2.1 24 ki l = 99 then (if S.2.1 23 ki l < amount then S.2.1 23 ki l else amount) else if S.2.1 24 ki l = 112 then amount - amount * S.2.1 23 ki l / 100 else amount
/-- the amount behind l layers above the lowest -/
def mAmt (S : xS) (ki : Nat) (a0 : Int32) : Nat → Int32
  | 0 => a0
  | l + 1 => mLay S ki (l + 1) (mAmt S ki a0 l)
def mCost (S : xS) (ki : Nat) (minutes : Int32) : Int32 :=
  mAmt S ki (S.2.1 23 ki 0 * (mAsk S ki (S.1 5 ki) (S.1 5 ki) (minutes, fun _ => 0)).2 0) (S.1 5 ki - 1)
def mCostE (S : xS) (e : Nat) : Int32 := mCost S (S.2.1 0 (S.2.1 11 e 0).toNatClampNeg 0).toNatClampNeg (S.2.1 14 e 0)
def mCancel (S : xS) (entry : Int32) : Int32 × xS :=
  if inI entry 0 (nI (S.1 2 0) - 1) = false then (0, thr S 1)
  else if S.2.1 16 entry.toNatClampNeg 0 = 119 then (119, mGives (sF (sF (thr S 0) 17 entry.toNatClampNeg 0 0) 16 entry.toNatClampNeg 0 99))
  else if S.2.1 16 entry.toNatClampNeg 0 = 98 then
    if S.2.1 12 entry.toNatClampNeg 0 = S.2.1 7 0 0 then (104, mGives (sF (sF (thr S 0) 17 entry.toNatClampNeg 0 (mCostE S entry.toNatClampNeg / 2)) 16 entry.toNatClampNeg 0 99))
    else (102, mGives (sF (sF (thr S 0) 17 entry.toNatClampNeg 0 0) 16 entry.toNatClampNeg 0 99))
  else (0, thr S 2)
def mStateOf (S : xS) (entry : Int32) : Int32 × xS := if inI entry 0 (nI (S.1 2 0) - 1) = false then (0, thr S 1) else (S.2.1 16 entry.toNatClampNeg 0, thr S 0)
theorem mStateOf_nar {S : xS} {entry : Int32} (hW : mWF S) : narrow .char (.int (mStateOf S entry).1) = .int (mStateOf S entry).1 := by
  unfold mStateOf
  split
  · rfl
  · exact hW.2.2.2.2.2.2.2.2.2.2.2.2 _
/-- what the cuts of the entry e cost, k of them -/
def mExtra (S : xS) (e : Nat) : Nat → Int32 := fun c => sumI c (fun k => (S.2.1 19 e k * S.2.1 6 (S.2.1 20 (S.2.1 18 e k).toNatClampNeg 0).toNatClampNeg 0 + 99) / 100)
def mDayStep (S : xS) (k : Nat) : xS :=
  if S.2.1 12 k 0 = S.2.1 7 0 0 then
    if S.2.1 16 k 0 = 98 then sF (sF S 16 k 0 100) 17 k 0 (mCostE S k + mExtra S k (S.1 6 k))
    else if S.2.1 16 k 0 = 119 then sF S 16 k 0 120 else S
  else S
def mDay (S : xS) : Nat → xS
  | 0 => S
  | k + 1 => mDayStep (mDay S k) k
def mDayMany (S : xS) (n : Nat) : Int32 := sumI n (fun k => if (mDay (thr S 0) k).2.1 12 k 0 = (mDay (thr S 0) k).2.1 7 0 0 ∧ (mDay (thr S 0) k).2.1 16 k 0 = 98 then 1 else 0)
def mEndDay (S : xS) : Int32 × xS :=
  if S.2.1 7 0 0 = 900 then (0, thr S 1) else (mDayMany S (S.1 2 0), mGives (sF (mDay (thr S 0) (S.1 2 0)) 7 0 0 (S.2.1 7 0 0 + 1)))
/-- 0 where there is a machine and the day is right -/
def mMay (S : xS) (machine day first : Int32) : Int32 := if inI machine 0 (nI (S.1 0 0) - 1) = false then 1 else if inI day first (S.2.1 7 0 0 + 6) = false then 2 else 0
def mMayS (S : xS) (machine day first : Int32) : Bool × xS := (decide (mMay S machine day first = 0), thr S (mMay S machine day first))
def mMinuteAt (S : xS) (machine day minute : Int32) : Int32 × xS :=
  if ¬ mMay S machine day 0 = 0 then (0, thr S (mMay S machine day 0)) else if inI minute 0 479 = false then (0, thr S 2)
  else (mMinute S.2.1 (S.1 2 0) machine machine.toNatClampNeg day minute, thr S 0)
def mUsedMinutes (S : xS) (machine day : Int32) : Int32 × xS :=
  if ¬ mMay S machine day 0 = 0 then (0, thr S (mMay S machine day 0)) else (mUsed S.2.1 (S.1 2 0) machine day, thr S 0)
def mSetupMinutes (S : xS) (machine day : Int32) : Int32 × xS :=
  if ¬ mMay S machine day 0 = 0 then (0, thr S (mMay S machine day 0)) else (mMinutes S.2.1 (S.1 2 0) machine machine.toNatClampNeg day 115, thr S 0)
/-- the first start from k on that is free, of n -/
def mStart (S : xS) (machine day minutes work : Int32) : Option Nat := firstC (fun k => mFree S.2.1 (S.1 2 0) machine machine.toNatClampNeg day (nI k) minutes work) (481 - minutes.toNatClampNeg) 0
def mFirstStart (S : xS) (machine day minutes work : Int32) : Int32 × xS :=
  if ¬ mMay S machine day (S.2.1 7 0 0) = 0 then (0, thr S (mMay S machine day (S.2.1 7 0 0)))
  else if inI minutes 1 240 = false then (0, thr S 2) else if isWorkI work = false then (0, thr S 2)
  else match mStart S machine day minutes work with
    | none => (0, thr S 3)
    | some k => (nI k, thr S 0)
def mWaitings (S : xS) (machine day : Int32) (n : Nat) : Int32 := sumI n (fun e => if S.2.1 16 e 0 = 119 ∧ S.2.1 11 e 0 = machine ∧ S.2.1 12 e 0 = day then 1 else 0)
def mWaiting (S : xS) (machine day : Int32) : Int32 × xS :=
  if ¬ mMay S machine day (S.2.1 7 0 0) = 0 then (0, thr S (mMay S machine day (S.2.1 7 0 0))) else (mWaitings S machine day (S.1 2 0), thr S 0)
def mDeliver (S : xS) (material length : Int32) : Int32 × xS :=
  if inI material 0 2 = false then (0, thr S 1) else if inI length 1 5000 = false then (0, thr S 1) else if S.1 3 0 = 30 then (0, thr S 2)
  else (nI (S.1 3 0 + 1) - 1, sN (sF (sF (thr S 0) 20 (S.1 3 0) 0 material) 21 (S.1 3 0) 0 length) 3 0 (S.1 3 0 + 1))
/-- the best bar of k -/
def mBest (S : xS) (material length : Int32) : Nat → Int32
  | 0 => -1
  | b + 1 => if S.2.1 20 b 0 = material ∧ ¬ mFreeBar S (nI b) b < length + 3 ∧ (mBest S material length b = -1 ∨ mFreeBar S (nI b) b < mFreeBar S (mBest S material length b) (mBest S material length b).toNatClampNeg) then nI b else mBest S material length b
def mCut (S : xS) (entry material length : Int32) : Int32 × xS :=
  if inI entry 0 (nI (S.1 2 0) - 1) = false then (0, thr S 1) else if inI material 0 2 = false then (0, thr S 2) else if inI length 1 5000 = false then (0, thr S 2)
  else if ¬ S.2.1 16 entry.toNatClampNeg 0 = 98 then (0, thr S 3) else if S.1 6 entry.toNatClampNeg = 5 then (0, thr S 3)
  else if mBest S material length (S.1 3 0) = -1 then (0, thr S 4)
  else (mBest S material length (S.1 3 0), sN (sF (sF (thr S 0) 18 entry.toNatClampNeg (S.1 6 entry.toNatClampNeg) (mBest S material length (S.1 3 0))) 19 entry.toNatClampNeg (S.1 6 entry.toNatClampNeg) length) 6 entry.toNatClampNeg (S.1 6 entry.toNatClampNeg + 1))
def mFreeOf (S : xS) (bar : Int32) : Int32 × xS := if inI bar 0 (nI (S.1 3 0) - 1) = false then (0, thr S 1) else (mFreeBar S bar bar.toNatClampNeg, thr S 0)
def mSetPrice (S : xS) (material price : Int32) : Int32 × xS :=
  if inI material 0 2 = false then (0, thr S 1) else if inI price 0 99 = false then (0, thr S 1) else (S.2.1 6 material.toNatClampNeg 0, sF (thr S 0) 6 material.toNatClampNeg 0 price)
def mSetRate (S : xS) (kind rate : Int32) : Int32 × xS :=
  if inI kind 0 3 = false then (0, thr S 1) else if inI rate 0 99 = false then (0, thr S 1) else (nI (S.1 5 kind.toNatClampNeg), sN (sF (thr S 0) 23 kind.toNatClampNeg 0 rate) 5 kind.toNatClampNeg 1)
def mLays (S : xS) (kind sort number most : Int32) : Int32 × xS :=
  if inI kind 0 3 = false then (0, thr S 1) else if inI number 0 most = false then (0, thr S 1) else if S.1 5 kind.toNatClampNeg = 6 then (0, thr S 2)
  else (nI (S.1 5 kind.toNatClampNeg + 1), sN (sF (sF (thr S 0) 24 kind.toNatClampNeg (S.1 5 kind.toNatClampNeg) sort) 23 kind.toNatClampNeg (S.1 5 kind.toNatClampNeg) number) 5 kind.toNatClampNeg (S.1 5 kind.toNatClampNeg + 1))
def mCostOf (S : xS) (kind minutes : Int32) : Int32 × xS :=
  if inI kind 0 3 = false then (0, thr S 1) else if inI minutes 0 480 = false then (0, thr S 1) else (mCost S kind.toNatClampNeg minutes, thr S 0)
def mShareOf (S : xS) (breakage member : Int32) : Int32 × xS :=
  if inI breakage 0 (nI (S.1 4 0) - 1) = false then (0, thr S 1) else if inI member 0 (nI (S.1 1 0) - 1) = false then (0, thr S 2) else (S.2.1 25 breakage.toNatClampNeg member.toNatClampNeg, thr S 0)
def mPay (S : xS) (member amount : Int32) : Int32 × xS :=
  if inI member 0 (nI (S.1 1 0) - 1) = false then (0, thr S 1) else if inI amount 1 1000000 = false then (0, thr S 2)
  else if 1000000000 < S.2.2 member.toNatClampNeg + amount.toInt64 then (0, thr S 3)
  else ((mOwed (sL (thr S 0) member.toNatClampNeg (S.2.2 member.toNatClampNeg + amount.toInt64)) member member.toNatClampNeg).toInt32, sL (thr S 0) member.toNatClampNeg (S.2.2 member.toNatClampNeg + amount.toInt64))
def mOwes (S : xS) (member : Int32) : Int32 × xS := if inI member 0 (nI (S.1 1 0) - 1) = false then (0, thr S 1) else ((mOwed S member member.toNatClampNeg).toInt32, thr S 0)
def mDueOf (S : xS) (entry : Int32) : Int32 × xS := if inI entry 0 (nI (S.1 2 0) - 1) = false then (0, thr S 1) else (S.2.1 17 entry.toNatClampNeg 0, thr S 0)
def mTakings (S : xS) : Int64 × xS := (sumL (S.1 1 0) (fun m => S.2.2 m), thr S 0)
def mSound (S : xS) : Bool × xS := (true, thr S 0)
theorem mfr {G : xG} {S T : xS} {ad : Nat × Nat → Nat} {z : xZ} {q : Nat} (h : ∀ (k i b : Nat) (e : xE), (mbd S)[k]? = some b → i < b → (mce G S ad z i)[k]? = some e → ad (k, i) ≠ q) : ∀ (k i b : Nat) (e : xE), (mbd T)[k]? = some b → i < b → (mce G T ad z i)[k]? = some e → ad (k, i) ≠ q := fun k i b e hb hi he => by
  have hk : k < (mce G T ad z i).length := (List.getElem?_eq_some_iff.mp he).1
  have hl : (mce G T ad z i).length = (mce G S ad z i).length := rfl
  have h0 : (mce G S ad z i)[k]? = some ((mce G S ad z i)[k]'(hl ▸ hk)) := List.getElem?_eq_getElem (hl ▸ hk)
  exact h k i b _ hb hi h0
