/-! WHAT THE METHODS COMPUTE, in plain words over a store -/
set_option maxRecDepth 100000
def inI (v lo hi : Int32) : Bool := !decide (v < lo) && !decide (hi < v)
def anyN : Nat → (Nat → Bool) → Bool
  | 0, _ => false
  | n + 1, f => anyN n f || f n
def allN : Nat → (Nat → Bool) → Bool
  | 0, _ => true
  | n + 1, f => allN n f && f n
def sumI : Nat → (Nat → Int32) → Int32
  | 0, _ => 0
  | n + 1, f => sumI n f + f n
def sumL : Nat → (Nat → Int64) → Int64
  | 0, _ => 0
  | n + 1, f => sumL n f + f n
def foldO {α : Type} (f : Nat → α → Option α) (a : α) : Nat → Option α
  | 0 => some a
  | n + 1 => (foldO f a n).bind (f n)
theorem anyN_true {f : Nat → Bool} : ∀ {n k : Nat}, anyN k f = true → k ≤ n → anyN n f = true
  | 0, k, h, hk => by
    have : k = 0 := by omega
    subst this
    exact h
  | n + 1, k, h, hk => by
    by_cases e : k = n + 1
    · subst e; exact h
    · show (anyN n f || f n) = true
      rw [anyN_true h (by omega)]
      rfl
theorem allN_false {f : Nat → Bool} : ∀ {n k : Nat}, allN k f = false → k ≤ n → allN n f = false
  | 0, k, h, hk => by
    have : k = 0 := by omega
    subst this
    exact h
  | n + 1, k, h, hk => by
    by_cases e : k = n + 1
    · subst e; exact h
    · show (allN n f && f n) = false
      rw [allN_false h (by omega)]
      rfl
theorem foldO_none {α : Type} {f : Nat → α → Option α} {a : α} : ∀ {n k : Nat}, foldO f a k = none → k ≤ n → foldO f a n = none
  | 0, k, h, hk => by
    have : k = 0 := by omega
    subst this
    exact h
  | n + 1, k, h, hk => by
    by_cases e : k = n + 1
    · subst e; exact h
    · show (foldO f a n).bind (f n) = none
      rw [foldO_none h (by omega)]
      rfl
theorem vp_up {i : Int32} {n n1 : Nat} (h : vp_in i n) (hn : n ≤ n1) : vp_in i n1 := fun z => h (z.imp id (fun y => Nat.le_trans hn y))
theorem foldO_step {α : Type} {f : Nat → α → Option α} {a x : α} {k : Nat} (h : foldO f a k = some x) : foldO f a (k + 1) = f k x := by
  show (foldO f a k).bind (f k) = f k x
  rw [h]
  rfl
theorem or_any {x : Bool} {f : Nat → Bool} {n k : Nat} (h : (x || anyN k f) = true) (hk : k ≤ n) : (x || anyN n f) = true := by
  cases x with
  | true => rfl
  | false =>
    rw [Bool.false_or] at h ⊢
    exact anyN_true h hk
theorem and_all {x : Bool} {f : Nat → Bool} {n k : Nat} (h : (x && allN k f) = false) (hk : k ≤ n) : (x && allN n f) = false := by
  cases x with
  | false => rfl
  | true =>
    rw [Bool.true_and] at h ⊢
    exact allN_false h hk
/-! the model's -/
abbrev xF : Type := Nat → Nat → Nat → Int32
def mReach (f : xF) : Nat → Nat → Nat → Bool
  | 0, _, _ => false
  | d + 1, a, o => decide (a = o) || anyN 4 (fun j => !decide (f 5 a j = 0) && mReach f d j o)
def mLive (f : xF) (day : Int32) (mi : Nat) : Nat → Nat → Bool
  | 0, _ => false
  | d + 1, k => (!decide (f 2 mi k = -1) && inI day (f 2 mi k) (f 2 mi k + 29)) && allN 4 (fun j => decide (f 5 k j = 0) || mLive f day mi d j)
def mLiveFor (f : xF) (mi mac : Nat) (day : Int32) : Bool := mLive f day mi 4 (f 0 mac 0).toNatClampNeg
def mEnd (f : xF) (e : Nat) : Int32 := f 13 e 0 + f 14 e 0
def mOver (f : xF) (e : Nat) (day start minutes : Int32) : Bool := decide (f 16 e 0 = 98) && decide (f 12 e 0 = day) && !decide (start + minutes ≤ f 13 e 0) && !decide (mEnd f e ≤ start)
def mSetup (f : xF) (mac : Nat) (one other : Int32) : Int32 := if one = other then 0 else f 1 mac 0
def mFreeStep (f : xF) (machine day start minutes : Int32) (e : Nat) (p : Int32 × Int32) : Option (Int32 × Int32) :=
  if f 16 e 0 = 98 ∧ f 11 e 0 = machine ∧ f 12 e 0 = day then
    if mOver f e day start minutes = true then none
    else if start ≤ f 13 e 0 then some (p.1, if p.2 = -1 ∨ ¬ f 13 p.2.toNatClampNeg 0 ≤ f 13 e 0 then nI e else p.2)
    else some (if p.1 = -1 ∨ ¬ f 13 e 0 ≤ f 13 p.1.toNatClampNeg 0 then nI e else p.1, p.2)
  else some p
def mFreeEnd (f : xF) (mac : Nat) (start minutes work : Int32) (p : Int32 × Int32) : Bool :=
  (decide (p.1 = -1) || !decide (start - mEnd f p.1.toNatClampNeg < mSetup f mac (f 15 p.1.toNatClampNeg 0) work)) && (decide (p.2 = -1) || !decide (f 13 p.2.toNatClampNeg 0 - start - minutes < mSetup f mac (f 15 p.2.toNatClampNeg 0) work))
def mFree (f : xF) (n : Nat) (machine : Int32) (mac : Nat) (day start minutes work : Int32) : Bool :=
  match foldO (mFreeStep f machine day start minutes) (-1, -1) n with
  | none => false
  | some p => mFreeEnd f mac start minutes work p
def mBusy (f : xF) (n : Nat) (member day start minutes : Int32) : Bool := anyN n (fun e => decide (f 10 e 0 = member) && mOver f e day start minutes)
def mLetter (f : xF) (n : Nat) (member : Int32) (mi : Nat) (machine : Int32) (mac : Nat) (day start minutes work : Int32) : Int32 :=
  if mLiveFor f mi mac day = false then 105 else if mBusy f n member day start minutes = true then 109 else if mFree f n machine mac day start minutes work = false then 116 else 111
theorem mLetter_nar {f : xF} {n : Nat} {member : Int32} {mi : Nat} {machine : Int32} {mac : Nat} {day start minutes work : Int32} : narrow .char (.int (mLetter f n member mi machine mac day start minutes work)) = .int (mLetter f n member mi machine mac day start minutes work) := by
  unfold mLetter
  split
  · rfl
  · split
    · rfl
    · split <;> rfl
def isWorkI (w : Int32) : Bool := decide (w = 97) || decide (w = 98) || decide (w = 99)
def mGood (f : xF) (day start minutes work : Int32) : Bool := inI day (f 7 0 0) (f 7 0 0 + 6) && !decide (start < 0) && inI minutes 1 240 && !decide (480 - minutes < start) && isWorkI work
def mLacks (S : xS) (member machine day start minutes work : Int32) : Int32 :=
  if inI member 0 (nI (S.1 1 0) - 1) = false then 1 else if inI machine 0 (nI (S.1 0 0) - 1) = false then 1 else if mGood S.2.1 day start minutes work = true then 0 else 2
def mStands (f : xF) (e : Nat) (machine day : Int32) : Bool := (decide (f 16 e 0 = 98) || decide (f 16 e 0 = 100)) && decide (f 11 e 0 = machine) && decide (f 12 e 0 = day)
def mMinStep (f : xF) (machine day minute : Int32) (e : Nat) (p : Int32 × Int32) : Option (Int32 × Int32) :=
  if mStands f e machine day = true then
    if inI minute (f 13 e 0) (mEnd f e - 1) = true then none
    else if f 13 e 0 ≤ minute then some (p.1, if p.2 = -1 ∨ ¬ f 13 e 0 ≤ f 13 p.2.toNatClampNeg 0 then nI e else p.2)
    else some (if p.1 = -1 ∨ ¬ f 13 p.1.toNatClampNeg 0 ≤ f 13 e 0 then nI e else p.1, p.2)
  else some p
def mMinEnd (f : xF) (mac : Nat) (minute : Int32) (p : Int32 × Int32) : Int32 :=
  if p.1 = -1 then 102 else if p.2 = -1 then 102 else if mSetup f mac (f 15 p.2.toNatClampNeg 0) (f 15 p.1.toNatClampNeg 0) < f 13 p.1.toNatClampNeg 0 - minute then 102 else 115
def mMinute (f : xF) (n : Nat) (machine : Int32) (mac : Nat) (day minute : Int32) : Int32 :=
  match foldO (mMinStep f machine day minute) (-1, -1) n with
  | none => 98
  | some p => mMinEnd f mac minute p
theorem mMinute_nar {f : xF} {n : Nat} {machine : Int32} {mac : Nat} {day minute : Int32} : narrow .char (.int (mMinute f n machine mac day minute)) = .int (mMinute f n machine mac day minute) := by
  unfold mMinute
  split
  · rfl
  · unfold mMinEnd
    split
    · rfl
    · split
      · rfl
      · split <;> rfl
def mMinutes (f : xF) (n : Nat) (machine : Int32) (mac : Nat) (day what : Int32) : Int32 := sumI 480 (fun k => if mMinute f n machine mac day (nI k) = what then 1 else 0)
def mUsed (f : xF) (n : Nat) (machine day : Int32) : Int32 := sumI n (fun e => if mStands f e machine day = true then f 14 e 0 else 0)
def mCutSum (S : xS) (bar : Int32) (e : Nat) : Nat → Int32 := fun c => sumI c (fun k => if S.2.1 18 e k = bar then S.2.1 19 e k + 3 else 0)
def mFreeBar (S : xS) (bar : Int32) (bi : Nat) : Int32 := S.2.1 21 bi 0 - sumI (S.1 2 0) (fun e => if S.2.1 16 e 0 = 98 ∨ S.2.1 16 e 0 = 100 then mCutSum S bar e (S.1 6 e) else 0)
theorem i32_sub_sub (a b c : Int32) : a - b - c = a - (b + c) := by rw [Int32.sub_eq_add_neg, Int32.sub_eq_add_neg, Int32.sub_eq_add_neg, Int32.neg_add, Int32.sub_eq_add_neg, Int32.add_assoc]
theorem mCS_0 {S : xS} {bar x : Int32} {k j : Nat} (h : ¬ S.2.1 18 k j = bar) : x - mCutSum S bar k j - 0 = x - mCutSum S bar k (j + 1) := by
  show _ = x - (mCutSum S bar k j + (if S.2.1 18 k j = bar then S.2.1 19 k j + 3 else 0))
  rw [if_neg h]
  simp
theorem mCS_1 {S : xS} {bar x : Int32} {k j : Nat} (h : S.2.1 18 k j = bar) : x - mCutSum S bar k j - (S.2.1 19 k j + 3) = x - mCutSum S bar k (j + 1) := by
  show _ = x - (mCutSum S bar k j + (if S.2.1 18 k j = bar then S.2.1 19 k j + 3 else 0))
  rw [if_pos h]
  exact i32_sub_sub _ _ _
theorem mFB_exit {S : xS} {bar lf x : Int32} {k j : Nat} (ej : lf = x - sumI k (fun e => if S.2.1 16 e 0 = 98 ∨ S.2.1 16 e 0 = 100 then mCutSum S bar e (S.1 6 e) else 0) - mCutSum S bar k j) (oj : j = 0 ∨ S.2.1 16 k 0 = 98 ∨ S.2.1 16 k 0 = 100) (h : j = S.1 6 k ∨ (¬ S.2.1 16 k 0 = 98 ∧ ¬ S.2.1 16 k 0 = 100)) : lf = x - sumI (k + 1) (fun e => if S.2.1 16 e 0 = 98 ∨ S.2.1 16 e 0 = 100 then mCutSum S bar e (S.1 6 e) else 0) := by
  have key : mCutSum S bar k j = if S.2.1 16 k 0 = 98 ∨ S.2.1 16 k 0 = 100 then mCutSum S bar k (S.1 6 k) else 0 := by
    by_cases hs : S.2.1 16 k 0 = 98 ∨ S.2.1 16 k 0 = 100
    · rw [if_pos hs]
      rcases h with h | h
      · rw [h]
      · exact absurd hs (fun z => z.elim h.1 h.2)
    · rw [if_neg hs]
      rcases oj with h0 | h0
      · rw [h0]; rfl
      · exact absurd h0 hs
  rw [ej, key]
  show _ = x - (sumI k _ + _)
  exact i32_sub_sub _ _ _
def mOwed (S : xS) (member : Int32) (mi : Nat) : Int64 := -S.2.2 mi + sumL (S.1 2 0) (fun e => if S.2.1 10 e 0 = member then (S.2.1 17 e 0).toInt64 else 0) + sumL (S.1 4 0) (fun b => (S.2.1 25 b mi).toInt64)
/-- what keeps the model's indices within -/
def mWF (S : xS) : Prop := S.1 0 0 ≤ 6 ∧ S.1 1 0 ≤ 10 ∧ S.1 2 0 ≤ 150 ∧ S.1 3 0 ≤ 30 ∧ S.1 4 0 ≤ 20 ∧ (∀ k, k < 4 → 1 ≤ S.1 5 k ∧ S.1 5 k ≤ 6) ∧ (∀ e, S.1 6 e ≤ 5) ∧ (∀ i, vp_in (S.2.1 0 i 0) 4) ∧ (∀ e, vp_in (S.2.1 10 e 0) 10) ∧ (∀ e, vp_in (S.2.1 11 e 0) 6) ∧ (∀ e k, vp_in (S.2.1 18 e k) 30) ∧ (∀ b, vp_in (S.2.1 20 b 0) 3) ∧ (∀ e, narrow .char (.int (S.2.1 16 e 0)) = .int (S.2.1 16 e 0))
/-- no kind needs itself, by way of others: a rank that falls -/
def rkOK (f : xF) (rk : Nat → Nat) : Prop := ∀ i j, i < 4 → j < 4 → ¬ f 5 i j = 0 → rk j < rk i
