/-! more of the model, plain -/
set_option maxRecDepth 100000
theorem mMay_in {S : xS} {machine day first : Int32} (h : mMay S machine day first = 0) : inI machine 0 (nI (S.1 0 0) - 1) = true := by
  unfold mMay at h
  cases hm : inI machine 0 (nI (S.1 0 0) - 1)
  · rw [hm, if_pos rfl] at h
    exact absurd h (by decide)
  · rfl
theorem mLacks_all {S : xS} {member machine day start minutes work : Int32} (h : mLacks S member machine day start minutes work ≤ 0) : inI member 0 (nI (S.1 1 0) - 1) = true ∧ inI machine 0 (nI (S.1 0 0) - 1) = true ∧ mGood S.2.1 day start minutes work = true := by
  unfold mLacks at h
  cases h1 : inI member 0 (nI (S.1 1 0) - 1)
  · rw [h1, if_pos rfl] at h
    exact absurd h (by decide)
  · cases h2 : inI machine 0 (nI (S.1 0 0) - 1)
    · rw [h1, h2, if_neg (by decide), if_pos rfl] at h
      exact absurd h (by decide)
    · cases h3 : mGood S.2.1 day start minutes work
      · rw [h1, h2, h3, if_neg (by decide), if_neg (by decide), if_neg (by decide)] at h
        exact absurd h (by decide)
      · exact ⟨rfl, rfl, rfl⟩
theorem isWork_nar {w : Int32} (h : isWorkI w = true) : narrow .char (.int w) = .int w := by
  simp only [isWorkI, Bool.or_eq_true, decide_eq_true_eq] at h
  rcases h with (h | h) | h <;> subst h <;> rfl
theorem mLacks_wk {S : xS} {member machine day start minutes work : Int32} (h : mLacks S member machine day start minutes work ≤ 0) : narrow .char (.int work) = .int work := by
  have h3 := (mLacks_all h).2.2
  simp only [mGood, Bool.and_eq_true] at h3
  exact isWork_nar h3.2
theorem mCheck_nar {S : xS} {member machine day start minutes work : Int32} : narrow .char (.int (mCheck S member machine day start minutes work).1) = .int (mCheck S member machine day start minutes work).1 := by
  unfold mCheck
  split
  · rfl
  · exact mLetter_nar
theorem mCancel_nar {S : xS} {entry : Int32} : narrow .char (.int (mCancel S entry).1) = .int (mCancel S entry).1 := by
  unfold mCancel
  split
  · rfl
  · split
    · rfl
    · split
      · split <;> rfl
      · rfl
theorem mMinuteAt_nar {S : xS} {machine day minute : Int32} : narrow .char (.int (mMinuteAt S machine day minute).1) = .int (mMinuteAt S machine day minute).1 := by
  unfold mMinuteAt
  split
  · rfl
  · split
    · rfl
    · exact mMinute_nar
theorem inI_of1 {v : Int32} {n : Nat} {m : Int32} (hm : m = nI n) (hn : n < 2 ^ 30) (h : inI v 1 m = true) : ∃ j, 1 ≤ j ∧ j ≤ n ∧ v = nI j := by
  subst hm
  simp only [inI, Bool.and_eq_true, Bool.not_eq_true', decide_eq_false_iff_not] at h
  obtain ⟨h1, h2⟩ := h
  have h0 : ¬ v < 0 := by
    rw [Int32.lt_iff_toInt_lt] at h1 ⊢
    have e1 : (1 : Int32).toInt = 1 := rfl
    have e0 : (0 : Int32).toInt = 0 := rfl
    omega
  obtain ⟨j, hj, rfl⟩ := nI_of h0
  refine ⟨j, ?_, ?_, rfl⟩
  · exact Nat.not_lt.mp (fun z => h1 ((nI_ltI (b := 1) (by omega) (by omega)).mpr z))
  · exact Nat.not_lt.mp (fun z => h2 ((nI_ltI (by omega) hj).mpr z))
/-- reaching, whatever the fuel -/
theorem mReach_mono {f : xF} {o : Nat} : ∀ {d a : Nat}, mReach f d a o = true → mReach f (d + 1) a o = true
  | 0, a, h => by cases h
  | d + 1, a, h => by
    have h' : (decide (a = o) || anyN 4 (fun j => !decide (f 5 a j = 0) && mReach f d j o)) = true := h
    show (decide (a = o) || anyN 4 (fun j => !decide (f 5 a j = 0) && mReach f (d + 1) j o)) = true
    simp only [anyN, Bool.or_eq_true, Bool.and_eq_true, Bool.false_or] at h' ⊢
    rcases h' with h' | ((h' | h') | h') | h'
    · exact Or.inl h'
    · exact Or.inr (Or.inl (Or.inl (Or.inl ⟨h'.1, mReach_mono h'.2⟩)))
    · exact Or.inr (Or.inl (Or.inl (Or.inr ⟨h'.1, mReach_mono h'.2⟩)))
    · exact Or.inr (Or.inl (Or.inr ⟨h'.1, mReach_mono h'.2⟩))
    · exact Or.inr (Or.inr ⟨h'.1, mReach_mono h'.2⟩)
theorem mReach_step {f : xF} {o a j d : Nat} (hj : j < 4) (hf : ¬ f 5 a j = 0) (h : mReach f d j o = true) : mReach f (d + 1) a o = true := by
  show (decide (a = o) || anyN 4 (fun j => !decide (f 5 a j = 0) && mReach f d j o)) = true
  simp only [anyN, Bool.or_eq_true, Bool.and_eq_true, Bool.false_or, Bool.not_eq_true', decide_eq_false_iff_not]
  rcases (show j = 0 ∨ j = 1 ∨ j = 2 ∨ j = 3 by omega) with e | e | e | e <;> subst e
  · exact Or.inr (Or.inl (Or.inl (Or.inl ⟨hf, h⟩)))
  · exact Or.inr (Or.inl (Or.inl (Or.inr ⟨hf, h⟩)))
  · exact Or.inr (Or.inl (Or.inr ⟨hf, h⟩))
  · exact Or.inr (Or.inr ⟨hf, h⟩)
/-- with a rank, fuel above the rank is enough -/
theorem mReach_down {f : xF} {rk : Nat → Nat} (hrk : rkOK f rk) {o : Nat} : ∀ {d e a : Nat}, a < 4 → mReach f e a o = true → rk a < d → mReach f d a o = true
  | 0, e, a, ha, h, hd => by omega
  | d + 1, 0, a, ha, h, hd => by cases h
  | d + 1, e + 1, a, ha, h, hd => by
    have h' : (decide (a = o) || anyN 4 (fun j => !decide (f 5 a j = 0) && mReach f e j o)) = true := h
    rcases Bool.or_eq_true _ _ ▸ h' with h1 | h1
    · show (decide (a = o) || _) = true
      rw [h1]
      rfl
    · simp only [anyN, Bool.or_eq_true, Bool.and_eq_true, Bool.false_or, Bool.not_eq_true', decide_eq_false_iff_not] at h1
      rcases h1 with ((h1 | h1) | h1) | h1
      · exact mReach_step (by decide) h1.1 (mReach_down hrk (by decide) h1.2 (by have := hrk a 0 ha (by decide) h1.1; omega))
      · exact mReach_step (by decide) h1.1 (mReach_down hrk (by decide) h1.2 (by have := hrk a 1 ha (by decide) h1.1; omega))
      · exact mReach_step (by decide) h1.1 (mReach_down hrk (by decide) h1.2 (by have := hrk a 2 ha (by decide) h1.1; omega))
      · exact mReach_step (by decide) h1.1 (mReach_down hrk (by decide) h1.2 (by have := hrk a 3 ha (by decide) h1.1; omega))
/-- how many kinds of k have a lower rank -/
def rkN (rk : Nat → Nat) (i : Nat) : Nat := (if rk 0 < rk i then 1 else 0) + (if rk 1 < rk i then 1 else 0) + (if rk 2 < rk i then 1 else 0) + (if rk 3 < rk i then 1 else 0)
/-- a rank of any height gives one under four -/
theorem rk_four {f : xF} {rk : Nat → Nat} (h : rkOK f rk) : ∃ r, rkOK f r ∧ ∀ i, r i < 4 := by
  refine ⟨fun i => if i < 4 then rkN rk i else 0, fun i j hi hj hf => ?_, fun i => ?_⟩
  · show (if j < 4 then rkN rk j else 0) < (if i < 4 then rkN rk i else 0)
    rw [if_pos hi, if_pos hj]
    have hr := h i j hi hj hf
    unfold rkN
    rcases (show j = 0 ∨ j = 1 ∨ j = 2 ∨ j = 3 by omega) with e | e | e | e <;> subst e <;> (repeat' split) <;> omega
  · show (if i < 4 then rkN rk i else 0) < 4
    split
    · next hi =>
      unfold rkN
      rcases (show i = 0 ∨ i = 1 ∨ i = 2 ∨ i = 3 by omega) with e | e | e | e <;> subst e <;> (repeat' split) <;> omega
    · decide
/-- a need that closes no ring leaves a rank -/
theorem rk_add {S : xS} {a b : Nat} {v : Int32} (ha : a < 4) (hb : b < 4) (hA : ∃ rk, rkOK S.2.1 rk ∧ ∀ i, rk i < 4) (hn : mReach S.2.1 4 b a = false) : ∃ rk, rkOK (sF S 5 a b v).2.1 rk ∧ ∀ i, rk i < 4 := by
  obtain ⟨rk, hrk, hr4⟩ := hA
  refine rk_four (rk := fun i => rk i + Classical.choose (Classical.em (∃ d, mReach S.2.1 d i a = true) |>.elim (fun h => (⟨rk b + 1, Or.inl ⟨h, rfl⟩⟩ : ∃ x : Nat, ((∃ d, mReach S.2.1 d i a = true) ∧ x = rk b + 1) ∨ (¬ (∃ d, mReach S.2.1 d i a = true) ∧ x = 0))) (fun h => ⟨0, Or.inr ⟨h, rfl⟩⟩))) ?_
  intro i j hi hj hf
  dsimp only
  generalize hx : Classical.choose _ = x
  generalize hy : Classical.choose _ = y
  have hxs := Classical.choose_spec (Classical.em (∃ d, mReach S.2.1 d j a = true) |>.elim (fun h => (⟨rk b + 1, Or.inl ⟨h, rfl⟩⟩ : ∃ x : Nat, ((∃ d, mReach S.2.1 d j a = true) ∧ x = rk b + 1) ∨ (¬ (∃ d, mReach S.2.1 d j a = true) ∧ x = 0))) (fun h => ⟨0, Or.inr ⟨h, rfl⟩⟩))
  have hys := Classical.choose_spec (Classical.em (∃ d, mReach S.2.1 d i a = true) |>.elim (fun h => (⟨rk b + 1, Or.inl ⟨h, rfl⟩⟩ : ∃ x : Nat, ((∃ d, mReach S.2.1 d i a = true) ∧ x = rk b + 1) ∨ (¬ (∃ d, mReach S.2.1 d i a = true) ∧ x = 0))) (fun h => ⟨0, Or.inr ⟨h, rfl⟩⟩))
  rw [hx] at hxs
  rw [hy] at hys
  by_cases e : i = a ∧ j = b
  · obtain ⟨rfl, rfl⟩ := e
    have hb0 : ¬ ∃ d, mReach S.2.1 d j i = true := by
      rintro ⟨d, hd⟩
      have := mReach_down hrk hj hd (hr4 j)
      rw [hn] at this
      cases this
    have hi1 : ∃ d, mReach S.2.1 d i i = true := ⟨1, by show (decide (i = i) || _) = true; simp⟩
    have ex : x = 0 := hxs.elim (fun q => absurd q.1 hb0) (fun q => q.2)
    have ey : y = rk j + 1 := hys.elim (fun q => q.2) (fun q => absurd hi1 q.1)
    omega
  · have hf0 : ¬ S.2.1 5 i j = 0 := by
      have e2 : (sF S 5 a b v).2.1 5 i j = S.2.1 5 i j := by
        show fset S.2.1 5 a b v 5 i j = _
        by_cases hia : i = a
        · have hjb : j ≠ b := fun z => e ⟨hia, z⟩
          exact fset_j _ _ _ _ _ _ _ hjb
        · exact fset_i _ _ _ _ _ _ hia _
      rw [e2] at hf
      exact hf
    have hr := hrk i j hi hj hf0
    rcases hxs with ⟨⟨d, hd⟩, ex⟩ | ⟨hno, ex⟩
    · have hi1 : ∃ d, mReach S.2.1 d i a = true := ⟨d + 1, mReach_step hj hf0 hd⟩
      have ey : y = rk b + 1 := hys.elim (fun q => q.2) (fun q => absurd hi1 q.1)
      omega
    · omega
theorem mAsk_c {S T : xS} {ki L : Nat} (h3 : ∀ k, S.2.1 23 ki k = T.2.1 23 ki k) (h4 : ∀ k, S.2.1 24 ki k = T.2.1 24 ki k) : ∀ (k : Nat) (p : Int32 × (Nat → Int32)), mAsk S ki L k p = mAsk T ki L k p
  | 0, p => rfl
  | k + 1, p => by
    simp only [mAsk]
    rw [h3 k, h4 k]
    exact mAsk_c h3 h4 k _
theorem mAmt_c {S T : xS} {ki : Nat} {a : Int32} (h3 : ∀ k, S.2.1 23 ki k = T.2.1 23 ki k) (h4 : ∀ k, S.2.1 24 ki k = T.2.1 24 ki k) : ∀ (k : Nat), mAmt S ki a k = mAmt T ki a k
  | 0 => rfl
  | k + 1 => by
    simp only [mAmt, mLay]
    rw [h3, h4, mAmt_c h3 h4 k]
theorem mCost_c {S T : xS} {ki : Nat} {m : Int32} (h3 : ∀ k, S.2.1 23 ki k = T.2.1 23 ki k) (h4 : ∀ k, S.2.1 24 ki k = T.2.1 24 ki k) (h5 : S.1 5 ki = T.1 5 ki) : mCost S ki m = mCost T ki m := by
  unfold mCost
  rw [h5, mAsk_c h3 h4, mAmt_c h3 h4, h3 0]
theorem mLacks_zero {S : xS} {member machine day start minutes work : Int32} (h : mLacks S member machine day start minutes work ≤ 0) : mLacks S member machine day start minutes work = 0 := by
  have h3 := mLacks_all h
  unfold mLacks
  rw [h3.1, h3.2.1, h3.2.2]
  rfl
