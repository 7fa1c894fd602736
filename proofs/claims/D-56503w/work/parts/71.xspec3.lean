/-! WHAT ADDING A NEED, AN INDUCTION, isSound COMPUTE -/
set_option maxRecDepth 100000
def xLiveE (S : xS) (e : Nat) : Bool := xLive S.2.1 (S.2.1 12 e 0) (S.2.1 10 e 0).toNatClampNeg 4 (S.2.1 0 (S.2.1 11 e 0).toNatClampNeg 0).toNatClampNeg
def xSweepS (S : xS) (k : Nat) : xS := if (S.2.1 16 k 0 = 119 ∨ S.2.1 16 k 0 = 98) ∧ xLiveE S k = false then xEnds S k else S
def xSweep (S : xS) : Nat → xS
  | 0 => S
  | k + 1 => xSweepS (xSweep S k) k
theorem rk_c {S T : xS} (h : T.2.1 5 = S.2.1 5) (hA : ∃ rk, rkOK S.2.1 rk ∧ ∀ i, rk i < 4) : ∃ rk, rkOK T.2.1 rk ∧ ∀ i, rk i < 4 := by
  obtain ⟨rk, h1, h2⟩ := hA
  refine ⟨rk, fun i j hi hj hf => h1 i j hi hj ?_, h2⟩
  rw [h] at hf
  exact hf
theorem rk_ends {S : xS} (e : Nat) (hA : ∃ rk, rkOK S.2.1 rk ∧ ∀ i, rk i < 4) : ∃ rk, rkOK (xEnds S e).2.1 rk ∧ ∀ i, rk i < 4 := rk_c (xEnds_c S e (by decide) (by decide)) hA
theorem rk_owe {S : xS} (e : Nat) (v : Int32) (hA : ∃ rk, rkOK S.2.1 rk ∧ ∀ i, rk i < 4) : ∃ rk, rkOK (xOwe S e v).2.1 rk ∧ ∀ i, rk i < 4 := rk_c rfl hA
theorem xEnds_n (S : xS) (e : Nat) {c : Nat} (h : c ≠ 6) : (xEnds S e).1 c = S.1 c := by
  show nset (xEndsN S e (S.1 6 e)).1 6 e 0 c = _
  unfold nset
  rw [if_neg h, xEndsN_1]
/-- reaching goes by a chain of needs -/
theorem xLeads_reach {f : xF} {o : Nat} : ∀ {d a : Nat}, mReach f d a o = true → a = o ∨ xLeads f d a o = true
  | 0, a, h => by cases h
  | d + 1, a, h => by
    have h' : (decide (a = o) || anyN 4 (fun j => !decide (f 5 a j = 0) && mReach f d j o)) = true := h
    by_cases e : a = o
    · exact Or.inl e
    · refine Or.inr ?_
      show (!decide (f 5 a o = 0) || anyN 4 (fun j => !decide (f 5 a j = 0) && xLeads f d j o)) = true
      have key : ∀ j, f 5 a j ≠ 0 → mReach f d j o = true → f 5 a o ≠ 0 ∨ xLeads f d j o = true := fun j h1 h2 => by
        rcases xLeads_reach h2 with h3 | h3
        · subst h3; exact Or.inl h1
        · exact Or.inr h3
      simp only [anyN, Bool.or_eq_true, Bool.and_eq_true, Bool.false_or, Bool.not_eq_true', decide_eq_false_iff_not, decide_eq_true_eq] at h' ⊢
      rcases h' with h' | ((h' | h') | h') | h'
      · exact absurd h' e
      all_goals rcases key _ h'.1 h'.2 with q | q
      all_goals first | exact Or.inl q | exact Or.inr (Or.inl (Or.inl (Or.inl ⟨h'.1, q⟩))) | exact Or.inr (Or.inl (Or.inl (Or.inr ⟨h'.1, q⟩))) | exact Or.inr (Or.inl (Or.inr ⟨h'.1, q⟩)) | exact Or.inr (Or.inr ⟨h'.1, q⟩)
theorem xLeads_no {f : xF} {d a o : Nat} (h : xLeads f d a o = false) (hne : a ≠ o) : mReach f d a o = false := by
  cases hr : mReach f d a o
  · rfl
  · rcases xLeads_reach hr with e | e
    · exact absurd e hne
    · rw [h] at e; cases e
theorem xW_5 {S : xS} (h : xW S) (i j : Nat) : xW (sF S 5 i j 1) := by
  refine ⟨h.1, h.2.1, h.2.2.1, h.2.2.2.1, h.2.2.2.2.1, h.2.2.2.2.2.1, h.2.2.2.2.2.2.1, h.2.2.2.2.2.2.2.1, h.2.2.2.2.2.2.2.2.1, h.2.2.2.2.2.2.2.2.2.1, fun i1 j1 => ?_⟩
  show fset S.2.1 5 i j 1 5 i1 j1 = 0 ∨ fset S.2.1 5 i j 1 5 i1 j1 = 1
  unfold fset
  rw [if_pos rfl]
  show (if i1 = i ∧ j1 = j then (1 : Int32) else S.2.1 5 i1 j1) = 0 ∨ (if i1 = i ∧ j1 = j then (1 : Int32) else S.2.1 5 i1 j1) = 1
  split
  · exact Or.inr rfl
  · exact h.2.2.2.2.2.2.2.2.2.2 i1 j1
def xAddNeed (S : xS) (kind other : Int32) : Nat × (Bool × xS) :=
  if inI kind 0 3 = false then (1, false, S) else if inI other 0 3 = false then (1, false, S) else if kind = other then (1, false, S)
  else if xLeads S.2.1 4 other.toNatClampNeg kind.toNatClampNeg = true then (2, false, S)
  else (0, decide (S.2.1 5 kind.toNatClampNeg other.toNatClampNeg = 0), xFills (xSweep (sF S 5 kind.toNatClampNeg other.toNatClampNeg 1) (S.1 2 0)))
def xHas (S : xS) (mi ki : Nat) (n : Nat) : Bool := allN n (fun j => decide (S.2.1 5 ki j = 0) || xLive S.2.1 (S.2.1 7 0 0) mi 4 j)
def xInduct (S : xS) (member kind : Int32) : Nat × (Int32 × xS) :=
  if inI member 0 (nI (S.1 1 0) - 1) = false then (4, 0, S) else if inI kind 0 3 = false then (1, 0, S)
  else if xHas S member.toNatClampNeg kind.toNatClampNeg 4 = false then (5, 0, S)
  else (0, if S.2.1 2 member.toNatClampNeg kind.toNatClampNeg = -1 then -1 else S.2.1 7 0 0 - S.2.1 2 member.toNatClampNeg kind.toNatClampNeg, xFills (sF S 2 member.toNatClampNeg kind.toNatClampNeg (S.2.1 7 0 0)))
/-! what always holds -/
def xSndF (S : xS) (n k : Nat) : Bool := !decide (S.2.1 16 k 0 = 98) || !decide (S.2.1 12 k 0 = S.2.1 12 n 0) || (!decide (S.2.1 10 k 0 = S.2.1 10 n 0) && !decide (S.2.1 11 k 0 = S.2.1 11 n 0)) || !xOv S.2.1 k (S.2.1 13 n 0) (mEnd S.2.1 n)
def xSoundE (S : xS) (n : Nat) : Bool := if S.2.1 16 n 0 = 119 then !decide (xLetE S n = 111) else if S.2.1 16 n 0 = 98 then xLiveE S n && allN n (xSndF S n) else true
def xDayOK (S : xS) (q k d : Nat) : Bool := decide (xUsed S (nI k) (nI (q + d)) = xUsedBy S (nI k) (nI (q + d)))
def xSnd1 (S : xS) : Bool := allN (S.1 2 0) (xSoundE S)
def xSnd2 (S : xS) : Bool := xSnd1 S && allN (S.1 3 0) (fun b => decide (xFreeBy S b (nI b) (S.1 2 0) = S.2.1 22 b 0))
def xSnd3 (S : xS) : Bool := xSnd2 S && allN (S.1 1 0) (fun m => decide (xOwesBy S m (nI m) = S.2.1 4 m 0 - S.2.1 3 m 0))
def xSound (S : xS) (q : Nat) : Bool := xSnd3 S && allN (S.1 0 0) (fun k => allN 7 (xDayOK S q k))
