/-! WHAT MORE OF Lendlathe's METHODS COMPUTE: checks, filling, costs, endings -/
set_option maxRecDepth 100000
theorem nI_ne1 {k : Nat} (h : k < 2 ^ 31) : ¬ nI k = -1 := fun q => nI_pos h (by rw [q]; decide)
/-! "imt" -/
def xchr (k : Nat) : Int32 := ([105, 109, 116] : List Int32).getD k 0
theorem xchr_and : ∀ {k : Nat}, k < 3 → xchr k &&& 255 = xchr k
  | 0, _ => by decide
  | 1, _ => by decide
  | 2, _ => by decide
  | _ + 3, h => by omega
theorem xchr_c : ∀ {k : Nat}, k < 3 → ((xchr k).toUInt32 % 65536).toInt32 = xchr k
  | 0, _ => by decide
  | 1, _ => by decide
  | 2, _ => by decide
  | _ + 3, h => by omega
theorem xchr_nar : ∀ {k : Nat}, k < 3 → narrow .char (.int (xchr k)) = .int (xchr k)
  | 0, _ => rfl
  | 1, _ => rfl
  | 2, _ => rfl
  | _ + 3, h => by omega
theorem xSAt {s0 s : State} {A : Nat → Prop} (h : xWK s0 A s) {adK adV : Nat → Nat} (hz : vk_S 1 [3] [[105, 109, 116]] adK adV (xOldA s0) s0 s0.heap) : vk_S 1 [3] [[105, 109, 116]] adK adV A s s.heap := vk_S.moved h.1.alike ((vk_S.narrow hz h.2.2.2.2).kept (fun a ha _ => h.2.2.1 a ha))
/-! the store's good shape, kept -/
theorem xW_F {S : xS} (h : xW S) (c i j : Nat) (v : Int32) (hc : ∀ q ∈ [0, 5, 10, 11, 15, 16, 18, 20], q ≠ c) : xW (sF S c i j v) := by
  have e : ∀ q ∈ [0, 5, 10, 11, 15, 16, 18, 20], (sF S c i j v).2.1 q = S.2.1 q := fun q hq => by
    show fset S.2.1 c i j v q = _
    unfold fset
    rw [if_neg (hc q hq)]
  have e0 := e 0 (by decide); have e5 := e 5 (by decide); have e10 := e 10 (by decide); have e11 := e 11 (by decide)
  have e15 := e 15 (by decide); have e16 := e 16 (by decide); have e18 := e 18 (by decide); have e20 := e 20 (by decide)
  unfold xW at h ⊢
  rw [e0, e5, e10, e11, e15, e16, e18, e20]
  exact h
theorem xW_16 {S : xS} (h : xW S) (k : Nat) {v : Int32} (hv : narrow .char (.int v) = .int v) : xW (sF S 16 k 0 v) := by
  refine ⟨h.1, h.2.1, h.2.2.1, h.2.2.2.1, h.2.2.2.2.1, h.2.2.2.2.2.1, h.2.2.2.2.2.2.1, h.2.2.2.2.2.2.2.1, fun e => ?_, h.2.2.2.2.2.2.2.2.2.1, h.2.2.2.2.2.2.2.2.2.2⟩
  show narrow .char (.int (fset S.2.1 16 k 0 v 16 e 0)) = .int (fset S.2.1 16 k 0 v 16 e 0)
  by_cases he : e = k
  · subst he
    rw [fset_s]
    exact hv
  · rw [fset_i _ _ _ _ _ _ he]
    exact h.st e
theorem xW_6 {S : xS} (h : xW S) (k : Nat) {v : Nat} (hv : v ≤ S.1 6 k) : xW (sN S 6 k v) := by
  have hle : ∀ e, (sN S 6 k v).1 6 e ≤ S.1 6 e := fun e => by
    show nset S.1 6 k v 6 e ≤ _
    unfold nset
    rw [if_pos rfl]
    show (if e = k then v else S.1 6 e) ≤ _
    split
    · next q => rw [q]; exact hv
    · exact Nat.le_refl _
  exact ⟨h.1, h.2.1, fun e => Nat.le_trans (hle e) (h.cut e), h.2.2.2.1, h.2.2.2.2.1, h.2.2.2.2.2.1, fun e k he hk => h.2.2.2.2.2.2.1 e k he (Nat.lt_of_lt_of_le hk (hle e)), h.2.2.2.2.2.2.2.1, h.2.2.2.2.2.2.2.2.1, h.2.2.2.2.2.2.2.2.2.1, h.2.2.2.2.2.2.2.2.2.2⟩
/-- every tariff is at most six lambdas deep -/
def xTd (S : xS) : Prop := ∀ k, k < 4 → xDp S 6 (S.1 11 k)
theorem xDp_c {S T : xS} (h : S.1 = T.1) : ∀ {d u : Nat}, xDp S d u → xDp T d u
  | _, 0, _ => by unfold xDp; trivial
  | 0, _ + 1, hd => hd.elim
  | d + 1, t + 1, hd => by
    obtain ⟨h1, h2, h3⟩ := hd
    have e : xDp T (d + 1) (t + 1) ↔ (t < T.1 8 0 ∧ T.1 9 t < 5 ∧ (T.1 9 t = 0 ∨ xDp T d (T.1 10 t))) := Iff.rfl
    rw [e, ← h]
    exact ⟨h1, h2, h3.imp id (fun q => xDp_c h q)⟩
theorem xTd_c {S T : xS} (hT : xTd S) (h : S.1 = T.1) : xTd T := fun k hk => by
  rw [← h]
  exact xDp_c h (hT k hk)
theorem xOf_c {S T : xS} (h : S.1 = T.1) (h23 : S.2.1 23 = T.2.1 23) : ∀ (d u : Nat) (n : Int32), xOf S d u n = xOf T d u n
  | _, 0, n => by rw [xOf_0, xOf_0]
  | 0, _ + 1, n => rfl
  | d + 1, t + 1, n => by
    have e : xOf S d (S.1 10 t) = xOf T d (T.1 10 t) := by
      rw [h]
      funext n
      exact xOf_c h h23 d _ n
    show xStep (S.1 9 t) (S.2.1 23 t 0) (xOf S d (S.1 10 t)) n = xStep (T.1 9 t) (T.2.1 23 t 0) (xOf T d (T.1 10 t)) n
    rw [e, h, h23]
def xCost (S : xS) (ki : Nat) (minutes : Int32) : Int32 := xOf S 6 (S.1 11 ki) minutes
def xCostE (S : xS) (e : Nat) : Int32 := xCost S (S.2.1 0 (S.2.1 11 e 0).toNatClampNeg 0).toNatClampNeg (S.2.1 14 e 0)
def xCostOf (S : xS) (kind minutes : Int32) : Nat × (Int32 × xS) := if inI kind 0 3 = false then (1, 0, S) else if inI minutes 0 480 = false then (1, 0, S) else (0, xCost S kind.toNatClampNeg minutes, S)
/-! filling -/
def xCand (S : xS) (e : Nat) : Bool := decide (S.2.1 16 e 0 = 119) && decide (xLetE S e = 111)
def xFirst (S : xS) : Option Nat := firstC (xCand S) (S.1 2 0) 0
def xFirstI (S : xS) : Int32 := match xFirst S with
  | none => -1
  | some k => nI k
def xFillN : Nat → xS → xS
  | 0, S => S
  | f + 1, S => match xFirst S with
    | none => S
    | some k => xFillN f (sF S 16 k 0 98)
def xFills (S : xS) : xS := xFillN (mWait S (S.1 2 0)) S
theorem firstC_at {c : Nat → Bool} : ∀ {n k i : Nat}, firstC c n k = some i → k ≤ i ∧ i < k + n ∧ c i = true ∧ ∀ j, k ≤ j → j < i → c j = false
  | 0, k, i, h => by cases h
  | n + 1, k, i, h => by
    unfold firstC at h
    split at h
    · next hk =>
      obtain rfl : k = i := Option.some.inj h
      exact ⟨Nat.le_refl _, by omega, hk, fun j h1 h2 => by omega⟩
    · next hk =>
      obtain ⟨h1, h2, h3, h4⟩ := firstC_at h
      refine ⟨by omega, by omega, h3, fun j h5 h6 => ?_⟩
      by_cases e : j = k
      · subst e
        cases hc : c j
        · rfl
        · exact absurd hc hk
      · exact h4 j (by omega) h6
theorem xFirst_or (S : xS) : (xFirst S = none ∧ xFirstI S = -1) ∨ ∃ k, xFirst S = some k ∧ xFirstI S = nI k ∧ k < S.1 2 0 ∧ S.2.1 16 k 0 = 119 ∧ xLetE S k = 111 := by
  cases hF : xFirst S with
  | none => exact Or.inl ⟨rfl, by unfold xFirstI; rw [hF]⟩
  | some k =>
    obtain ⟨-, h2, h3, -⟩ := firstC_at hF
    simp only [xCand, Bool.and_eq_true, decide_eq_true_eq] at h3
    exact Or.inr ⟨k, rfl, by unfold xFirstI; rw [hF], by omega, h3.1, h3.2⟩
theorem xFill_step {S : xS} {f k : Nat} (hF : xFirst S = some k) (hk : k < S.1 2 0) (hs : S.2.1 16 k 0 = 119) (hw : mWait S (S.1 2 0) ≤ f) : ∃ f1, f = f1 + 1 ∧ mWait (sF S 16 k 0 98) (S.1 2 0) ≤ f1 ∧ xFillN f S = xFillN f1 (sF S 16 k 0 98) := by
  have h1 := mWait_pos hs hk
  have h2 := mWait_set (S := S) (k := k) (v := 98) (by decide) hs (S.1 2 0)
  rw [if_pos hk] at h2
  obtain ⟨f1, rfl⟩ : ∃ f1, f = f1 + 1 := ⟨f - 1, by omega⟩
  refine ⟨f1, rfl, by omega, ?_⟩
  show (match xFirst S with
    | none => S
    | some k => xFillN f1 (sF S 16 k 0 98)) = _
  rw [hF]
theorem xFill_done {S : xS} {f : Nat} (hF : xFirst S = none) : xFillN f S = S := by
  cases f with
  | zero => rfl
  | succ f =>
    show (match xFirst S with
      | none => S
      | some k => xFillN f (sF S 16 k 0 98)) = _
    rw [hF]
theorem xFillN_ok {P : xS → Prop} (hP : ∀ S k, P S → P (sF S 16 k 0 98)) : ∀ (f : Nat) (S : xS), P S → P (xFillN f S)
  | 0, S, h => h
  | f + 1, S, h => by
    show P (match xFirst S with
      | none => S
      | some k => xFillN f (sF S 16 k 0 98))
    split
    · exact h
    · exact xFillN_ok hP f _ (hP S _ h)
theorem xFills_ok {P : xS → Prop} (hP : ∀ S k, P S → P (sF S 16 k 0 98)) {S : xS} (h : P S) : P (xFills S) := xFillN_ok hP _ _ h
theorem xFills_W {S : xS} (h : xW S) : xW (xFills S) := xFills_ok (P := xW) (fun S k h => xW_16 h k rfl) h
theorem xFills_1 (S : xS) : (xFills S).1 = S.1 := xFills_ok (P := fun T => T.1 = S.1) (fun _ _ h => h) rfl
/-! an entry ends: its cuts go back -/
def xEndsN (S : xS) (e : Nat) : Nat → xS
  | 0 => sF S 16 e 0 99
  | k + 1 => sF (xEndsN S e k) 22 (S.2.1 18 e k).toNatClampNeg 0 ((xEndsN S e k).2.1 22 (S.2.1 18 e k).toNatClampNeg 0 + (S.2.1 19 e k + 3))
def xEnds (S : xS) (e : Nat) : xS := sN (xEndsN S e (S.1 6 e)) 6 e 0
theorem xEndsN_1 (S : xS) (e : Nat) : ∀ k, (xEndsN S e k).1 = S.1
  | 0 => rfl
  | k + 1 => xEndsN_1 S e k
theorem xEndsN_c (S : xS) (e : Nat) {c : Nat} (h16 : c ≠ 16) (h22 : c ≠ 22) : ∀ k, (xEndsN S e k).2.1 c = S.2.1 c
  | 0 => by
    show fset S.2.1 16 e 0 99 c = _
    unfold fset
    rw [if_neg h16]
  | k + 1 => by
    show fset (xEndsN S e k).2.1 22 _ 0 _ c = _
    unfold fset
    rw [if_neg h22]
    exact xEndsN_c S e h16 h22 k
theorem xEndsN_W {S : xS} (h : xW S) (e : Nat) : ∀ k, xW (xEndsN S e k)
  | 0 => xW_16 h e rfl
  | k + 1 => xW_F (xEndsN_W h e k) 22 _ 0 _ (by decide)
theorem xEnds_W {S : xS} (h : xW S) (e : Nat) : xW (xEnds S e) := xW_6 (xEndsN_W h e _) e (Nat.zero_le _)
theorem xEnds_c (S : xS) (e : Nat) {c : Nat} (h16 : c ≠ 16) (h22 : c ≠ 22) : (xEnds S e).2.1 c = S.2.1 c := xEndsN_c S e h16 h22 _
/-- an amount is owed for the entry e -/
def xOwe (S : xS) (e : Nat) (amount : Int32) : xS := sF (sF S 17 e 0 amount) 4 (S.2.1 10 e 0).toNatClampNeg 0 (S.2.1 4 (S.2.1 10 e 0).toNatClampNeg 0 + amount)
theorem xOwe_W {S : xS} (h : xW S) (e : Nat) (v : Int32) : xW (xOwe S e v) := xW_F (xW_F h 17 e 0 v (by decide)) 4 _ 0 _ (by decide)
/-- what the cuts of the entry e cost, k of them -/
def xExtra (S : xS) (e : Nat) : Nat → Int32 := fun c => sumI c (fun k => (S.2.1 19 e k * S.2.1 6 (S.2.1 20 (S.2.1 18 e k).toNatClampNeg 0).toNatClampNeg 0 + 99) / 100)
/-! the public ones -/
def xCheck (S : xS) (member machine on start minutes work : Int32) : Nat × (Int32 × xS) :=
  if ¬ xMayAsk S member machine on start minutes work = 0 then (xMayAsk S member machine on start minutes work, 0, S) else (0, xLet S member machine on start minutes work, S)
theorem xCheck_nar {S : xS} {a b c d e f : Int32} : narrow .char (.int (xCheck S a b c d e f).2.1) = .int (xCheck S a b c d e f).2.1 := by
  unfold xCheck
  split
  · rfl
  · exact xLet_nar
def xCancel (S : xS) (entry : Int32) : Nat × (Int32 × xS) :=
  if inI entry 0 (nI (S.1 2 0) - 1) = false then (3, 0, S)
  else if S.2.1 16 entry.toNatClampNeg 0 = 119 then (0, 119, xFills (xEnds S entry.toNatClampNeg))
  else if S.2.1 16 entry.toNatClampNeg 0 = 98 then
    if S.2.1 12 entry.toNatClampNeg 0 = S.2.1 7 0 0 then (0, 104, xFills (xEnds (xOwe S entry.toNatClampNeg (xCostE S entry.toNatClampNeg / 2)) entry.toNatClampNeg))
    else (0, 102, xFills (xEnds S entry.toNatClampNeg))
  else (2, 0, S)
theorem xCancel_nar {S : xS} {entry : Int32} : narrow .char (.int (xCancel S entry).2.1) = .int (xCancel S entry).2.1 := by
  unfold xCancel
  (repeat' split) <;> rfl
