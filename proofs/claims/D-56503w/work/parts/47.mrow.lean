/-! more rows, and what breaking down computes -/
set_option maxRecDepth 100000
def cmpL (x y : Int64) : Int32 := if y < x then 1 else if x = y then 0 else -1
theorem cmpL_le {x y : Int64} (h : cmpL x y ≤ 0) : ¬ y < x := fun q => by
  rw [cmpL, if_pos q] at h
  exact absurd h (by decide)
theorem cmpL_gt {x y : Int64} (h : ¬ cmpL x y ≤ 0) : y < x := by
  by_cases q : y < x
  · exact q
  · exfalso
    apply h
    rw [cmpL, if_neg q]
    split <;> decide
section ROWS
variable {p : Program} {l : Launch} {e : Env} {R : Room} {s : State} {m : MethodId} {args : Array Value} {below : List Frame} {meth : Method} {c : Code} {H : Heap} {locs : List Loc} {cells slots : Nat} {cc : ByteArray} {pc : Nat} {ls : Array Slot} {rest : List Value} {Q : State → Prop}
theorem x_lcmp (hexec : p.tables.exec = Jvm.exec) (hb : c.code = cc) {x y : Int64} (hdg : decode cc pc = .ok (.lcmp, 1))
    (k : W p l e R s m args below meth c H locs cells slots Q (F0 m (pc + 1) ls (.int (cmpL x y) :: rest))) : W p l e R s m args below meth c H locs cells slots Q (F0 m pc ls (.long y :: .long x :: rest)) := by
  intro T hT X
  obtain ⟨t, a, b⟩ := k T hT X
  refine ⟨t, ?_, b⟩
  unfold cmpL at a
  by_cases h1 : y < x
  · rw [if_pos h1] at a
    jvm_step X.here [X.here.top, hexec, hb, hdg, h1]
    exact a
  · rw [if_neg h1] at a
    by_cases h2 : x = y
    · rw [if_pos h2] at a
      jvm_step X.here [X.here.top, hexec, hb, hdg, h1, h2]
      exact a
    · rw [if_neg h2] at a
      jvm_step X.here [X.here.top, hexec, hb, hdg, h1, h2]
      exact a
variable {A : Nat → Prop} {P : Heap → Heap → Prop} {mc ms : Nat}
theorem xr_Cf (hx : p.tables.exec = Jvm.exec) (hb : c.code = cc) {v r : UInt32} (hr : meth.sig.returnType = some .float) (hlocks : meth.locks = false) (h : v = r) (hP : P s.heap H) (hS : va_S A s.heap H locs) (hc : cells ≤ mc) (hs : slots ≤ ms) (hdg : decode cc pc = .ok (.freturn, 1)) : W p l e R s m args below meth c H locs cells slots (MQ below (xQc (some (.float r)) P A) args s mc ms A) (F0 m pc ls [.float v]) := by
  subst h; exact W.widen hc hs (W.fret hx hb hr (fun t ht _ => ⟨rfl, by rw [ht]; exact hP, hS.F ht⟩) hS.2.2 hdg hlocks)
theorem xr_Cd (hx : p.tables.exec = Jvm.exec) (hb : c.code = cc) {v r : UInt64} (hr : meth.sig.returnType = some .double) (hlocks : meth.locks = false) (h : v = r) (hP : P s.heap H) (hS : va_S A s.heap H locs) (hc : cells ≤ mc) (hs : slots ≤ ms) (hdg : decode cc pc = .ok (.dreturn, 1)) : W p l e R s m args below meth c H locs cells slots (MQ below (xQc (some (.double r)) P A) args s mc ms A) (F0 m pc ls [.double v]) := by
  subst h; exact W.widen hc hs (W.dret hx hb hr (fun t ht _ => ⟨rfl, by rw [ht]; exact hP, hS.F ht⟩) hS.2.2 hdg hlocks)
end ROWS
theorem ind3 {b : Bool} {t : Int32} (h : t = if b = true then 0 else 3) : (t ≤ 0 → t = 0 ∧ b = true) ∧ (¬ t ≤ 0 → t = 3 ∧ b = false) := by
  subst h
  cases b
  · exact ⟨fun q => absurd q (by decide), fun _ => ⟨rfl, rfl⟩⟩
  · exact ⟨fun _ => ⟨rfl, rfl⟩, fun q => absurd (by decide) q⟩
theorem ind0 {b : Bool} {t : Int32} (h : t = if b = true then 0 else 3) (h0 : t = 0) : b = true := by
  subst h
  cases b
  · exact absurd h0 (by decide)
  · rfl
theorem pos_nat {x : Int32} {r : Nat} (h : x.toNatClampNeg = r) (hp : ¬ x ≤ 0) : ∃ q, q + 1 < 2 ^ 31 ∧ x = nI (q + 1) ∧ r = q + 1 := by
  have h0 : ¬ x < 0 := fun z => hp (Int32.le_of_lt z)
  obtain ⟨j, hj, rfl⟩ := nI_of h0
  rw [nI_clamp hj] at h
  subst h
  cases j with
  | zero => exact absurd (by decide) hp
  | succ q => exact ⟨q, hj, rfl, rfl⟩
theorem neg_nat {x : Int32} {r : Nat} (h : x.toNatClampNeg = r) (hp : x ≤ 0) : r = 0 := by
  rw [← h]
  rw [Int32.le_iff_toInt_le] at hp
  have e0 : (0 : Int32).toInt = 0 := rfl
  rw [e0] at hp
  have : x.toNatClampNeg = x.toInt.toNat := rfl
  omega
theorem i64_ne {x : Int32} (h : ¬ x = 0) : ¬ x.toInt64 = 0 := by
  intro q
  apply h
  have h1 : x.toInt64.toInt = x.toInt := Int32.toInt_toInt64 x
  rw [q] at h1
  apply Int32.toInt.inj
  exact h1.symm
/-! whole numbers divided -/
section FL
def okD (f : FP.Core.Fmt) : FP.Core.Datum → Prop
  | .nan => False
  | .inf _ => True
  | .fin _ c q => c < 2 ^ f.p ∧ f.qmin ≤ q ∧ q ≤ f.qmax
theorem okD_settle {f : FP.Core.Fmt} {s : Bool} {c : Nat} {q : Int} (hq : f.qmin ≤ q) (hp : f.tails < 2 ^ f.p) : okD f (FP.Core.settle f s c q) := by
  unfold FP.Core.settle
  split
  · next h =>
    unfold FP.Core.bound
    split
    · next h2 => exact ⟨h, hq, h2⟩
    · trivial
  · unfold FP.Core.bound
    split
    · next h2 => exact ⟨hp, by omega, h2⟩
    · trivial
theorem okD_ratio {f : FP.Core.Fmt} {s : Bool} {n d : Nat} {e : Int} (h : f.qmin ≤ f.qmax) (hp : f.tails < 2 ^ f.p) : okD f (FP.Core.roundRatio f s n d e) := by
  unfold FP.Core.roundRatio
  split
  · exact ⟨Nat.two_pow_pos _, Int.le_refl _, h⟩
  · exact okD_settle (by unfold FP.Core.quantum; omega) hp
theorem enc32 {d : FP.Core.Datum} (h : okD FP.Core.b32 d) : FP.Core.encode FP.Core.b32 d % 2147483648 ≤ 2139095040 := by
  have ht : FP.Core.b32.tails = 8388608 := rfl
  have he : FP.Core.b32.exps = 256 := rfl
  have hp : 2 ^ FP.Core.b32.p = 16777216 := rfl
  have h1 : FP.Core.b32.qmin = (-149) := rfl
  have h2 : FP.Core.b32.qmax = 104 := rfl
  have hs : ∀ s : Bool, s.toNat ≤ 1 := fun s => by cases s <;> decide
  cases d with
  | nan => exact absurd h id
  | inf s =>
    have := hs s
    show FP.Core.assemble FP.Core.b32 s (FP.Core.b32.exps - 1) 0 % 2147483648 ≤ 2139095040
    unfold FP.Core.assemble
    rw [ht, he]
    omega
  | fin s c q =>
    obtain ⟨hc, hq1, hq2⟩ := h
    rw [hp] at hc
    rw [h1] at hq1
    rw [h2] at hq2
    have := hs s
    show (if c < FP.Core.b32.tails then FP.Core.assemble FP.Core.b32 s 0 c else FP.Core.assemble FP.Core.b32 s ((q - FP.Core.b32.qmin).toNat + 1) (c - FP.Core.b32.tails)) % 2147483648 ≤ 2139095040
    unfold FP.Core.assemble
    rw [ht, he, h1]
    split <;> omega
theorem dec32 {n : Nat} (h : n % 2147483648 ≤ 2139095040) : FP.Core.decode FP.Core.b32 n ≠ .nan := by
  have ht : FP.Core.b32.tails = 8388608 := rfl
  have he : FP.Core.b32.exps = 256 := rfl
  unfold FP.Core.decode FP.Core.fieldE FP.Core.fieldT
  rw [ht, he]
  split
  · split
    · exact fun q => nomatch q
    · next h1 h2 => exact absurd (show n % 8388608 = 0 by omega) h2
  · split <;> exact fun q => nomatch q
theorem quo32 {x y : FP.Core.Datum} (hx : x ≠ .nan) (hy : ∃ t d r, y = .fin t d r ∧ d ≠ 0) : okD FP.Core.b32 (FP.Core.quotient FP.Core.b32 x y) := by
  obtain ⟨t, d, r, rfl, hd⟩ := hy
  cases x with
  | nan => exact absurd rfl hx
  | inf s => trivial
  | fin s c q =>
    show okD FP.Core.b32 (if d = 0 then (if c = 0 then .nan else .inf (s != t)) else FP.Core.roundRatio FP.Core.b32 (s != t) c d (q - r))
    rw [if_neg hd]
    exact okD_ratio (by decide) (by decide)
theorem int32 (x : Int32) : FP.Core.decode FP.Core.b32 (FP.i2f x).toNat ≠ .nan := by
  apply dec32
  have h := enc32 (okD_ratio (f := FP.Core.b32) (s := decide (x.toInt < 0)) (n := x.toInt.natAbs) (d := 1) (e := 0) (by decide) (by decide))
  have hlt : FP.Core.encode FP.Core.b32 (FP.Core.roundRatio FP.Core.b32 (decide (x.toInt < 0)) x.toInt.natAbs 1 0) % 4294967296 % 2147483648 ≤ 2139095040 := by omega
  show (UInt32.ofNat (FP.Core.encode FP.Core.b32 (FP.Core.roundRatio FP.Core.b32 (decide (x.toInt < 0)) x.toInt.natAbs 1 0))).toNat % 2147483648 ≤ 2139095040
  rw [UInt32.toNat_ofNat']
  exact hlt
theorem div32 {x : Int32} {y : UInt32} (hy : ∃ t d r, FP.Core.decode FP.Core.b32 y.toNat = .fin t d r ∧ d ≠ 0) : vf_n32 (FP.fdiv (FP.i2f x) y) := by
  have h := enc32 (quo32 (int32 x) hy)
  unfold vf_n32
  rw [UInt32.le_iff_toNat_le, UInt32.toNat_and]
  have h1 : (2147483647 : UInt32).toNat = 2 ^ 31 - 1 := by decide
  have h2 : (2139095040 : UInt32).toNat = 2139095040 := by decide
  show (UInt32.ofNat (FP.Core.encode FP.Core.b32 (FP.Core.quotient FP.Core.b32 (FP.Core.decode FP.Core.b32 (FP.i2f x).toNat) (FP.Core.decode FP.Core.b32 y.toNat)))).toNat &&& (2147483647 : UInt32).toNat ≤ (2139095040 : UInt32).toNat
  rw [h1, h2, Nat.and_two_pow_sub_one_eq_mod, UInt32.toNat_ofNat']
  omega
theorem enc64 {d : FP.Core.Datum} (h : okD FP.Core.b64 d) : FP.Core.encode FP.Core.b64 d % 9223372036854775808 ≤ 9218868437227405312 := by
  have ht : FP.Core.b64.tails = 4503599627370496 := rfl
  have he : FP.Core.b64.exps = 2048 := rfl
  have hp : 2 ^ FP.Core.b64.p = 9007199254740992 := rfl
  have h1 : FP.Core.b64.qmin = (-1074) := rfl
  have h2 : FP.Core.b64.qmax = 971 := rfl
  have hs : ∀ s : Bool, s.toNat ≤ 1 := fun s => by cases s <;> decide
  cases d with
  | nan => exact absurd h id
  | inf s =>
    have := hs s
    show FP.Core.assemble FP.Core.b64 s (FP.Core.b64.exps - 1) 0 % 9223372036854775808 ≤ 9218868437227405312
    unfold FP.Core.assemble
    rw [ht, he]
    omega
  | fin s c q =>
    obtain ⟨hc, hq1, hq2⟩ := h
    rw [hp] at hc
    rw [h1] at hq1
    rw [h2] at hq2
    have := hs s
    show (if c < FP.Core.b64.tails then FP.Core.assemble FP.Core.b64 s 0 c else FP.Core.assemble FP.Core.b64 s ((q - FP.Core.b64.qmin).toNat + 1) (c - FP.Core.b64.tails)) % 9223372036854775808 ≤ 9218868437227405312
    unfold FP.Core.assemble
    rw [ht, he, h1]
    split <;> omega
theorem dec64 {n : Nat} (h : n % 9223372036854775808 ≤ 9218868437227405312) : FP.Core.decode FP.Core.b64 n ≠ .nan := by
  have ht : FP.Core.b64.tails = 4503599627370496 := rfl
  have he : FP.Core.b64.exps = 2048 := rfl
  unfold FP.Core.decode FP.Core.fieldE FP.Core.fieldT
  rw [ht, he]
  split
  · split
    · exact fun q => nomatch q
    · next h1 h2 => exact absurd (show n % 4503599627370496 = 0 by omega) h2
  · split <;> exact fun q => nomatch q
theorem quo64 {x y : FP.Core.Datum} (hx : x ≠ .nan) (hy : ∃ t d r, y = .fin t d r ∧ d ≠ 0) : okD FP.Core.b64 (FP.Core.quotient FP.Core.b64 x y) := by
  obtain ⟨t, d, r, rfl, hd⟩ := hy
  cases x with
  | nan => exact absurd rfl hx
  | inf s => trivial
  | fin s c q =>
    show okD FP.Core.b64 (if d = 0 then (if c = 0 then .nan else .inf (s != t)) else FP.Core.roundRatio FP.Core.b64 (s != t) c d (q - r))
    rw [if_neg hd]
    exact okD_ratio (by decide) (by decide)
theorem int64 (x : Int32) : FP.Core.decode FP.Core.b64 (FP.i2d x).toNat ≠ .nan := by
  apply dec64
  have h := enc64 (okD_ratio (f := FP.Core.b64) (s := decide (x.toInt < 0)) (n := x.toInt.natAbs) (d := 1) (e := 0) (by decide) (by decide))
  have hlt : FP.Core.encode FP.Core.b64 (FP.Core.roundRatio FP.Core.b64 (decide (x.toInt < 0)) x.toInt.natAbs 1 0) % 18446744073709551616 % 9223372036854775808 ≤ 9218868437227405312 := by omega
  show (UInt64.ofNat (FP.Core.encode FP.Core.b64 (FP.Core.roundRatio FP.Core.b64 (decide (x.toInt < 0)) x.toInt.natAbs 1 0))).toNat % 9223372036854775808 ≤ 9218868437227405312
  rw [UInt64.toNat_ofNat']
  exact hlt
theorem div64 {x : Int32} {y : UInt64} (hy : ∃ t d r, FP.Core.decode FP.Core.b64 y.toNat = .fin t d r ∧ d ≠ 0) : vf_n64 (FP.ddiv (FP.i2d x) y) := by
  have h := enc64 (quo64 (int64 x) hy)
  unfold vf_n64
  rw [UInt64.le_iff_toNat_le, UInt64.toNat_and]
  have h1 : (9223372036854775807 : UInt64).toNat = 2 ^ 63 - 1 := by decide
  have h2 : (9218868437227405312 : UInt64).toNat = 9218868437227405312 := by decide
  show (UInt64.ofNat (FP.Core.encode FP.Core.b64 (FP.Core.quotient FP.Core.b64 (FP.Core.decode FP.Core.b64 (FP.i2d x).toNat) (FP.Core.decode FP.Core.b64 y.toNat)))).toNat &&& (9223372036854775807 : UInt64).toNat ≤ (9218868437227405312 : UInt64).toNat
  rw [h1, h2, Nat.and_two_pow_sub_one_eq_mod, UInt64.toNat_ofNat']
  omega
def fpos (d : FP.Core.Datum) : Bool := match d with
  | .fin _ c _ => c != 0
  | _ => false
theorem fpos_ex {d : FP.Core.Datum} (h : fpos d = true) : ∃ t c r, d = .fin t c r ∧ c ≠ 0 := by
  cases d with
  | nan => cases h
  | inf s => cases h
  | fin s c q => exact ⟨s, c, q, rfl, by simpa [fpos] using h⟩
theorem cnt_pos : ∀ j : Fin 151, j.val = 0 ∨ fpos (FP.Core.decode FP.Core.b64 (FP.i2d (nI j.val)).toNat) = true := by decide +kernel
end FL
theorem use_nan (x : Int32) : vf_n32 (FP.fdiv (FP.i2f x) 1139802112) := div32 (fpos_ex (by decide +kernel))
theorem mean_nan (x : Int32) {y : Int32} {n : Nat} (hn : n ≤ 150) (hy : ∃ j, j ≤ n ∧ y = nI j) (h : ¬ y = 0) : vf_n64 (FP.ddiv (FP.i2d x) (FP.i2d y)) := by
  obtain ⟨j, hj, rfl⟩ := hy
  refine div64 (fpos_ex ((cnt_pos ⟨j, by omega⟩).resolve_left ?_))
  intro z
  have z : j = 0 := z
  subst z
  exact h rfl
theorem sumI_cnt {f : Nat → Int32} (hf : ∀ k, f k = 0 ∨ f k = 1) : ∀ n, ∃ j, j ≤ n ∧ sumI n f = nI j
  | 0 => ⟨0, Nat.le_refl _, rfl⟩
  | n + 1 => by
    obtain ⟨j, hj, e⟩ := sumI_cnt hf n
    rcases hf n with h | h
    · exact ⟨j, by omega, by show sumI n f + f n = nI j; rw [e, h]; exact Int32.add_zero _⟩
    · exact ⟨j + 1, by omega, by show sumI n f + f n = nI (j + 1); rw [e, h]; exact (nI_succ j).symm⟩
theorem mGivesN_1 : ∀ (f : Nat) (S : xS), (mGivesN f S).1 = S.1
  | 0, S => rfl
  | f + 1, S => by
    show (match mFirst S with
      | none => S
      | some k => mGivesN f (sF S 16 k 0 98)).1 = S.1
    cases mFirst S with
    | none => rfl
    | some k => exact (mGivesN_1 f (sF S 16 k 0 98)).trans rfl
theorem mGivesN_f {c i j : Nat} (h : ¬ c = 16) : ∀ (f : Nat) (S : xS), (mGivesN f S).2.1 c i j = S.2.1 c i j
  | 0, S => rfl
  | f + 1, S => by
    show (match mFirst S with
      | none => S
      | some k => mGivesN f (sF S 16 k 0 98)).2.1 c i j = S.2.1 c i j
    cases mFirst S with
    | none => rfl
    | some k => exact (mGivesN_f h f (sF S 16 k 0 98)).trans (by show fset S.2.1 16 k 0 98 c i j = S.2.1 c i j; simp [fset, h])
theorem mGives_1 (S : xS) : (mGives S).1 = S.1 := mGivesN_1 _ S
theorem mGives_f {S : xS} {c i j : Nat} (h : ¬ c = 16) : (mGives S).2.1 c i j = S.2.1 c i j := mGivesN_f h _ S
def mHit (S : xS) (machine : Int32) (k : Nat) : Bool := decide (S.2.1 16 k 0 = 100) && decide (S.2.1 11 k 0 = machine) && inI (S.2.1 12 k 0) (S.2.1 7 0 0 - 7) (S.2.1 7 0 0 - 1)
def mUsedM (S : xS) (machine : Int32) : Nat → Nat → Int32
  | 0 => fun _ => 0
  | k + 1 => if mHit S machine k = true then upd (mUsedM S machine k) (S.2.1 10 k 0).toNatClampNeg (mUsedM S machine k (S.2.1 10 k 0).toNatClampNeg + S.2.1 14 k 0) else mUsedM S machine k
def mTotal (S : xS) (machine : Int32) (n : Nat) : Int32 := sumI n (fun k => if mHit S machine k = true then S.2.1 14 k 0 else 0)
def mShr (amount t u : Int32) : Int32 := (amount.toInt64 * u.toInt64 / t.toInt64).toInt32
def mRem (amount t u : Int32) : Int64 := amount.toInt64 * u.toInt64 - amount.toInt64 * u.toInt64 / t.toInt64 * t.toInt64
def mShares (S : xS) (b : Nat) (amount t : Int32) (u : Nat → Int32) : Nat → xS
  | 0 => S
  | j + 1 => sF (mShares S b amount t u j) 25 b j (mShr amount t (u j))
def mRems (amount t : Int32) (u : Nat → Int32) : Nat → Nat → Int64
  | 0 => fun _ => 0
  | j + 1 => vp_updL (mRems amount t u j) j (mRem amount t (u j))
def mRest (amount t : Int32) (u : Nat → Int32) : Nat → Int32
  | 0 => amount
  | j + 1 => mRest amount t u j - mShr amount t (u j)
def mTopN (L : Nat → Int64) : Nat → Nat
  | 0 => 0
  | k + 1 => if L (mTopN L k) < L (k + 1) then k + 1 else mTopN L k
def mDist (b n : Nat) : Nat → xS → (Nat → Int64) → xS
  | 0, S, _ => S
  | r + 1, S, L => mDist b n r (sF S 25 b (mTopN L (n - 1)) (S.2.1 25 b (mTopN L (n - 1)) + 1)) (vp_updL L (mTopN L (n - 1)) (-1))
def mBreakDown (S : xS) (machine amount : Int32) : Int32 × xS :=
  if inI machine 0 (nI (S.1 0 0) - 1) = false then (0, thr S 1) else if inI amount 1 100000 = false then (0, thr S 2) else if S.1 4 0 = 20 then (0, thr S 3)
  else if mTotal S machine (S.1 2 0) = 0 then (0, sN (thr S 0) 4 0 (S.1 4 0 + 1))
  else (mTotal S machine (S.1 2 0), mDist (S.1 4 0) (S.1 1 0) (mRest amount (mTotal S machine (S.1 2 0)) (mUsedM S machine (S.1 2 0)) (S.1 1 0)).toNatClampNeg
    (mShares (sN (thr S 0) 4 0 (S.1 4 0 + 1)) (S.1 4 0) amount (mTotal S machine (S.1 2 0)) (mUsedM S machine (S.1 2 0)) (S.1 1 0)) (mRems amount (mTotal S machine (S.1 2 0)) (mUsedM S machine (S.1 2 0)) (S.1 1 0)))
def mUse (S : xS) (machine day : Int32) : UInt32 × xS :=
  if ¬ mMay S machine day 0 = 0 then (0, thr S (mMay S machine day 0)) else (FP.fdiv (FP.i2f (mUsed S.2.1 (S.1 2 0) machine day)) 1139802112, thr S 0)
def mDirtyMin (S : xS) (n : Nat) : Int32 := sumI n (fun e => if S.2.1 16 e 0 = 100 then S.2.1 14 e 0 else 0)
def mDirtyCnt (S : xS) (n : Nat) : Int32 := sumI n (fun e => if S.2.1 16 e 0 = 100 then 1 else 0)
def mMean (S : xS) : UInt64 × xS :=
  if mDirtyCnt S (S.1 2 0) = 0 then (0, thr S 1) else (FP.ddiv (FP.i2d (mDirtyMin S (S.1 2 0))) (FP.i2d (mDirtyCnt S (S.1 2 0))), thr S 0)
theorem mDirtyCnt_le (S : xS) (n : Nat) : ∃ j, j ≤ n ∧ mDirtyCnt S n = nI j := sumI_cnt (fun k => by split <;> simp) n
