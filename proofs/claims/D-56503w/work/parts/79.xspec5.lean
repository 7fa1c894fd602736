/-! WHAT GROWING COMPUTES -/
set_option maxRecDepth 100000
theorem df5 : ∀ j, j < 2 → defaultValue (tyX5 j) = vp_V [.int 0, .int 0] j := by decide +kernel
theorem df6 : ∀ j, j < 4 → defaultValue (tyX6 j) = vp_V [.null, .int 0, .int 0, .null] j := by decide +kernel
theorem df8 : ∀ j, j < 12 → defaultValue (tyX8 j) = vp_V [.int 0, .int 0, .int 0, .int 0, .int 0, .int 0, .int 0, .int 0, .int 0, .null, .null, .null] j := by decide +kernel
theorem df9 : ∀ j, j < 3 → defaultValue (tyX9 j) = vp_V [.int 0, .int 0, .int 0] j := by decide +kernel
theorem df10 : ∀ j, j < 6 → defaultValue (tyX10 j) = vp_V [.int 0, .int 0, .int 0, .int 0, .int 0, .null] j := by decide +kernel
def xMachS (S : xS) (kd su : Int32) : xS := (sN (sF (sF S 0 (S.1 0 0) 0 kd) 1 (S.1 0 0) 0 su) 0 0 (S.1 0 0 + 1))
def xMembS (S : xS) : xS := (sN (sF (sF (sR S 2 (S.1 1 0) (-1)) 3 (S.1 1 0) 0 0) 4 (S.1 1 0) 0 0) 1 0 (S.1 1 0 + 1))
def xBarS (S : xS) (material length : Int32) : xS := (sN (sF (sF (sF S 20 (S.1 3 0) 0 material) 21 (S.1 3 0) 0 length) 22 (S.1 3 0) 0 length) 3 0 (S.1 3 0 + 1))
def xEntrS (S : xS) (member machine on start minutes work state : Int32) : xS := (sN (sN (sR (sR (sF (sF (sF (sF (sF (sF (sF (sF S 10 (S.1 2 0) 0 member) 11 (S.1 2 0) 0 machine) 12 (S.1 2 0) 0 on) 13 (S.1 2 0) 0 start) 14 (S.1 2 0) 0 minutes) 15 (S.1 2 0) 0 work) 16 (S.1 2 0) 0 state) 17 (S.1 2 0) 0 0) 18 (S.1 2 0) 0) 19 (S.1 2 0) 0) 6 (S.1 2 0) 0) 2 0 (S.1 2 0 + 1))
def xAddMachine (S : xS) (kind setup : Int32) : Nat × (Int32 × xS) :=
  if inI kind 0 3 = false then (1, 0, S) else if inI setup 0 30 = false then (1, 0, S) else if ¬ S.1 0 0 < 6 then (2, 0, S) else (0, nI (S.1 0 0 + 1) - 1, xMachS S kind setup)
def xAddMember (S : xS) : Nat × (Int32 × xS) := if ¬ S.1 1 0 < 10 then (2, 0, S) else (0, nI (S.1 1 0 + 1) - 1, xMembS S)
def xDeliver (S : xS) (material length : Int32) : Nat × (Int32 × xS) :=
  if inI material 0 2 = false then (1, 0, S) else if inI length 1 5000 = false then (1, 0, S) else if ¬ S.1 3 0 < 30 then (2, 0, S) else (0, nI (S.1 3 0 + 1) - 1, xBarS S material length)
def xEnters (S : xS) (member machine on start minutes work state : Int32) : xS := xFills (xEntrS S member machine on start minutes work state)
def xBook (S : xS) (member machine on start minutes work : Int32) : Nat × (Int32 × xS) :=
  if ¬ xMayAsk S member machine on start minutes work = 0 then (xMayAsk S member machine on start minutes work, 0, S)
  else if xLet S member machine on start minutes work = 105 then (5, 0, S) else if xLet S member machine on start minutes work = 109 then (6, 0, S) else if xLet S member machine on start minutes work = 116 then (3, 0, S)
  else if ¬ S.1 2 0 < 150 then (2, 0, S) else (0, nI (S.1 2 0 + 1) - 1, xEnters S member machine on start minutes work 98)
def xAwait (S : xS) (member machine on start minutes work : Int32) : Nat × (Int32 × xS) :=
  if ¬ xMayAsk S member machine on start minutes work = 0 then (xMayAsk S member machine on start minutes work, 0, S)
  else if xLet S member machine on start minutes work = 105 then (5, 0, S) else if xLet S member machine on start minutes work = 111 then (2, 0, S)
  else if ¬ S.1 2 0 < 150 then (2, 0, S) else (0, nI (S.1 2 0 + 1) - 1, xEnters S member machine on start minutes work 119)
theorem xLet_or (S : xS) (a b c d e f : Int32) : xLet S a b c d e f = 105 ∨ xLet S a b c d e f = 109 ∨ xLet S a b c d e f = 116 ∨ xLet S a b c d e f = 111 := by
  unfold xLet
  split
  · exact Or.inl rfl
  · split
    · exact Or.inr (Or.inl rfl)
    · split
      · exact Or.inr (Or.inr (Or.inl rfl))
      · exact Or.inr (Or.inr (Or.inr rfl))
theorem work_nar {w : Int32} (h : inI w 97 99 = true) : narrow .char (.int w) = .int w := by
  refine isWork_nar ?_
  simp only [inI, Bool.and_eq_true, Bool.not_eq_true', decide_eq_false_iff_not] at h
  obtain ⟨h1, h2⟩ := h
  rw [Int32.lt_iff_toInt_lt] at h1 h2
  have e1 : (97 : Int32).toInt = 97 := rfl
  have e2 : (99 : Int32).toInt = 99 := rfl
  rw [e1] at h1
  rw [e2] at h2
  have h3 : w.toInt = 97 ∨ w.toInt = 98 ∨ w.toInt = 99 := by omega
  unfold isWorkI
  rcases h3 with h3 | h3 | h3
  · rw [show w = 97 from Int32.toInt.inj h3]; rfl
  · rw [show w = 98 from Int32.toInt.inj h3]; rfl
  · rw [show w = 99 from Int32.toInt.inj h3]; rfl
theorem xMayAsk_work {S : xS} {member machine on start minutes work : Int32} (h : xMayAsk S member machine on start minutes work = 0) : inI work 97 99 = true := by
  cases hq : inI work 97 99
  · exfalso
    unfold xMayAsk at h
    rw [hq] at h
    revert h
    (repeat' split) <;> intro h <;> first | exact absurd h (by decide) | (rename_i q9; exact absurd rfl q9)
  · rfl
theorem xW_entr {S : xS} (h : xW S) {member machine on start minutes work state : Int32} (h1 : vp_in member (S.1 1 0)) (h2 : vp_in machine (S.1 0 0)) (h3 : S.1 2 0 < 150) (hw : narrow .char (.int work) = .int work) (hs : narrow .char (.int state) = .int state) : xW (xEntrS S member machine on start minutes work state) := by
  refine ⟨⟨h.1.1, h.1.2.1, ?_, h.1.2.2.2.1, h.1.2.2.2.2⟩, h.2.1, fun e => ?_, h.2.2.2.1, fun e he => ?_, fun e he => ?_, fun e k he hk => ?_, h.2.2.2.2.2.2.2.1, fun e => ?_, fun e => ?_, h.2.2.2.2.2.2.2.2.2.2⟩
  · show S.1 2 0 + 1 ≤ 150; omega
  · show (if e = S.1 2 0 then 0 else S.1 6 e) ≤ 5
    split
    · omega
    · exact h.cut e
  · show vp_in (if e = S.1 2 0 ∧ 0 = 0 then member else S.2.1 10 e 0) (S.1 1 0)
    split
    · exact h1
    · next q => exact h.mem (by have hq : e < S.1 2 0 + 1 := he; have : e ≠ S.1 2 0 := fun z => q ⟨z, rfl⟩; omega)
  · show vp_in (if e = S.1 2 0 ∧ 0 = 0 then machine else S.2.1 11 e 0) (S.1 0 0)
    split
    · exact h2
    · next q => exact h.mac (by have hq : e < S.1 2 0 + 1 := he; have : e ≠ S.1 2 0 := fun z => q ⟨z, rfl⟩; omega)
  · have hk : k < (if e = S.1 2 0 then 0 else S.1 6 e) := hk
    show vp_in (if e = S.1 2 0 then 0 else S.2.1 18 e k) (S.1 3 0)
    by_cases q : e = S.1 2 0
    · rw [if_pos q] at hk; omega
    · rw [if_neg q] at hk ⊢
      exact h.bar (by have hq : e < S.1 2 0 + 1 := he; omega) hk
  · show narrow .char (.int (if e = S.1 2 0 ∧ 0 = 0 then state else S.2.1 16 e 0)) = .int (if e = S.1 2 0 ∧ 0 = 0 then state else S.2.1 16 e 0)
    split
    · exact hs
    · exact h.st e
  · show narrow .char (.int (if e = S.1 2 0 ∧ 0 = 0 then work else S.2.1 15 e 0)) = .int (if e = S.1 2 0 ∧ 0 = 0 then work else S.2.1 15 e 0)
    split
    · exact hw
    · exact h.wk e
theorem xEnters_n (S : xS) (a b c d e f g : Int32) : (xEnters S a b c d e f g).1 2 0 = S.1 2 0 + 1 := by
  unfold xEnters
  rw [xFills_1]
  rfl
