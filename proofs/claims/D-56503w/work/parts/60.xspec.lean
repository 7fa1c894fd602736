/-! WHAT THE METHODS OF Lendlathe COMPUTE, in plain words over its store -/
set_option maxRecDepth 100000
def xW (S : xS) : Prop := (S.1 0 0 ≤ 6 ∧ S.1 1 0 ≤ 10 ∧ S.1 2 0 ≤ 150 ∧ S.1 3 0 ≤ 30 ∧ S.1 4 0 ≤ 20) ∧ (∀ k, k < 4 → 1 ≤ S.1 5 k ∧ S.1 5 k ≤ 6) ∧ (∀ e, S.1 6 e ≤ 5) ∧ (∀ i, vp_in (S.2.1 0 i 0) 4) ∧ (∀ e, e < S.1 2 0 → vp_in (S.2.1 10 e 0) (S.1 1 0)) ∧ (∀ e, e < S.1 2 0 → vp_in (S.2.1 11 e 0) (S.1 0 0)) ∧ (∀ e k, e < S.1 2 0 → k < S.1 6 e → vp_in (S.2.1 18 e k) (S.1 3 0)) ∧ (∀ b, vp_in (S.2.1 20 b 0) 3) ∧ (∀ e, narrow .char (.int (S.2.1 16 e 0)) = .int (S.2.1 16 e 0)) ∧ (∀ e, narrow .char (.int (S.2.1 15 e 0)) = .int (S.2.1 15 e 0)) ∧ (∀ i j, S.2.1 5 i j = 0 ∨ S.2.1 5 i j = 1)
section XW
variable {S : xS}
theorem xW.n (h : xW S) : S.1 0 0 ≤ 6 ∧ S.1 1 0 ≤ 10 ∧ S.1 2 0 ≤ 150 ∧ S.1 3 0 ≤ 30 ∧ S.1 4 0 ≤ 20 := h.1
theorem xW.lay (h : xW S) {k : Nat} (hk : k < 4) : 1 ≤ S.1 5 k ∧ S.1 5 k ≤ 6 := h.2.1 k hk
theorem xW.cut (h : xW S) (e : Nat) : S.1 6 e ≤ 5 := h.2.2.1 e
theorem xW.kd (h : xW S) (i : Nat) : vp_in (S.2.1 0 i 0) 4 := h.2.2.2.1 i
theorem xW.mem (h : xW S) {e : Nat} (he : e < S.1 2 0) : vp_in (S.2.1 10 e 0) (S.1 1 0) := h.2.2.2.2.1 e he
theorem xW.mac (h : xW S) {e : Nat} (he : e < S.1 2 0) : vp_in (S.2.1 11 e 0) (S.1 0 0) := h.2.2.2.2.2.1 e he
theorem xW.bar (h : xW S) {e k : Nat} (he : e < S.1 2 0) (hk : k < S.1 6 e) : vp_in (S.2.1 18 e k) (S.1 3 0) := h.2.2.2.2.2.2.1 e k he hk
theorem xW.mat (h : xW S) (b : Nat) : vp_in (S.2.1 20 b 0) 3 := h.2.2.2.2.2.2.2.1 b
theorem xW.st (h : xW S) (e : Nat) : narrow .char (.int (S.2.1 16 e 0)) = .int (S.2.1 16 e 0) := h.2.2.2.2.2.2.2.2.1 e
theorem xW.wk (h : xW S) (e : Nat) : narrow .char (.int (S.2.1 15 e 0)) = .int (S.2.1 15 e 0) := h.2.2.2.2.2.2.2.2.2.1 e
theorem xW.nd (h : xW S) (i j : Nat) : S.2.1 5 i j = bI (!decide (S.2.1 5 i j = 0)) := by
  rcases h.2.2.2.2.2.2.2.2.2.2 i j with e | e <;> rw [e] <;> rfl
end XW
theorem xel_in {n a k : Nat} (h : k < n) : xel n a k = .ref a := if_pos h
theorem xi_nn {i : Int32} {j n : Nat} (h : xi i j n) : ¬ i < 0 := fun q => h.1 (Or.inl q)
theorem xi_ltI {i : Int32} {j n : Nat} (h : xi i j n) (hn : n < 2 ^ 30) : i < nI n := by
  have h0 := xi_nn h
  obtain ⟨k, hk, rfl⟩ := nI_of h0
  have hj : k = j := by have := h.2; rw [nI_clamp hk] at this; exact this
  exact (nI_ltI hk (by omega)).mpr (hj ▸ h.lt)
def xOv (f : xF) (e : Nat) (a b : Int32) : Bool := decide (f 13 e 0 < b) && decide (a < mEnd f e)
def xTaken (f : xF) (e : Nat) : Bool := decide (f 16 e 0 = 98) || decide (f 16 e 0 = 100)
/-- is the member mi live for the kind ki on the day -/
def xLive (f : xF) (day : Int32) (mi : Nat) : Nat → Nat → Bool
  | 0, _ => false
  | d + 1, ki => (!decide (f 2 mi ki = -1) && decide (day < f 2 mi ki + 30)) && allN 4 (fun j => decide (f 5 ki j = 0) || xLive f day mi d j)
def xLeads (f : xF) : Nat → Nat → Nat → Bool
  | 0, _, _ => false
  | d + 1, a, o => !decide (f 5 a o = 0) || anyN 4 (fun j => !decide (f 5 a j = 0) && xLeads f d j o)
/-- the cuts of the entry e from the bar, n of them -/
def xTakes (S : xS) (e : Nat) (bar : Int32) (n : Nat) : Int32 := sumI n (fun k => if S.2.1 18 e k = bar then S.2.1 19 e k + 3 else 0)
def xElse (S : xS) (member day start minutes : Int32) : Bool := anyN (S.1 2 0) (fun e => decide (S.2.1 10 e 0 = member) && decide (S.2.1 16 e 0 = 98) && decide (S.2.1 12 e 0 = day) && xOv S.2.1 e start (start + minutes))
def xFreeBy (S : xS) (bi : Nat) (bar : Int32) (n : Nat) : Int32 := S.2.1 21 bi 0 - sumI n (fun e => xTakes S e bar (S.1 6 e))
def xOwesBy (S : xS) (mi : Nat) (member : Int32) : Int32 := -S.2.1 3 mi 0 + sumI (S.1 2 0) (fun e => if S.2.1 10 e 0 = member then S.2.1 17 e 0 else 0) + sumI (S.1 4 0) (fun b => S.2.1 25 b mi)
theorem xbtf (b : Bool) : b = true ∨ b = false := by cases b <;> simp
/-! what lets a call pass: 0, or the exception's number -/
def xMayAsk (S : xS) (member machine on start minutes work : Int32) : Nat :=
  if inI member 0 (nI (S.1 1 0) - 1) = false then 4 else if inI machine 0 (nI (S.1 0 0) - 1) = false then 4 else if inI on (S.2.1 7 0 0) (S.2.1 7 0 0 + 6) = false then 1 else if start < 0 then 1
  else if inI minutes 1 240 = false then 1 else if 480 - minutes < start then 1 else if inI work 97 99 = false then 1 else 0
def xMayLook (S : xS) (machine on : Int32) : Nat := if inI machine 0 (nI (S.1 0 0) - 1) = false then 4 else if inI on 0 (S.2.1 7 0 0 + 6) = false then 1 else 0
def xMayStart (S : xS) (machine on minutes work : Int32) : Nat :=
  if inI machine 0 (nI (S.1 0 0) - 1) = false then 4 else if inI on (S.2.1 7 0 0) (S.2.1 7 0 0 + 6) = false then 1 else if inI minutes 1 240 = false then 1 else if inI work 97 99 = false then 1 else 0
def xMayAdd (S : xS) (kind v most : Int32) : Nat := if inI kind 0 3 = false then 1 else if inI v 0 most = false then 1 else if S.1 5 kind.toNatClampNeg < 6 then 0 else 2
theorem xi_inI {i : Int32} {j n : Nat} (h : xi i j n) (hn : n < 2 ^ 30) : inI i 0 (nI n - 1) = true := by
  have h0 := xi_nn h
  obtain ⟨k, hk, rfl⟩ := nI_of h0
  have hj : k = j := by have := h.2; rw [nI_clamp hk] at this; exact this
  have hlt := h.lt
  subst hj
  obtain ⟨n1, rfl⟩ : ∃ n1, n = n1 + 1 := ⟨n - 1, by omega⟩
  have e2 : nI (n1 + 1) - 1 = nI n1 := by rw [nI_succ]; exact Int32.add_sub_cancel _ _
  rw [e2]
  simp only [inI, Bool.and_eq_true, Bool.not_eq_true', decide_eq_false_iff_not]
  exact ⟨h0, fun z => by have := (nI_ltI (a := n1) (b := k) (by omega) hk).mp z; omega⟩
/-! the walk of a day's entries, by their starts -/
/-- the place of x behind the n first: past all that aren't greater -/
def xPl (g : Nat → Int32) (x : Int32) : Nat → Nat
  | 0 => 0
  | n + 1 => if x < g n then xPl g x n else n + 1
def xIns (f : xF) (L : List Nat) (e : Nat) : List Nat := L.take (xPl (fun k => f 13 (L.getD k 0) 0) (f 13 e 0) L.length) ++ e :: L.drop (xPl (fun k => f 13 (L.getD k 0) 0) (f 13 e 0) L.length)
def xOverN (f : xF) (machine on : Int32) : Nat → List Nat
  | 0 => []
  | n + 1 => if f 11 n 0 = machine ∧ f 12 n 0 = on ∧ xTaken f n = true then xIns f (xOverN f machine on n) n else xOverN f machine on n
/-- the row holds these entries -/
def xRow (ad : Nat × Nat → Nat) (z : xZ) (L : List Nat) : Prop := z.2.1 = nI L.length ∧ ∀ k e, L[k]? = some e → z.1 k = .ref (ad (23, e))
theorem xPl_le (g : Nat → Int32) (x : Int32) : ∀ n, xPl g x n ≤ n
  | 0 => Nat.le_refl _
  | n + 1 => by
    unfold xPl
    split
    · exact Nat.le_succ_of_le (xPl_le g x n)
    · exact Nat.le_refl _
theorem xIns_len (f : xF) (L : List Nat) (e : Nat) : (xIns f L e).length = L.length + 1 := by
  have := xPl_le (fun k => f 13 (L.getD k 0) 0) (f 13 e 0) L.length
  simp only [xIns, List.length_append, List.length_take, List.length_cons, List.length_drop]
  omega
theorem xIns_mem {f : xF} {L : List Nat} {e x : Nat} (h : x ∈ xIns f L e) : x = e ∨ x ∈ L := by
  simp only [xIns, List.mem_append, List.mem_cons] at h
  rcases h with h | h | h
  · exact Or.inr (List.mem_of_mem_take h)
  · exact Or.inl h
  · exact Or.inr (List.mem_of_mem_drop h)
theorem xOverN_len (f : xF) (machine on : Int32) : ∀ n, (xOverN f machine on n).length ≤ n
  | 0 => Nat.le_refl _
  | n + 1 => by
    unfold xOverN
    split
    · rw [xIns_len]; exact Nat.succ_le_succ (xOverN_len f machine on n)
    · exact Nat.le_succ_of_le (xOverN_len f machine on n)
theorem xOverN_lt {f : xF} {machine on : Int32} : ∀ {n x : Nat}, x ∈ xOverN f machine on n → x < n
  | 0, x, h => by cases h
  | n + 1, x, h => by
    unfold xOverN at h
    split at h
    · rcases xIns_mem h with h | h
      · omega
      · exact Nat.lt_succ_of_lt (xOverN_lt h)
    · exact Nat.lt_succ_of_lt (xOverN_lt h)
theorem xOverN_at {f : xF} {machine on : Int32} {n k x : Nat} (h : (xOverN f machine on n)[k]? = some x) : x < n := xOverN_lt (List.mem_of_getElem? h)
/-- .. and each of them is of the machine and the day -/
theorem xOverN_ok {f : xF} {machine on : Int32} : ∀ {n x : Nat}, x ∈ xOverN f machine on n → f 11 x 0 = machine ∧ f 12 x 0 = on ∧ xTaken f x = true
  | 0, x, h => by cases h
  | n + 1, x, h => by
    unfold xOverN at h
    split at h
    · next hc =>
      rcases xIns_mem h with h | h
      · rw [h]; exact hc
      · exact xOverN_ok h
    · exact xOverN_ok h
/-- while sorting: the places above pl have moved up -/
def xShift (z : xZ) (pl n : Nat) : Nat → Value := fun k => if pl < k ∧ k ≤ n then z.1 (k - 1) else z.1 k
theorem xShift_0 (z : xZ) (n : Nat) : xShift z n n = z.1 := by
  funext k
  unfold xShift
  rw [if_neg (by omega)]
theorem xShift_s (z : xZ) (pl n : Nat) (hp : pl < n) : updV (xShift z (pl + 1) n) (pl + 1) (z.1 pl) = xShift z pl n := by
  funext k
  unfold updV xShift
  by_cases e : k = pl + 1
  · subst e; rw [if_pos rfl, if_pos (by omega)]; rfl
  · rw [if_neg e]
    by_cases h : pl < k ∧ k ≤ n
    · rw [if_pos h, if_pos (by omega)]
    · rw [if_neg h, if_neg (by omega)]
/-- the row behind the sorting in of e -/
theorem xRow_ins {f : xF} {ad : Nat × Nat → Nat} {z : xZ} {L : List Nat} {e pl : Nat} (h : xRow ad z L) (hpl : pl = xPl (fun k => f 13 (L.getD k 0) 0) (f 13 e 0) L.length) (at9 : Int32) : xRow ad (updV (xShift z pl L.length) pl (.ref (ad (23, e))), nI (L.length + 1), at9) (xIns f L e) := by
  have hle := xPl_le (fun k => f 13 (L.getD k 0) 0) (f 13 e 0) L.length
  rw [← hpl] at hle
  refine ⟨by rw [xIns_len], fun k x hx => ?_⟩
  unfold xIns at hx
  rw [← hpl] at hx
  have ht : (L.take pl).length = pl := by rw [List.length_take]; omega
  show updV (xShift z pl L.length) pl (.ref (ad (23, e))) k = .ref (ad (23, x))
  rcases Nat.lt_trichotomy k pl with hk | hk | hk
  · rw [List.getElem?_append_left (by rw [ht]; exact hk), List.getElem?_take_of_lt hk] at hx
    unfold updV xShift
    rw [if_neg (by omega), if_neg (by omega)]
    exact h.2 k x hx
  · subst hk
    rw [List.getElem?_append_right (by rw [ht]; exact Nat.le_refl _), ht, Nat.sub_self] at hx
    have hx2 : e = x := Option.some.inj hx
    subst hx2
    unfold updV
    rw [if_pos rfl]
  · rw [List.getElem?_append_right (by rw [ht]; omega), ht] at hx
    obtain ⟨j, rfl⟩ : ∃ j, k = pl + 1 + j := ⟨k - pl - 1, by omega⟩
    have e1 : pl + 1 + j - pl = j + 1 := by omega
    rw [e1, List.getElem?_cons_succ, List.getElem?_drop] at hx
    have hlt := (List.getElem?_eq_some_iff.mp hx).1
    unfold updV xShift
    rw [if_neg (by omega), if_pos (by omega)]
    have e2 : pl + 1 + j - 1 = pl + j := by omega
    rw [e2]
    exact h.2 _ x hx
/-! what the walks answer -/
def xSoon (f : xF) (start work : Int32) : Option Nat → Bool
  | none => false
  | some a => decide (start - mEnd f a < mSetup f (f 11 a 0).toNatClampNeg (f 15 a 0) work)
def xBusyL (f : xF) (mac : Nat) (start en work : Int32) : List Nat → Option Nat → Bool
  | [], last => xSoon f start work last
  | e :: L, last => if xOv f e start en = true then true else if en ≤ f 13 e 0 then (decide (f 13 e 0 - en < mSetup f mac (f 15 e 0) work) || xSoon f start work last) else xBusyL f mac start en work L (some e)
def xBusy (S : xS) (machine on start minutes work : Int32) : Bool := xBusyL S.2.1 machine.toNatClampNeg start (start + minutes) work (xOverN S.2.1 machine on (S.1 2 0)) none
def xLacks (f : xF) (mi mac : Nat) (on : Int32) : Bool := !xLive f on mi 4 (f 0 mac 0).toNatClampNeg
def xLet (S : xS) (member machine on start minutes work : Int32) : Int32 :=
  if xLacks S.2.1 member.toNatClampNeg machine.toNatClampNeg on = true then 105 else if xElse S member on start minutes = true then 109 else if xBusy S machine on start minutes work = true then 116 else 111
def xLetE (S : xS) (e : Nat) : Int32 := xLet S (S.2.1 10 e 0) (S.2.1 11 e 0) (S.2.1 12 e 0) (S.2.1 13 e 0) (S.2.1 14 e 0) (S.2.1 15 e 0)
theorem xLet_nar {S : xS} {a b c d e f : Int32} : narrow .char (.int (xLet S a b c d e f)) = .int (xLet S a b c d e f) := by
  unfold xLet
  split
  · rfl
  · split
    · rfl
    · split <;> rfl
def xStateL (f : xF) (minute : Int32) : List Nat → Option Nat → Int32
  | [], _ => 102
  | e :: L, last => if f 13 e 0 ≤ minute ∧ minute < mEnd f e then 98 else if minute < f 13 e 0 then (if f 13 e 0 - (match last with | none => 0 | some a => mSetup f (f 11 e 0).toNatClampNeg (f 15 a 0) (f 15 e 0)) ≤ minute then 115 else 102) else xStateL f minute L (some e)
def xUsedL (f : xF) : List Nat → Int32 → Int32
  | [], a => a
  | e :: L, a => xUsedL f L (a + f 14 e 0)
def xSetL (f : xF) (mac : Nat) : List Nat → Option Nat → Int32 → Int32
  | [], _, a => a
  | e :: L, last, a => xSetL f mac L (some e) (a + (match last with | none => 0 | some b => mSetup f mac (f 15 b 0) (f 15 e 0)))
def xFirstL (f : xF) (mac : Nat) (minutes work : Int32) : List Nat → Int32 → Sum Int32 Int32
  | [], start => .inr start
  | e :: L, start => if start + minutes + mSetup f mac work (f 15 e 0) ≤ f 13 e 0 then .inl start else xFirstL f mac minutes work L (mEnd f e + mSetup f mac (f 15 e 0) work)
def xUsed (S : xS) (machine on : Int32) : Int32 := xUsedL S.2.1 (xOverN S.2.1 machine on (S.1 2 0)) 0
def xUsedBy (S : xS) (machine on : Int32) : Int32 := sumI 480 (fun k => if xStateL S.2.1 (nI k) (xOverN S.2.1 machine on (S.1 2 0)) none = 98 then 1 else 0)
theorem sort_pos {n : Nat} (h : ¬ nI n ≤ 0) : 0 < n := by
  rcases Nat.eq_zero_or_pos n with e | e
  · subst e; exact absurd (by decide) h
  · exact e
theorem sort_zero {n : Nat} (hn : n < 2 ^ 31) (h : nI n ≤ 0) : n = 0 := by
  have h2 := (nI_leI (b := 0) hn (by decide)).mp h
  omega
theorem walk_more {z : xZ} {j n : Nat} (hj : z.2.2 = nI j) (hn : z.2.1 = nI n) (hb : n ≤ 150 ∧ j ≤ n) (c : z.2.2 < z.2.1) : j < n := by
  rw [hj, hn] at c
  exact (nI_ltI (by omega) (by omega)).mp c
theorem walk_end {z : xZ} {j n : Nat} (hj : z.2.2 = nI j) (hn : z.2.1 = nI n) (hjn : j ≤ n) (hb : n ≤ 150) (c : ¬ z.2.2 < z.2.1) : j = n := by
  rw [hj, hn] at c
  have := Nat.not_lt.mp (fun h => c ((nI_ltI (by omega) (by omega)).mpr h))
  omega
theorem drop_at {L : List Nat} {j e : Nat} (h : L[j]? = some e) : L.drop j = e :: L.drop (j + 1) := by
  obtain ⟨hj, he⟩ := List.getElem?_eq_some_iff.mp h
  rw [List.drop_eq_getElem_cons hj, he]
theorem xStateL_nar {f : xF} {minute : Int32} : ∀ {L : List Nat} {last : Option Nat}, narrow .char (.int (xStateL f minute L last)) = .int (xStateL f minute L last)
  | [], _ => rfl
  | e :: L, last => by
    unfold xStateL
    split
    · rfl
    · split
      · (repeat' split) <;> rfl
      · exact xStateL_nar
/-! what the methods that change no more than a number or two answer: (the exception's number, the answer, the store) -/
def xIsLive (S : xS) (member kind on : Int32) : Nat × (Bool × xS) :=
  if inI member 0 (nI (S.1 1 0) - 1) = false then (4, false, S) else if inI kind 0 3 = false then (1, false, S) else if inI on (S.2.1 7 0 0) 999 = false then (1, false, S)
  else (0, xLive S.2.1 on member.toNatClampNeg 4 kind.toNatClampNeg, S)
def xMinuteAt (S : xS) (machine on minute : Int32) : Nat × (Int32 × xS) :=
  if ¬ xMayLook S machine on = 0 then (xMayLook S machine on, 0, S) else if inI minute 0 479 = false then (1, 0, S) else (0, xStateL S.2.1 minute (xOverN S.2.1 machine on (S.1 2 0)) none, S)
theorem xMinuteAt_nar {S : xS} {machine on minute : Int32} : narrow .char (.int (xMinuteAt S machine on minute).2.1) = .int (xMinuteAt S machine on minute).2.1 := by
  unfold xMinuteAt
  split
  · rfl
  · split
    · rfl
    · exact xStateL_nar
def xUsedMinutes (S : xS) (machine on : Int32) : Nat × (Int32 × xS) := if ¬ xMayLook S machine on = 0 then (xMayLook S machine on, 0, S) else (0, xUsed S machine on, S)
def xUsedByMinutes (S : xS) (machine on : Int32) : Nat × (Int32 × xS) := if ¬ xMayLook S machine on = 0 then (xMayLook S machine on, 0, S) else (0, xUsedBy S machine on, S)
def xSetupMinutes (S : xS) (machine on : Int32) : Nat × (Int32 × xS) := if ¬ xMayLook S machine on = 0 then (xMayLook S machine on, 0, S) else (0, xSetL S.2.1 machine.toNatClampNeg (xOverN S.2.1 machine on (S.1 2 0)) none 0, S)
def xFirstStart (S : xS) (machine on minutes work : Int32) : Nat × (Int32 × xS) :=
  if ¬ xMayStart S machine on minutes work = 0 then (xMayStart S machine on minutes work, 0, S) else match xFirstL S.2.1 machine.toNatClampNeg minutes work (xOverN S.2.1 machine on (S.1 2 0)) 0 with
    | .inl s => (0, s, S)
    | .inr s => if 480 < s + minutes then (3, 0, S) else (0, s, S)
def xFirstBy (S : xS) (machine on minutes work : Int32) : Nat × (Int32 × xS) :=
  if ¬ xMayStart S machine on minutes work = 0 then (xMayStart S machine on minutes work, 0, S) else match firstC (fun k => !xBusy S machine on (nI k) minutes work) (481 - minutes.toNatClampNeg) 0 with
    | none => (3, 0, S)
    | some k => (0, nI k, S)
def xWaiting (S : xS) (machine on : Int32) : Nat × (Int32 × xS) :=
  if inI machine 0 (nI (S.1 0 0) - 1) = false then (4, 0, S) else if inI on (S.2.1 7 0 0) (S.2.1 7 0 0 + 6) = false then (1, 0, S) else (0, mWaitings S machine on (S.1 2 0), S)
def xUse (S : xS) (machine on : Int32) : Nat × (UInt32 × xS) := if ¬ xMayLook S machine on = 0 then (xMayLook S machine on, 0, S) else (0, FP.fdiv (FP.i2f (xUsed S machine on)) 1139802112, S)
def xMean (S : xS) : Nat × (UInt64 × xS) := if mDirtyCnt S (S.1 2 0) = 0 then (6, 0, S) else (0, FP.ddiv (FP.i2d (mDirtyMin S (S.1 2 0))) (FP.i2d (mDirtyCnt S (S.1 2 0))), S)
def xFreeOf (S : xS) (bar : Int32) : Nat × (Int32 × xS) := if inI bar 0 (nI (S.1 3 0) - 1) = false then (3, 0, S) else (0, S.2.1 22 bar.toNatClampNeg 0, S)
def xFreeCuts (S : xS) (bar : Int32) : Nat × (Int32 × xS) := if inI bar 0 (nI (S.1 3 0) - 1) = false then (3, 0, S) else (0, xFreeBy S bar.toNatClampNeg bar (S.1 2 0), S)
def xSetPrice (S : xS) (material price : Int32) : Nat × (Int32 × xS) :=
  if inI material 0 2 = false then (1, 0, S) else if inI price 0 99 = false then (1, 0, S) else (0, S.2.1 6 material.toNatClampNeg 0, sF S 6 material.toNatClampNeg 0 price)
def xShareOf (S : xS) (breakage member : Int32) : Nat × (Int32 × xS) :=
  if inI breakage 0 (nI (S.1 4 0) - 1) = false then (3, 0, S) else if inI member 0 (nI (S.1 1 0) - 1) = false then (4, 0, S) else (0, S.2.1 25 breakage.toNatClampNeg member.toNatClampNeg, S)
def xPay (S : xS) (member amount : Int32) : Nat × (Int32 × xS) :=
  if inI member 0 (nI (S.1 1 0) - 1) = false then (4, 0, S) else if inI amount 1 1000000 = false then (1, 0, S) else if 1000000000 - amount < S.2.1 3 member.toNatClampNeg 0 then (2, 0, S)
  else (0, S.2.1 4 member.toNatClampNeg 0 - (S.2.1 3 member.toNatClampNeg 0 + amount), sF S 3 member.toNatClampNeg 0 (S.2.1 3 member.toNatClampNeg 0 + amount))
def xOwes (S : xS) (member : Int32) : Nat × (Int32 × xS) := if inI member 0 (nI (S.1 1 0) - 1) = false then (4, 0, S) else (0, S.2.1 4 member.toNatClampNeg 0 - S.2.1 3 member.toNatClampNeg 0, S)
def xOwesE (S : xS) (member : Int32) : Nat × (Int32 × xS) := if inI member 0 (nI (S.1 1 0) - 1) = false then (4, 0, S) else (0, xOwesBy S member.toNatClampNeg member, S)
def xDueOf (S : xS) (entry : Int32) : Nat × (Int32 × xS) := if inI entry 0 (nI (S.1 2 0) - 1) = false then (3, 0, S) else (0, S.2.1 17 entry.toNatClampNeg 0, S)
def xStateOf (S : xS) (entry : Int32) : Nat × (Int32 × xS) := if inI entry 0 (nI (S.1 2 0) - 1) = false then (3, 0, S) else (0, S.2.1 16 entry.toNatClampNeg 0, S)
theorem xStateOf_nar {S : xS} {entry : Int32} (hW : xW S) : narrow .char (.int (xStateOf S entry).2.1) = .int (xStateOf S entry).2.1 := by
  unfold xStateOf
  split
  · rfl
  · exact hW.st _
def xTakings (S : xS) : Int64 := sumL (S.1 1 0) (fun m => (S.2.1 3 m 0).toInt64)
/-- the best bar of k -/
def xBest (S : xS) (material length : Int32) : Nat → Int32
  | 0 => -1
  | b + 1 => if S.2.1 20 b 0 = material ∧ ¬ S.2.1 22 b 0 < length + 3 ∧ (xBest S material length b = -1 ∨ S.2.1 22 b 0 < S.2.1 22 (xBest S material length b).toNatClampNeg 0) then nI b else xBest S material length b
def xCut (S : xS) (entry material length : Int32) : Nat × (Int32 × xS) :=
  if inI entry 0 (nI (S.1 2 0) - 1) = false then (3, 0, S) else if inI material 0 2 = false then (1, 0, S) else if inI length 1 5000 = false then (1, 0, S)
  else if ¬ S.2.1 16 entry.toNatClampNeg 0 = 98 then (2, 0, S) else if ¬ S.1 6 entry.toNatClampNeg < 5 then (2, 0, S)
  else if xBest S material length (S.1 3 0) = -1 then (5, 0, S)
  else (0, xBest S material length (S.1 3 0), sN (sF (sF (sF S 22 (xBest S material length (S.1 3 0)).toNatClampNeg 0 (S.2.1 22 (xBest S material length (S.1 3 0)).toNatClampNeg 0 - (length + 3))) 18 entry.toNatClampNeg (S.1 6 entry.toNatClampNeg) (xBest S material length (S.1 3 0))) 19 entry.toNatClampNeg (S.1 6 entry.toNatClampNeg) length) 6 entry.toNatClampNeg (S.1 6 entry.toNatClampNeg + 1))
theorem xMayLook_in {S : xS} {machine on : Int32} (h : xMayLook S machine on = 0) : inI machine 0 (nI (S.1 0 0) - 1) = true := by
  unfold xMayLook at h
  cases hm : inI machine 0 (nI (S.1 0 0) - 1)
  · rw [hm, if_pos rfl] at h
    exact absurd h (by decide)
  · rfl
theorem xMayStart_in {S : xS} {machine on minutes work : Int32} (h : xMayStart S machine on minutes work = 0) : inI machine 0 (nI (S.1 0 0) - 1) = true ∧ inI minutes 1 240 = true := by
  unfold xMayStart at h
  cases hm : inI machine 0 (nI (S.1 0 0) - 1)
  · rw [hm, if_pos rfl] at h
    exact absurd h (by decide)
  · cases h1 : inI on (S.2.1 7 0 0) (S.2.1 7 0 0 + 6)
    · rw [hm, h1] at h
      simp at h
    · cases h2 : inI minutes 1 240
      · rw [hm, h1, h2] at h
        simp at h
      · exact ⟨rfl, rfl⟩
theorem xMayAsk_in {S : xS} {member machine on start minutes work : Int32} (h : xMayAsk S member machine on start minutes work = 0) : inI member 0 (nI (S.1 1 0) - 1) = true ∧ inI machine 0 (nI (S.1 0 0) - 1) = true := by
  unfold xMayAsk at h
  cases h1 : inI member 0 (nI (S.1 1 0) - 1)
  · rw [h1, if_pos rfl] at h
    exact absurd h (by decide)
  · cases hm : inI machine 0 (nI (S.1 0 0) - 1)
    · rw [h1, hm] at h
      simp at h
    · exact ⟨rfl, rfl⟩
section LDCW
variable {p : Program} {l : Launch} {e : Env} {R : Room} {s : State} {m : MethodId} {args : Array Value} {below : List Frame} {meth : Method} {c : Code} {H : Heap} {locs : List Loc} {cells slots : Nat} {Q : State → Prop} {cc : ByteArray} {pc : Nat} {ls : Array Slot} {rest : List Value}
theorem x_ldcwf (hexec : p.tables.exec = Jvm.exec) (hb : c.code = cc) {own : String} {index : Nat} {v : UInt32} (hown : s.vm.findClass own = some m.cls) (hconst : (Jvm.Cond.constantFloat own index v).before args s = true) (hdg : decode cc pc = .ok (.ldc_w index, 3)) (k : W p l e R s m args below meth c H locs cells slots Q (F0 m (pc + 3) ls (.float v :: rest))) : W p l e R s m args below meth c H locs cells slots Q (F0 m pc ls rest) := by
  intro T hT X
  obtain ⟨t, a, b⟩ := k T hT X
  refine ⟨t, ?_, b⟩
  obtain ⟨k0, cf, hk, hcf, hcp⟩ := Cond.constantFloat_spec hown hconst
  obtain ⟨k', hk', he⟩ := X.warmed.alike.2.2 _ _ hk
  have hdg' : decode c.code pc = .ok (.ldc_w index, 3) := by rw [hb]; exact hdg
  jvm_step X.here [hexec, hdg', ldc_w.wp_float (s := T) (f := F0 m pc ls rest) X.here.top hk' (by rw [he]; exact hcf) hcp]
  exact a
end LDCW
