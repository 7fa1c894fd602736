/-! LENDLATHE's WORLD GROWS (printed by gen/grow.py) -/
set_option maxRecDepth 100000
/-- a row of the store, all one number -/
def frow (f : Nat → Nat → Nat → Int32) (c i : Nat) (v : Int32) : Nat → Nat → Nat → Int32 := fun c1 => if c1 = c then (fun i1 j1 => if i1 = i then v else f c i1 j1) else f c1
abbrev sR (S : xS) (c i : Nat) (v : Int32) : xS := (S.1, frow S.2.1 c i v, S.2.2)
/-- new addresses for some roles -/
def xAd (ad : Nat × Nat → Nat) (new : Nat × Nat → Option Nat) : Nat × Nat → Nat := fun r => (new r).getD (ad r)
def xN1 (k n q : Nat) : Nat × Nat → Option Nat := fun r => if r.1 = k then (if r.2 = n then some q else none) else none
def xN2 (k n q : Nat) (f : Nat × Nat → Option Nat) : Nat × Nat → Option Nat := fun r => if r.1 = k then (if r.2 = n then some q else f r) else f r
theorem xRW.ext {G : xG} {A : Nat → Prop} {bd bd1 : List Nat} {ce ce1 : Nat → List xE} {ad : Nat × Nat → Nat} {H H1 : Heap} (h : xRW G A bd ce ad H) (new : Nat × Nat → Option Nat)
    (hfr : ∀ r a, new r = some a → ∀ (k i b : Nat) (e : xE), bd[k]? = some b → i < b → (ce i)[k]? = some e → ad (k, i) ≠ a) (hinj : ∀ r r1 a, new r = some a → new r1 = some a → r = r1)
    (hr : ∀ (k i b : Nat) (e : xE), bd1[k]? = some b → i < b → (ce1 i)[k]? = some e → (new (k, i) = none ∧ (∃ b0 e0, bd[k]? = some b0 ∧ i < b0 ∧ (ce i)[k]? = some e0) ∧ xat G (ad (k, i)) e H1) ∨ ∃ a, new (k, i) = some a ∧ A a ∧ xat G a e H1)
    (hex : ∀ (k i b : Nat), bd1[k]? = some b → i < b → ∃ e, (ce1 i)[k]? = some e) : xRW G A bd1 ce1 (xAd ad new) H1 := by
  refine ⟨fun k i b e hb hi he => ?_, fun k i b k1 i1 b1 hb hi hb1 hi1 heq => ?_⟩
  · rcases hr k i b e hb hi he with ⟨h1, ⟨b0, e0, h2, h3, h4⟩, h5⟩ | ⟨a, h1, h2, h3⟩
    · have ea : xAd ad new (k, i) = ad (k, i) := by unfold xAd; rw [h1]; rfl
      rw [ea]
      exact ⟨h5, (h.1 k i b0 e0 h2 h3 h4).2⟩
    · have ea : xAd ad new (k, i) = a := by unfold xAd; rw [h1]; rfl
      rw [ea]
      exact ⟨h3, h2⟩
  · obtain ⟨e, he⟩ := hex k i b hb hi
    obtain ⟨e1, he1⟩ := hex k1 i1 b1 hb1 hi1
    rcases hr k i b e hb hi he with ⟨h1, ⟨b0, e0, h2, h3, h4⟩, -⟩ | ⟨a, h1, -, -⟩ <;> rcases hr k1 i1 b1 e1 hb1 hi1 he1 with ⟨g1, ⟨c0, d0, g2, g3, g4⟩, -⟩ | ⟨a1, g1, -, -⟩
    · have ea : xAd ad new (k, i) = ad (k, i) := by unfold xAd; rw [h1]; rfl
      have eb : xAd ad new (k1, i1) = ad (k1, i1) := by unfold xAd; rw [g1]; rfl
      rw [ea, eb] at heq
      exact h.2 k i b0 k1 i1 c0 h2 h3 g2 g3 heq
    · have ea : xAd ad new (k, i) = ad (k, i) := by unfold xAd; rw [h1]; rfl
      have eb : xAd ad new (k1, i1) = a1 := by unfold xAd; rw [g1]; rfl
      rw [ea, eb] at heq
      exact absurd heq (hfr _ _ g1 k i b0 e0 h2 h3 h4)
    · have ea : xAd ad new (k, i) = a := by unfold xAd; rw [h1]; rfl
      have eb : xAd ad new (k1, i1) = ad (k1, i1) := by unfold xAd; rw [g1]; rfl
      rw [ea, eb] at heq
      exact absurd heq.symm (hfr _ _ h1 k1 i1 c0 d0 g2 g3 g4)
    · have ea : xAd ad new (k, i) = a := by unfold xAd; rw [h1]; rfl
      have eb : xAd ad new (k1, i1) = a1 := by unfold xAd; rw [g1]; rfl
      rw [ea, eb] at heq
      subst heq
      have := hinj _ _ _ h1 g1
      cases this
      exact ⟨rfl, rfl⟩
theorem xN1_some {k n q : Nat} {r : Nat × Nat} {a : Nat} (h : xN1 k n q r = some a) : r = (k, n) ∧ a = q := by
  unfold xN1 at h
  split at h
  · next h1 =>
    split at h
    · next h2 => exact ⟨Prod.ext h1 h2, (Option.some.inj h).symm⟩
    · cases h
  · cases h
theorem xN2_some {k n q : Nat} {f : Nat × Nat → Option Nat} {r : Nat × Nat} {a : Nat} (h : xN2 k n q f r = some a) : (r = (k, n) ∧ a = q) ∨ f r = some a := by
  unfold xN2 at h
  split at h
  · next h1 =>
    split at h
    · next h2 => exact Or.inl ⟨Prod.ext h1 h2, (Option.some.inj h).symm⟩
    · exact Or.inr h
  · exact Or.inr h
theorem xel_grow {n q c : Nat} {ad : Nat × Nat → Nat} {k : Nat} (w : Nat) (hw : k = n → w = q) (hw2 : k ≠ n → w = ad (c, k)) : updV (fun k => xel n (ad (c, k)) k) n (.ref q) k = xel (n + 1) w k := by
  unfold updV xel
  by_cases h : k = n
  · rw [if_pos h, if_pos (by omega), hw h]
  · rw [if_neg h, hw2 h]
    show (if k < n then Value.ref (ad (c, k)) else Value.null) = _
    by_cases h2 : k < n
    · rw [if_pos h2, if_pos (by omega)]
    · rw [if_neg h2, if_neg (by omega)]
/-- of no role -/
abbrev xFree (G : xG) (S : xS) (ad : Nat × Nat → Nat) (z : xZ) (q : Nat) : Prop := ∀ (k i b : Nat) (e : xE), (xbd S)[k]? = some b → i < b → (xce G S ad z i)[k]? = some e → ad (k, i) ≠ q
theorem xfr {G : xG} {S T : xS} {ad : Nat × Nat → Nat} {z z2 : xZ} {q : Nat} (h : xFree G S ad z q) (hb : xbd T = xbd S) : xFree G T ad z2 q := fun k i b e h1 h2 h3 => by
  rw [hb] at h1
  have hk : k < (xce G T ad z2 i).length := (List.getElem?_eq_some_iff.mp h3).1
  have hl : (xce G T ad z2 i).length = (xce G S ad z i).length := rfl
  exact h k i b _ h1 h2 (List.getElem?_eq_getElem (hl ▸ hk))
section GROW
variable {G : xG} {A : Nat → Prop} {S : xS} {ad : Nat × Nat → Nat} {z : xZ} {H H1 : Heap}
theorem xhex (T : xS) (ad1 : Nat × Nat → Nat) (k i b : Nat) (hb : (xbd T)[k]? = some b) : ∃ e, (xce G T ad1 z i)[k]? = some e := by
  have h1 : k < (xbd T).length := (List.getElem?_eq_some_iff.mp hb).1
  have h2 : k < (xce G T ad1 z i).length := h1
  exact ⟨_, List.getElem?_eq_getElem h2⟩
theorem xg_mach (hR : xRX G A S ad z H) {q : Nat} {kd su : Int32} (hf20 : xFree G S ad z q) (hA20 : A q) (h20 : xat G q (xO 5 [.int kd, .int su]) H1) (hL : xat G (ad (3, 0)) (xO 2 [.int (nI (S.1 0 0 + 1)), .ref (ad (15, 0)), .int (nI (S.1 0 0 + 1))]) H1) (hE : xat G (ad (15, 0)) (xA 5 6 (updV (fun k => xel (S.1 0 0) (ad (20, k)) k) (S.1 0 0) (.ref q))) H1) (ho : ∀ c : Nat, c < H.size → c ≠ ad (3, 0) → c ≠ ad (15, 0) → H1[c]? = H[c]?) : xRX G A (sN (sF (sF S 0 (S.1 0 0) 0 kd) 1 (S.1 0 0) 0 su) 0 0 (S.1 0 0 + 1)) (xAd ad (xN1 20 (S.1 0 0) q)) z H1 := by
  have keep : ∀ (k i b : Nat) (e : xE), (xbd S)[k]? = some b → i < b → (xce G S ad z i)[k]? = some e → k ≠ 3 → k ≠ 15 → H1[ad (k, i)]? = H[ad (k, i)]? := fun k i b e hb hi he h1 h2 => ho _ (hR.1 k i b e hb hi he).1.lt (fun q => h1 (hR.2 k i b 3 0 1 hb hi rfl (Nat.zero_lt_one) q).1) (fun q => h2 (hR.2 k i b 15 0 1 hb hi rfl (Nat.zero_lt_one) q).1)
  refine xRW.ext hR (xN1 20 (S.1 0 0) q) (fun r a hr => ?_) (fun r r1 a hr hr1 => ?_) (fun k i b e hb hi he => ?_) (fun k i b hb _ => xhex _ _ k i b hb)
  · obtain ⟨-, rfl⟩ := xN1_some hr; exact hf20
  · have key : ∀ r a, (xN1 20 (S.1 0 0) q) r = some a → (r = (20, (S.1 0 0)) ∧ a = q) := fun r a hr => by
      exact xN1_some hr
    rcases key r a hr with ⟨e0, f0⟩ <;> rcases key r1 a hr1 with ⟨g0, k0⟩
    · exact e0.trans g0.symm
  · match k, hb, he with
    | 0, hb, he => cases hb; cases he; obtain rfl : i = 0 := (by omega); exact Or.inl ⟨rfl, ⟨_, _, rfl, Nat.zero_lt_one, rfl⟩, (xw_0 hR).kept (keep 0 0 1 _ rfl (Nat.zero_lt_one) rfl (by decide) (by decide))⟩
    | 1, hb, he => cases hb; cases he; obtain rfl : i = 0 := (by omega); exact Or.inl ⟨rfl, ⟨_, _, rfl, Nat.zero_lt_one, rfl⟩, (xw_1 hR).kept (keep 1 0 1 _ rfl (Nat.zero_lt_one) rfl (by decide) (by decide))⟩
    | 2, hb, he => cases hb; cases he; obtain rfl : i = 0 := (by omega); exact Or.inl ⟨rfl, ⟨_, _, rfl, Nat.zero_lt_one, rfl⟩, (xw_2 hR).kept (keep 2 0 1 _ rfl (Nat.zero_lt_one) rfl (by decide) (by decide))⟩
    | 3, hb, he => cases hb; cases he; obtain rfl : i = 0 := (by omega); exact Or.inl ⟨rfl, ⟨_, _, rfl, Nat.zero_lt_one, rfl⟩, hL⟩
    | 4, hb, he => cases hb; cases he; obtain rfl : i = 0 := (by omega); exact Or.inl ⟨rfl, ⟨_, _, rfl, Nat.zero_lt_one, rfl⟩, (xw_4 hR).kept (keep 4 0 1 _ rfl (Nat.zero_lt_one) rfl (by decide) (by decide))⟩
    | 5, hb, he => cases hb; cases he; obtain rfl : i = 0 := (by omega); exact Or.inl ⟨rfl, ⟨_, _, rfl, Nat.zero_lt_one, rfl⟩, (xw_5 hR).kept (keep 5 0 1 _ rfl (Nat.zero_lt_one) rfl (by decide) (by decide))⟩
    | 6, hb, he => cases hb; cases he; obtain rfl : i = 0 := (by omega); exact Or.inl ⟨rfl, ⟨_, _, rfl, Nat.zero_lt_one, rfl⟩, (xw_6 hR).kept (keep 6 0 1 _ rfl (Nat.zero_lt_one) rfl (by decide) (by decide))⟩
    | 7, hb, he => cases hb; cases he; obtain rfl : i = 0 := (by omega); exact Or.inl ⟨rfl, ⟨_, _, rfl, Nat.zero_lt_one, rfl⟩, (xw_7 hR).kept (keep 7 0 1 _ rfl (Nat.zero_lt_one) rfl (by decide) (by decide))⟩
    | 8, hb, he =>
      cases hb; cases he
      have hi9 : i < 4 := hi
      exact Or.inl ⟨rfl, ⟨_, _, rfl, hi9, rfl⟩, (xw_8 hR hi9).kept (keep 8 i _ _ rfl hi9 rfl (by decide) (by decide))⟩
    | 9, hb, he => cases hb; cases he; obtain rfl : i = 0 := (by omega); exact Or.inl ⟨rfl, ⟨_, _, rfl, Nat.zero_lt_one, rfl⟩, (xw_9 hR).kept (keep 9 0 1 _ rfl (Nat.zero_lt_one) rfl (by decide) (by decide))⟩
    | 10, hb, he => cases hb; cases he; obtain rfl : i = 0 := (by omega); exact Or.inl ⟨rfl, ⟨_, _, rfl, Nat.zero_lt_one, rfl⟩, (xw_10 hR).kept (keep 10 0 1 _ rfl (Nat.zero_lt_one) rfl (by decide) (by decide))⟩
    | 11, hb, he => cases hb; cases he; obtain rfl : i = 0 := (by omega); exact Or.inl ⟨rfl, ⟨_, _, rfl, Nat.zero_lt_one, rfl⟩, (xw_11 hR).kept (keep 11 0 1 _ rfl (Nat.zero_lt_one) rfl (by decide) (by decide))⟩
    | 12, hb, he =>
      cases hb; cases he
      have hi9 : i < 3 := hi
      exact Or.inl ⟨rfl, ⟨_, _, rfl, hi9, rfl⟩, (xw_12 hR hi9).kept (keep 12 i _ _ rfl hi9 rfl (by decide) (by decide))⟩
    | 13, hb, he => cases hb; cases he; obtain rfl : i = 0 := (by omega); exact Or.inl ⟨rfl, ⟨_, _, rfl, Nat.zero_lt_one, rfl⟩, (xw_13 hR).kept (keep 13 0 1 _ rfl (Nat.zero_lt_one) rfl (by decide) (by decide))⟩
    | 14, hb, he =>
      cases hb; cases he
      have hi9 : i < 20 := hi
      exact Or.inl ⟨rfl, ⟨_, _, rfl, hi9, rfl⟩, (xw_14 hR hi9).kept (keep 14 i _ _ rfl hi9 rfl (by decide) (by decide))⟩
    | 15, hb, he =>
      cases hb; cases he; obtain rfl : i = 0 := (by omega)
      refine Or.inl ⟨rfl, ⟨_, _, rfl, Nat.zero_lt_one, rfl⟩, hE.arrTo fun k _ => ?_⟩
      exact xel_grow _ (fun q9 => by simp [xAd, xN1, xN2, q9]) (fun q9 => by simp [xAd, xN1, xN2, q9])
    | 16, hb, he => cases hb; cases he; obtain rfl : i = 0 := (by omega); exact Or.inl ⟨rfl, ⟨_, _, rfl, Nat.zero_lt_one, rfl⟩, (xw_16 hR).kept (keep 16 0 1 _ rfl (Nat.zero_lt_one) rfl (by decide) (by decide))⟩
    | 17, hb, he => cases hb; cases he; obtain rfl : i = 0 := (by omega); exact Or.inl ⟨rfl, ⟨_, _, rfl, Nat.zero_lt_one, rfl⟩, (xw_17 hR).kept (keep 17 0 1 _ rfl (Nat.zero_lt_one) rfl (by decide) (by decide))⟩
    | 18, hb, he => cases hb; cases he; obtain rfl : i = 0 := (by omega); exact Or.inl ⟨rfl, ⟨_, _, rfl, Nat.zero_lt_one, rfl⟩, (xw_18 hR).kept (keep 18 0 1 _ rfl (Nat.zero_lt_one) rfl (by decide) (by decide))⟩
    | 19, hb, he => cases hb; exact absurd hi (Nat.not_lt_zero _)
    | 20, hb, he =>
      cases hb; cases he
      by_cases hin : i = (S.1 0 0)
      · subst hin
        refine Or.inr ⟨q, by simp [xN1, xN2, xAd, sF, sN, sR, fset, frow, nset], hA20, ?_⟩
        have h9 := h20
        simpa [xAd, xN1, xN2, sF, sN, sR, fset, frow, nset, show nI 0 = 0 from rfl] using h9
      · have hi2 : i < (S.1 0 0) := by have hi9 : i < (S.1 0 0) + 1 := hi; omega
        refine Or.inl ⟨by simp [xN1, xN2, hin], ⟨_, _, rfl, hi2, rfl⟩, ?_⟩
        have h9 := (xw_20 hR hi2).kept (keep 20 i _ _ rfl hi2 rfl (by decide) (by decide))
        simpa [xAd, xN1, xN2, sF, sN, sR, fset, frow, nset, hin] using h9
    | 21, hb, he =>
      cases hb; cases he
      have hi9 : i < S.1 1 0 := hi
      exact Or.inl ⟨rfl, ⟨_, _, rfl, hi9, rfl⟩, (xw_21 hR hi9).kept (keep 21 i _ _ rfl hi9 rfl (by decide) (by decide))⟩
    | 22, hb, he =>
      cases hb; cases he
      have hi9 : i < S.1 1 0 := hi
      exact Or.inl ⟨rfl, ⟨_, _, rfl, hi9, rfl⟩, (xw_22 hR hi9).kept (keep 22 i _ _ rfl hi9 rfl (by decide) (by decide))⟩
    | 23, hb, he =>
      cases hb; cases he
      have hi9 : i < S.1 2 0 := hi
      exact Or.inl ⟨rfl, ⟨_, _, rfl, hi9, rfl⟩, (xw_23 hR hi9).kept (keep 23 i _ _ rfl hi9 rfl (by decide) (by decide))⟩
    | 24, hb, he =>
      cases hb; cases he
      have hi9 : i < S.1 2 0 := hi
      exact Or.inl ⟨rfl, ⟨_, _, rfl, hi9, rfl⟩, (xw_24 hR hi9).kept (keep 24 i _ _ rfl hi9 rfl (by decide) (by decide))⟩
    | 25, hb, he =>
      cases hb; cases he
      have hi9 : i < S.1 2 0 := hi
      exact Or.inl ⟨rfl, ⟨_, _, rfl, hi9, rfl⟩, (xw_25 hR hi9).kept (keep 25 i _ _ rfl hi9 rfl (by decide) (by decide))⟩
    | 26, hb, he =>
      cases hb; cases he
      have hi9 : i < S.1 3 0 := hi
      exact Or.inl ⟨rfl, ⟨_, _, rfl, hi9, rfl⟩, (xw_26 hR hi9).kept (keep 26 i _ _ rfl hi9 rfl (by decide) (by decide))⟩
    | 27, hb, he =>
      cases hb; cases he
      have hi9 : i < S.1 8 0 := hi
      exact Or.inl ⟨rfl, ⟨_, _, rfl, hi9, rfl⟩, (xw_27 hR hi9).kept (keep 27 i _ _ rfl hi9 rfl (by decide) (by decide))⟩
    | 28, hb, he => cases hb; cases he; obtain rfl : i = 0 := (by omega); exact Or.inl ⟨rfl, ⟨_, _, rfl, Nat.zero_lt_one, rfl⟩, (xw_28 hR).kept (keep 28 0 1 _ rfl (Nat.zero_lt_one) rfl (by decide) (by decide))⟩
    | 29, hb, he => cases hb; cases he; obtain rfl : i = 0 := (by omega); exact Or.inl ⟨rfl, ⟨_, _, rfl, Nat.zero_lt_one, rfl⟩, (xw_29 hR).kept (keep 29 0 1 _ rfl (Nat.zero_lt_one) rfl (by decide) (by decide))⟩
    | q + 30, hb, he => cases hb
theorem xg_memb (hR : xRX G A S ad z H) {q t : Nat}  (hf21 : xFree G S ad z q) (hA21 : A q) (h21 : xat G q (xO 6 [.ref t, .int 0, .int 0, .ref (ad (0, 0))]) H1) (hf22 : xFree G S ad z t) (hA22 : A t) (h22 : xat G t (xA 0 4 (fun _ => .int (-1))) H1) (hn21_22 : q ≠ t) (hL : xat G (ad (4, 0)) (xO 2 [.int (nI (S.1 1 0 + 1)), .ref (ad (16, 0)), .int (nI (S.1 1 0 + 1))]) H1) (hE : xat G (ad (16, 0)) (xA 5 10 (updV (fun k => xel (S.1 1 0) (ad (21, k)) k) (S.1 1 0) (.ref q))) H1) (ho : ∀ c : Nat, c < H.size → c ≠ ad (4, 0) → c ≠ ad (16, 0) → H1[c]? = H[c]?) : xRX G A (sN (sF (sF (sR S 2 (S.1 1 0) (-1)) 3 (S.1 1 0) 0 0) 4 (S.1 1 0) 0 0) 1 0 (S.1 1 0 + 1)) (xAd ad (xN2 21 (S.1 1 0) q (xN1 22 (S.1 1 0) t))) z H1 := by
  have keep : ∀ (k i b : Nat) (e : xE), (xbd S)[k]? = some b → i < b → (xce G S ad z i)[k]? = some e → k ≠ 4 → k ≠ 16 → H1[ad (k, i)]? = H[ad (k, i)]? := fun k i b e hb hi he h1 h2 => ho _ (hR.1 k i b e hb hi he).1.lt (fun q => h1 (hR.2 k i b 4 0 1 hb hi rfl (Nat.zero_lt_one) q).1) (fun q => h2 (hR.2 k i b 16 0 1 hb hi rfl (Nat.zero_lt_one) q).1)
  refine xRW.ext hR (xN2 21 (S.1 1 0) q (xN1 22 (S.1 1 0) t)) (fun r a hr => ?_) (fun r r1 a hr hr1 => ?_) (fun k i b e hb hi he => ?_) (fun k i b hb _ => xhex _ _ k i b hb)
  · rcases xN2_some hr with ⟨-, rfl⟩ | hr
    · exact hf21
    · obtain ⟨-, rfl⟩ := xN1_some hr; exact hf22
  · have key : ∀ r a, (xN2 21 (S.1 1 0) q (xN1 22 (S.1 1 0) t)) r = some a → (r = (21, (S.1 1 0)) ∧ a = q) ∨ (r = (22, (S.1 1 0)) ∧ a = t) := fun r a hr => by
      exact (xN2_some hr).imp id xN1_some
    rcases key r a hr with ⟨e0, f0⟩ | ⟨e1, f1⟩ <;> rcases key r1 a hr1 with ⟨g0, k0⟩ | ⟨g1, k1⟩
    · exact e0.trans g0.symm
    · exact absurd (f0.symm.trans k1) hn21_22
    · exact absurd (k0.symm.trans f1) hn21_22
    · exact e1.trans g1.symm
  · match k, hb, he with
    | 0, hb, he => cases hb; cases he; obtain rfl : i = 0 := (by omega); exact Or.inl ⟨rfl, ⟨_, _, rfl, Nat.zero_lt_one, rfl⟩, (xw_0 hR).kept (keep 0 0 1 _ rfl (Nat.zero_lt_one) rfl (by decide) (by decide))⟩
    | 1, hb, he => cases hb; cases he; obtain rfl : i = 0 := (by omega); exact Or.inl ⟨rfl, ⟨_, _, rfl, Nat.zero_lt_one, rfl⟩, (xw_1 hR).kept (keep 1 0 1 _ rfl (Nat.zero_lt_one) rfl (by decide) (by decide))⟩
    | 2, hb, he => cases hb; cases he; obtain rfl : i = 0 := (by omega); exact Or.inl ⟨rfl, ⟨_, _, rfl, Nat.zero_lt_one, rfl⟩, (xw_2 hR).kept (keep 2 0 1 _ rfl (Nat.zero_lt_one) rfl (by decide) (by decide))⟩
    | 3, hb, he => cases hb; cases he; obtain rfl : i = 0 := (by omega); exact Or.inl ⟨rfl, ⟨_, _, rfl, Nat.zero_lt_one, rfl⟩, (xw_3 hR).kept (keep 3 0 1 _ rfl (Nat.zero_lt_one) rfl (by decide) (by decide))⟩
    | 4, hb, he => cases hb; cases he; obtain rfl : i = 0 := (by omega); exact Or.inl ⟨rfl, ⟨_, _, rfl, Nat.zero_lt_one, rfl⟩, hL⟩
    | 5, hb, he => cases hb; cases he; obtain rfl : i = 0 := (by omega); exact Or.inl ⟨rfl, ⟨_, _, rfl, Nat.zero_lt_one, rfl⟩, (xw_5 hR).kept (keep 5 0 1 _ rfl (Nat.zero_lt_one) rfl (by decide) (by decide))⟩
    | 6, hb, he => cases hb; cases he; obtain rfl : i = 0 := (by omega); exact Or.inl ⟨rfl, ⟨_, _, rfl, Nat.zero_lt_one, rfl⟩, (xw_6 hR).kept (keep 6 0 1 _ rfl (Nat.zero_lt_one) rfl (by decide) (by decide))⟩
    | 7, hb, he => cases hb; cases he; obtain rfl : i = 0 := (by omega); exact Or.inl ⟨rfl, ⟨_, _, rfl, Nat.zero_lt_one, rfl⟩, (xw_7 hR).kept (keep 7 0 1 _ rfl (Nat.zero_lt_one) rfl (by decide) (by decide))⟩
    | 8, hb, he =>
      cases hb; cases he
      have hi9 : i < 4 := hi
      exact Or.inl ⟨rfl, ⟨_, _, rfl, hi9, rfl⟩, (xw_8 hR hi9).kept (keep 8 i _ _ rfl hi9 rfl (by decide) (by decide))⟩
    | 9, hb, he => cases hb; cases he; obtain rfl : i = 0 := (by omega); exact Or.inl ⟨rfl, ⟨_, _, rfl, Nat.zero_lt_one, rfl⟩, (xw_9 hR).kept (keep 9 0 1 _ rfl (Nat.zero_lt_one) rfl (by decide) (by decide))⟩
    | 10, hb, he => cases hb; cases he; obtain rfl : i = 0 := (by omega); exact Or.inl ⟨rfl, ⟨_, _, rfl, Nat.zero_lt_one, rfl⟩, (xw_10 hR).kept (keep 10 0 1 _ rfl (Nat.zero_lt_one) rfl (by decide) (by decide))⟩
    | 11, hb, he => cases hb; cases he; obtain rfl : i = 0 := (by omega); exact Or.inl ⟨rfl, ⟨_, _, rfl, Nat.zero_lt_one, rfl⟩, (xw_11 hR).kept (keep 11 0 1 _ rfl (Nat.zero_lt_one) rfl (by decide) (by decide))⟩
    | 12, hb, he =>
      cases hb; cases he
      have hi9 : i < 3 := hi
      exact Or.inl ⟨rfl, ⟨_, _, rfl, hi9, rfl⟩, (xw_12 hR hi9).kept (keep 12 i _ _ rfl hi9 rfl (by decide) (by decide))⟩
    | 13, hb, he => cases hb; cases he; obtain rfl : i = 0 := (by omega); exact Or.inl ⟨rfl, ⟨_, _, rfl, Nat.zero_lt_one, rfl⟩, (xw_13 hR).kept (keep 13 0 1 _ rfl (Nat.zero_lt_one) rfl (by decide) (by decide))⟩
    | 14, hb, he =>
      cases hb; cases he
      have hi9 : i < 20 := hi
      exact Or.inl ⟨rfl, ⟨_, _, rfl, hi9, rfl⟩, (xw_14 hR hi9).kept (keep 14 i _ _ rfl hi9 rfl (by decide) (by decide))⟩
    | 15, hb, he => cases hb; cases he; obtain rfl : i = 0 := (by omega); exact Or.inl ⟨rfl, ⟨_, _, rfl, Nat.zero_lt_one, rfl⟩, (xw_15 hR).kept (keep 15 0 1 _ rfl (Nat.zero_lt_one) rfl (by decide) (by decide))⟩
    | 16, hb, he =>
      cases hb; cases he; obtain rfl : i = 0 := (by omega)
      refine Or.inl ⟨rfl, ⟨_, _, rfl, Nat.zero_lt_one, rfl⟩, hE.arrTo fun k _ => ?_⟩
      exact xel_grow _ (fun q9 => by simp [xAd, xN1, xN2, q9]) (fun q9 => by simp [xAd, xN1, xN2, q9])
    | 17, hb, he => cases hb; cases he; obtain rfl : i = 0 := (by omega); exact Or.inl ⟨rfl, ⟨_, _, rfl, Nat.zero_lt_one, rfl⟩, (xw_17 hR).kept (keep 17 0 1 _ rfl (Nat.zero_lt_one) rfl (by decide) (by decide))⟩
    | 18, hb, he => cases hb; cases he; obtain rfl : i = 0 := (by omega); exact Or.inl ⟨rfl, ⟨_, _, rfl, Nat.zero_lt_one, rfl⟩, (xw_18 hR).kept (keep 18 0 1 _ rfl (Nat.zero_lt_one) rfl (by decide) (by decide))⟩
    | 19, hb, he => cases hb; exact absurd hi (Nat.not_lt_zero _)
    | 20, hb, he =>
      cases hb; cases he
      have hi9 : i < S.1 0 0 := hi
      exact Or.inl ⟨rfl, ⟨_, _, rfl, hi9, rfl⟩, (xw_20 hR hi9).kept (keep 20 i _ _ rfl hi9 rfl (by decide) (by decide))⟩
    | 21, hb, he =>
      cases hb; cases he
      by_cases hin : i = (S.1 1 0)
      · subst hin
        refine Or.inr ⟨q, by simp [xN1, xN2, xAd, sF, sN, sR, fset, frow, nset], hA21, ?_⟩
        have h9 := h21
        simpa [xAd, xN1, xN2, sF, sN, sR, fset, frow, nset, show nI 0 = 0 from rfl] using h9
      · have hi2 : i < (S.1 1 0) := by have hi9 : i < (S.1 1 0) + 1 := hi; omega
        refine Or.inl ⟨by simp [xN1, xN2, hin], ⟨_, _, rfl, hi2, rfl⟩, ?_⟩
        have h9 := (xw_21 hR hi2).kept (keep 21 i _ _ rfl hi2 rfl (by decide) (by decide))
        simpa [xAd, xN1, xN2, sF, sN, sR, fset, frow, nset, hin] using h9
    | 22, hb, he =>
      cases hb; cases he
      by_cases hin : i = (S.1 1 0)
      · subst hin
        refine Or.inr ⟨t, by simp [xN1, xN2, xAd, sF, sN, sR, fset, frow, nset], hA22, ?_⟩
        have h9 := h22
        simpa [xAd, xN1, xN2, sF, sN, sR, fset, frow, nset, show nI 0 = 0 from rfl] using h9
      · have hi2 : i < (S.1 1 0) := by have hi9 : i < (S.1 1 0) + 1 := hi; omega
        refine Or.inl ⟨by simp [xN1, xN2, hin], ⟨_, _, rfl, hi2, rfl⟩, ?_⟩
        have h9 := (xw_22 hR hi2).kept (keep 22 i _ _ rfl hi2 rfl (by decide) (by decide))
        simpa [xAd, xN1, xN2, sF, sN, sR, fset, frow, nset, hin] using h9
    | 23, hb, he =>
      cases hb; cases he
      have hi9 : i < S.1 2 0 := hi
      exact Or.inl ⟨rfl, ⟨_, _, rfl, hi9, rfl⟩, (xw_23 hR hi9).kept (keep 23 i _ _ rfl hi9 rfl (by decide) (by decide))⟩
    | 24, hb, he =>
      cases hb; cases he
      have hi9 : i < S.1 2 0 := hi
      exact Or.inl ⟨rfl, ⟨_, _, rfl, hi9, rfl⟩, (xw_24 hR hi9).kept (keep 24 i _ _ rfl hi9 rfl (by decide) (by decide))⟩
    | 25, hb, he =>
      cases hb; cases he
      have hi9 : i < S.1 2 0 := hi
      exact Or.inl ⟨rfl, ⟨_, _, rfl, hi9, rfl⟩, (xw_25 hR hi9).kept (keep 25 i _ _ rfl hi9 rfl (by decide) (by decide))⟩
    | 26, hb, he =>
      cases hb; cases he
      have hi9 : i < S.1 3 0 := hi
      exact Or.inl ⟨rfl, ⟨_, _, rfl, hi9, rfl⟩, (xw_26 hR hi9).kept (keep 26 i _ _ rfl hi9 rfl (by decide) (by decide))⟩
    | 27, hb, he =>
      cases hb; cases he
      have hi9 : i < S.1 8 0 := hi
      exact Or.inl ⟨rfl, ⟨_, _, rfl, hi9, rfl⟩, (xw_27 hR hi9).kept (keep 27 i _ _ rfl hi9 rfl (by decide) (by decide))⟩
    | 28, hb, he => cases hb; cases he; obtain rfl : i = 0 := (by omega); exact Or.inl ⟨rfl, ⟨_, _, rfl, Nat.zero_lt_one, rfl⟩, (xw_28 hR).kept (keep 28 0 1 _ rfl (Nat.zero_lt_one) rfl (by decide) (by decide))⟩
    | 29, hb, he => cases hb; cases he; obtain rfl : i = 0 := (by omega); exact Or.inl ⟨rfl, ⟨_, _, rfl, Nat.zero_lt_one, rfl⟩, (xw_29 hR).kept (keep 29 0 1 _ rfl (Nat.zero_lt_one) rfl (by decide) (by decide))⟩
    | q + 30, hb, he => cases hb
theorem xg_entr (hR : xRX G A S ad z H) {q t u : Nat} {member machine on start minutes work state : Int32} (hf23 : xFree G S ad z q) (hA23 : A q) (h23 : xat G q (xO 7 [.int member, .int machine, .int on, .int start, .int minutes, .int work, .int state, .int 0, .int 0, .ref t, .ref u, .ref (ad (0, 0))]) H1) (hf24 : xFree G S ad z t) (hA24 : A t) (h24 : xat G t (xA 0 5 (fun _ => .int 0)) H1) (hf25 : xFree G S ad z u) (hA25 : A u) (h25 : xat G u (xA 0 5 (fun _ => .int 0)) H1) (hn23_24 : q ≠ t) (hn23_25 : q ≠ u) (hn24_25 : t ≠ u) (hL : xat G (ad (5, 0)) (xO 2 [.int (nI (S.1 2 0 + 1)), .ref (ad (17, 0)), .int (nI (S.1 2 0 + 1))]) H1) (hE : xat G (ad (17, 0)) (xA 5 150 (updV (fun k => xel (S.1 2 0) (ad (23, k)) k) (S.1 2 0) (.ref q))) H1) (ho : ∀ c : Nat, c < H.size → c ≠ ad (5, 0) → c ≠ ad (17, 0) → H1[c]? = H[c]?) : xRX G A (sN (sN (sR (sR (sF (sF (sF (sF (sF (sF (sF (sF S 10 (S.1 2 0) 0 member) 11 (S.1 2 0) 0 machine) 12 (S.1 2 0) 0 on) 13 (S.1 2 0) 0 start) 14 (S.1 2 0) 0 minutes) 15 (S.1 2 0) 0 work) 16 (S.1 2 0) 0 state) 17 (S.1 2 0) 0 0) 18 (S.1 2 0) 0) 19 (S.1 2 0) 0) 6 (S.1 2 0) 0) 2 0 (S.1 2 0 + 1)) (xAd ad (xN2 23 (S.1 2 0) q (xN2 24 (S.1 2 0) t (xN1 25 (S.1 2 0) u)))) z H1 := by
  have keep : ∀ (k i b : Nat) (e : xE), (xbd S)[k]? = some b → i < b → (xce G S ad z i)[k]? = some e → k ≠ 5 → k ≠ 17 → H1[ad (k, i)]? = H[ad (k, i)]? := fun k i b e hb hi he h1 h2 => ho _ (hR.1 k i b e hb hi he).1.lt (fun q => h1 (hR.2 k i b 5 0 1 hb hi rfl (Nat.zero_lt_one) q).1) (fun q => h2 (hR.2 k i b 17 0 1 hb hi rfl (Nat.zero_lt_one) q).1)
  refine xRW.ext hR (xN2 23 (S.1 2 0) q (xN2 24 (S.1 2 0) t (xN1 25 (S.1 2 0) u))) (fun r a hr => ?_) (fun r r1 a hr hr1 => ?_) (fun k i b e hb hi he => ?_) (fun k i b hb _ => xhex _ _ k i b hb)
  · rcases xN2_some hr with ⟨-, rfl⟩ | hr
    · exact hf23
    · rcases xN2_some hr with ⟨-, rfl⟩ | hr
      · exact hf24
      · obtain ⟨-, rfl⟩ := xN1_some hr; exact hf25
  · have key : ∀ r a, (xN2 23 (S.1 2 0) q (xN2 24 (S.1 2 0) t (xN1 25 (S.1 2 0) u))) r = some a → (r = (23, (S.1 2 0)) ∧ a = q) ∨ (r = (24, (S.1 2 0)) ∧ a = t) ∨ (r = (25, (S.1 2 0)) ∧ a = u) := fun r a hr => by
      exact (xN2_some hr).imp id (fun q => (xN2_some q).imp id xN1_some)
    rcases key r a hr with ⟨e0, f0⟩ | ⟨e1, f1⟩ | ⟨e2, f2⟩ <;> rcases key r1 a hr1 with ⟨g0, k0⟩ | ⟨g1, k1⟩ | ⟨g2, k2⟩
    · exact e0.trans g0.symm
    · exact absurd (f0.symm.trans k1) hn23_24
    · exact absurd (f0.symm.trans k2) hn23_25
    · exact absurd (k0.symm.trans f1) hn23_24
    · exact e1.trans g1.symm
    · exact absurd (f1.symm.trans k2) hn24_25
    · exact absurd (k0.symm.trans f2) hn23_25
    · exact absurd (k1.symm.trans f2) hn24_25
    · exact e2.trans g2.symm
  · match k, hb, he with
    | 0, hb, he => cases hb; cases he; obtain rfl : i = 0 := (by omega); exact Or.inl ⟨rfl, ⟨_, _, rfl, Nat.zero_lt_one, rfl⟩, (xw_0 hR).kept (keep 0 0 1 _ rfl (Nat.zero_lt_one) rfl (by decide) (by decide))⟩
    | 1, hb, he => cases hb; cases he; obtain rfl : i = 0 := (by omega); exact Or.inl ⟨rfl, ⟨_, _, rfl, Nat.zero_lt_one, rfl⟩, (xw_1 hR).kept (keep 1 0 1 _ rfl (Nat.zero_lt_one) rfl (by decide) (by decide))⟩
    | 2, hb, he => cases hb; cases he; obtain rfl : i = 0 := (by omega); exact Or.inl ⟨rfl, ⟨_, _, rfl, Nat.zero_lt_one, rfl⟩, (xw_2 hR).kept (keep 2 0 1 _ rfl (Nat.zero_lt_one) rfl (by decide) (by decide))⟩
    | 3, hb, he => cases hb; cases he; obtain rfl : i = 0 := (by omega); exact Or.inl ⟨rfl, ⟨_, _, rfl, Nat.zero_lt_one, rfl⟩, (xw_3 hR).kept (keep 3 0 1 _ rfl (Nat.zero_lt_one) rfl (by decide) (by decide))⟩
    | 4, hb, he => cases hb; cases he; obtain rfl : i = 0 := (by omega); exact Or.inl ⟨rfl, ⟨_, _, rfl, Nat.zero_lt_one, rfl⟩, (xw_4 hR).kept (keep 4 0 1 _ rfl (Nat.zero_lt_one) rfl (by decide) (by decide))⟩
    | 5, hb, he => cases hb; cases he; obtain rfl : i = 0 := (by omega); exact Or.inl ⟨rfl, ⟨_, _, rfl, Nat.zero_lt_one, rfl⟩, hL⟩
    | 6, hb, he => cases hb; cases he; obtain rfl : i = 0 := (by omega); exact Or.inl ⟨rfl, ⟨_, _, rfl, Nat.zero_lt_one, rfl⟩, (xw_6 hR).kept (keep 6 0 1 _ rfl (Nat.zero_lt_one) rfl (by decide) (by decide))⟩
    | 7, hb, he => cases hb; cases he; obtain rfl : i = 0 := (by omega); exact Or.inl ⟨rfl, ⟨_, _, rfl, Nat.zero_lt_one, rfl⟩, (xw_7 hR).kept (keep 7 0 1 _ rfl (Nat.zero_lt_one) rfl (by decide) (by decide))⟩
    | 8, hb, he =>
      cases hb; cases he
      have hi9 : i < 4 := hi
      exact Or.inl ⟨rfl, ⟨_, _, rfl, hi9, rfl⟩, (xw_8 hR hi9).kept (keep 8 i _ _ rfl hi9 rfl (by decide) (by decide))⟩
    | 9, hb, he => cases hb; cases he; obtain rfl : i = 0 := (by omega); exact Or.inl ⟨rfl, ⟨_, _, rfl, Nat.zero_lt_one, rfl⟩, (xw_9 hR).kept (keep 9 0 1 _ rfl (Nat.zero_lt_one) rfl (by decide) (by decide))⟩
    | 10, hb, he => cases hb; cases he; obtain rfl : i = 0 := (by omega); exact Or.inl ⟨rfl, ⟨_, _, rfl, Nat.zero_lt_one, rfl⟩, (xw_10 hR).kept (keep 10 0 1 _ rfl (Nat.zero_lt_one) rfl (by decide) (by decide))⟩
    | 11, hb, he => cases hb; cases he; obtain rfl : i = 0 := (by omega); exact Or.inl ⟨rfl, ⟨_, _, rfl, Nat.zero_lt_one, rfl⟩, (xw_11 hR).kept (keep 11 0 1 _ rfl (Nat.zero_lt_one) rfl (by decide) (by decide))⟩
    | 12, hb, he =>
      cases hb; cases he
      have hi9 : i < 3 := hi
      exact Or.inl ⟨rfl, ⟨_, _, rfl, hi9, rfl⟩, (xw_12 hR hi9).kept (keep 12 i _ _ rfl hi9 rfl (by decide) (by decide))⟩
    | 13, hb, he => cases hb; cases he; obtain rfl : i = 0 := (by omega); exact Or.inl ⟨rfl, ⟨_, _, rfl, Nat.zero_lt_one, rfl⟩, (xw_13 hR).kept (keep 13 0 1 _ rfl (Nat.zero_lt_one) rfl (by decide) (by decide))⟩
    | 14, hb, he =>
      cases hb; cases he
      have hi9 : i < 20 := hi
      exact Or.inl ⟨rfl, ⟨_, _, rfl, hi9, rfl⟩, (xw_14 hR hi9).kept (keep 14 i _ _ rfl hi9 rfl (by decide) (by decide))⟩
    | 15, hb, he => cases hb; cases he; obtain rfl : i = 0 := (by omega); exact Or.inl ⟨rfl, ⟨_, _, rfl, Nat.zero_lt_one, rfl⟩, (xw_15 hR).kept (keep 15 0 1 _ rfl (Nat.zero_lt_one) rfl (by decide) (by decide))⟩
    | 16, hb, he => cases hb; cases he; obtain rfl : i = 0 := (by omega); exact Or.inl ⟨rfl, ⟨_, _, rfl, Nat.zero_lt_one, rfl⟩, (xw_16 hR).kept (keep 16 0 1 _ rfl (Nat.zero_lt_one) rfl (by decide) (by decide))⟩
    | 17, hb, he =>
      cases hb; cases he; obtain rfl : i = 0 := (by omega)
      refine Or.inl ⟨rfl, ⟨_, _, rfl, Nat.zero_lt_one, rfl⟩, hE.arrTo fun k _ => ?_⟩
      exact xel_grow _ (fun q9 => by simp [xAd, xN1, xN2, q9]) (fun q9 => by simp [xAd, xN1, xN2, q9])
    | 18, hb, he => cases hb; cases he; obtain rfl : i = 0 := (by omega); exact Or.inl ⟨rfl, ⟨_, _, rfl, Nat.zero_lt_one, rfl⟩, (xw_18 hR).kept (keep 18 0 1 _ rfl (Nat.zero_lt_one) rfl (by decide) (by decide))⟩
    | 19, hb, he => cases hb; exact absurd hi (Nat.not_lt_zero _)
    | 20, hb, he =>
      cases hb; cases he
      have hi9 : i < S.1 0 0 := hi
      exact Or.inl ⟨rfl, ⟨_, _, rfl, hi9, rfl⟩, (xw_20 hR hi9).kept (keep 20 i _ _ rfl hi9 rfl (by decide) (by decide))⟩
    | 21, hb, he =>
      cases hb; cases he
      have hi9 : i < S.1 1 0 := hi
      exact Or.inl ⟨rfl, ⟨_, _, rfl, hi9, rfl⟩, (xw_21 hR hi9).kept (keep 21 i _ _ rfl hi9 rfl (by decide) (by decide))⟩
    | 22, hb, he =>
      cases hb; cases he
      have hi9 : i < S.1 1 0 := hi
      exact Or.inl ⟨rfl, ⟨_, _, rfl, hi9, rfl⟩, (xw_22 hR hi9).kept (keep 22 i _ _ rfl hi9 rfl (by decide) (by decide))⟩
    | 23, hb, he =>
      cases hb; cases he
      by_cases hin : i = (S.1 2 0)
      · subst hin
        refine Or.inr ⟨q, by simp [xN1, xN2, xAd, sF, sN, sR, fset, frow, nset], hA23, ?_⟩
        have h9 := h23
        simpa [xAd, xN1, xN2, sF, sN, sR, fset, frow, nset, show nI 0 = 0 from rfl] using h9
      · have hi2 : i < (S.1 2 0) := by have hi9 : i < (S.1 2 0) + 1 := hi; omega
        refine Or.inl ⟨by simp [xN1, xN2, hin], ⟨_, _, rfl, hi2, rfl⟩, ?_⟩
        have h9 := (xw_23 hR hi2).kept (keep 23 i _ _ rfl hi2 rfl (by decide) (by decide))
        simpa [xAd, xN1, xN2, sF, sN, sR, fset, frow, nset, hin] using h9
    | 24, hb, he =>
      cases hb; cases he
      by_cases hin : i = (S.1 2 0)
      · subst hin
        refine Or.inr ⟨t, by simp [xN1, xN2, xAd, sF, sN, sR, fset, frow, nset], hA24, ?_⟩
        have h9 := h24
        simpa [xAd, xN1, xN2, sF, sN, sR, fset, frow, nset, show nI 0 = 0 from rfl] using h9
      · have hi2 : i < (S.1 2 0) := by have hi9 : i < (S.1 2 0) + 1 := hi; omega
        refine Or.inl ⟨by simp [xN1, xN2, hin], ⟨_, _, rfl, hi2, rfl⟩, ?_⟩
        have h9 := (xw_24 hR hi2).kept (keep 24 i _ _ rfl hi2 rfl (by decide) (by decide))
        simpa [xAd, xN1, xN2, sF, sN, sR, fset, frow, nset, hin] using h9
    | 25, hb, he =>
      cases hb; cases he
      by_cases hin : i = (S.1 2 0)
      · subst hin
        refine Or.inr ⟨u, by simp [xN1, xN2, xAd, sF, sN, sR, fset, frow, nset], hA25, ?_⟩
        have h9 := h25
        simpa [xAd, xN1, xN2, sF, sN, sR, fset, frow, nset, show nI 0 = 0 from rfl] using h9
      · have hi2 : i < (S.1 2 0) := by have hi9 : i < (S.1 2 0) + 1 := hi; omega
        refine Or.inl ⟨by simp [xN1, xN2, hin], ⟨_, _, rfl, hi2, rfl⟩, ?_⟩
        have h9 := (xw_25 hR hi2).kept (keep 25 i _ _ rfl hi2 rfl (by decide) (by decide))
        simpa [xAd, xN1, xN2, sF, sN, sR, fset, frow, nset, hin] using h9
    | 26, hb, he =>
      cases hb; cases he
      have hi9 : i < S.1 3 0 := hi
      exact Or.inl ⟨rfl, ⟨_, _, rfl, hi9, rfl⟩, (xw_26 hR hi9).kept (keep 26 i _ _ rfl hi9 rfl (by decide) (by decide))⟩
    | 27, hb, he =>
      cases hb; cases he
      have hi9 : i < S.1 8 0 := hi
      exact Or.inl ⟨rfl, ⟨_, _, rfl, hi9, rfl⟩, (xw_27 hR hi9).kept (keep 27 i _ _ rfl hi9 rfl (by decide) (by decide))⟩
    | 28, hb, he => cases hb; cases he; obtain rfl : i = 0 := (by omega); exact Or.inl ⟨rfl, ⟨_, _, rfl, Nat.zero_lt_one, rfl⟩, (xw_28 hR).kept (keep 28 0 1 _ rfl (Nat.zero_lt_one) rfl (by decide) (by decide))⟩
    | 29, hb, he => cases hb; cases he; obtain rfl : i = 0 := (by omega); exact Or.inl ⟨rfl, ⟨_, _, rfl, Nat.zero_lt_one, rfl⟩, (xw_29 hR).kept (keep 29 0 1 _ rfl (Nat.zero_lt_one) rfl (by decide) (by decide))⟩
    | q + 30, hb, he => cases hb
theorem xg_bar (hR : xRX G A S ad z H) {q : Nat} {material length : Int32} (hf26 : xFree G S ad z q) (hA26 : A q) (h26 : xat G q (xO 8 [.int material, .int length, .int length]) H1) (hL : xat G (ad (6, 0)) (xO 2 [.int (nI (S.1 3 0 + 1)), .ref (ad (18, 0)), .int (nI (S.1 3 0 + 1))]) H1) (hE : xat G (ad (18, 0)) (xA 5 30 (updV (fun k => xel (S.1 3 0) (ad (26, k)) k) (S.1 3 0) (.ref q))) H1) (ho : ∀ c : Nat, c < H.size → c ≠ ad (6, 0) → c ≠ ad (18, 0) → H1[c]? = H[c]?) : xRX G A (sN (sF (sF (sF S 20 (S.1 3 0) 0 material) 21 (S.1 3 0) 0 length) 22 (S.1 3 0) 0 length) 3 0 (S.1 3 0 + 1)) (xAd ad (xN1 26 (S.1 3 0) q)) z H1 := by
  have keep : ∀ (k i b : Nat) (e : xE), (xbd S)[k]? = some b → i < b → (xce G S ad z i)[k]? = some e → k ≠ 6 → k ≠ 18 → H1[ad (k, i)]? = H[ad (k, i)]? := fun k i b e hb hi he h1 h2 => ho _ (hR.1 k i b e hb hi he).1.lt (fun q => h1 (hR.2 k i b 6 0 1 hb hi rfl (Nat.zero_lt_one) q).1) (fun q => h2 (hR.2 k i b 18 0 1 hb hi rfl (Nat.zero_lt_one) q).1)
  refine xRW.ext hR (xN1 26 (S.1 3 0) q) (fun r a hr => ?_) (fun r r1 a hr hr1 => ?_) (fun k i b e hb hi he => ?_) (fun k i b hb _ => xhex _ _ k i b hb)
  · obtain ⟨-, rfl⟩ := xN1_some hr; exact hf26
  · have key : ∀ r a, (xN1 26 (S.1 3 0) q) r = some a → (r = (26, (S.1 3 0)) ∧ a = q) := fun r a hr => by
      exact xN1_some hr
    rcases key r a hr with ⟨e0, f0⟩ <;> rcases key r1 a hr1 with ⟨g0, k0⟩
    · exact e0.trans g0.symm
  · match k, hb, he with
    | 0, hb, he => cases hb; cases he; obtain rfl : i = 0 := (by omega); exact Or.inl ⟨rfl, ⟨_, _, rfl, Nat.zero_lt_one, rfl⟩, (xw_0 hR).kept (keep 0 0 1 _ rfl (Nat.zero_lt_one) rfl (by decide) (by decide))⟩
    | 1, hb, he => cases hb; cases he; obtain rfl : i = 0 := (by omega); exact Or.inl ⟨rfl, ⟨_, _, rfl, Nat.zero_lt_one, rfl⟩, (xw_1 hR).kept (keep 1 0 1 _ rfl (Nat.zero_lt_one) rfl (by decide) (by decide))⟩
    | 2, hb, he => cases hb; cases he; obtain rfl : i = 0 := (by omega); exact Or.inl ⟨rfl, ⟨_, _, rfl, Nat.zero_lt_one, rfl⟩, (xw_2 hR).kept (keep 2 0 1 _ rfl (Nat.zero_lt_one) rfl (by decide) (by decide))⟩
    | 3, hb, he => cases hb; cases he; obtain rfl : i = 0 := (by omega); exact Or.inl ⟨rfl, ⟨_, _, rfl, Nat.zero_lt_one, rfl⟩, (xw_3 hR).kept (keep 3 0 1 _ rfl (Nat.zero_lt_one) rfl (by decide) (by decide))⟩
    | 4, hb, he => cases hb; cases he; obtain rfl : i = 0 := (by omega); exact Or.inl ⟨rfl, ⟨_, _, rfl, Nat.zero_lt_one, rfl⟩, (xw_4 hR).kept (keep 4 0 1 _ rfl (Nat.zero_lt_one) rfl (by decide) (by decide))⟩
    | 5, hb, he => cases hb; cases he; obtain rfl : i = 0 := (by omega); exact Or.inl ⟨rfl, ⟨_, _, rfl, Nat.zero_lt_one, rfl⟩, (xw_5 hR).kept (keep 5 0 1 _ rfl (Nat.zero_lt_one) rfl (by decide) (by decide))⟩
    | 6, hb, he => cases hb; cases he; obtain rfl : i = 0 := (by omega); exact Or.inl ⟨rfl, ⟨_, _, rfl, Nat.zero_lt_one, rfl⟩, hL⟩
    | 7, hb, he => cases hb; cases he; obtain rfl : i = 0 := (by omega); exact Or.inl ⟨rfl, ⟨_, _, rfl, Nat.zero_lt_one, rfl⟩, (xw_7 hR).kept (keep 7 0 1 _ rfl (Nat.zero_lt_one) rfl (by decide) (by decide))⟩
    | 8, hb, he =>
      cases hb; cases he
      have hi9 : i < 4 := hi
      exact Or.inl ⟨rfl, ⟨_, _, rfl, hi9, rfl⟩, (xw_8 hR hi9).kept (keep 8 i _ _ rfl hi9 rfl (by decide) (by decide))⟩
    | 9, hb, he => cases hb; cases he; obtain rfl : i = 0 := (by omega); exact Or.inl ⟨rfl, ⟨_, _, rfl, Nat.zero_lt_one, rfl⟩, (xw_9 hR).kept (keep 9 0 1 _ rfl (Nat.zero_lt_one) rfl (by decide) (by decide))⟩
    | 10, hb, he => cases hb; cases he; obtain rfl : i = 0 := (by omega); exact Or.inl ⟨rfl, ⟨_, _, rfl, Nat.zero_lt_one, rfl⟩, (xw_10 hR).kept (keep 10 0 1 _ rfl (Nat.zero_lt_one) rfl (by decide) (by decide))⟩
    | 11, hb, he => cases hb; cases he; obtain rfl : i = 0 := (by omega); exact Or.inl ⟨rfl, ⟨_, _, rfl, Nat.zero_lt_one, rfl⟩, (xw_11 hR).kept (keep 11 0 1 _ rfl (Nat.zero_lt_one) rfl (by decide) (by decide))⟩
    | 12, hb, he =>
      cases hb; cases he
      have hi9 : i < 3 := hi
      exact Or.inl ⟨rfl, ⟨_, _, rfl, hi9, rfl⟩, (xw_12 hR hi9).kept (keep 12 i _ _ rfl hi9 rfl (by decide) (by decide))⟩
    | 13, hb, he => cases hb; cases he; obtain rfl : i = 0 := (by omega); exact Or.inl ⟨rfl, ⟨_, _, rfl, Nat.zero_lt_one, rfl⟩, (xw_13 hR).kept (keep 13 0 1 _ rfl (Nat.zero_lt_one) rfl (by decide) (by decide))⟩
    | 14, hb, he =>
      cases hb; cases he
      have hi9 : i < 20 := hi
      exact Or.inl ⟨rfl, ⟨_, _, rfl, hi9, rfl⟩, (xw_14 hR hi9).kept (keep 14 i _ _ rfl hi9 rfl (by decide) (by decide))⟩
    | 15, hb, he => cases hb; cases he; obtain rfl : i = 0 := (by omega); exact Or.inl ⟨rfl, ⟨_, _, rfl, Nat.zero_lt_one, rfl⟩, (xw_15 hR).kept (keep 15 0 1 _ rfl (Nat.zero_lt_one) rfl (by decide) (by decide))⟩
    | 16, hb, he => cases hb; cases he; obtain rfl : i = 0 := (by omega); exact Or.inl ⟨rfl, ⟨_, _, rfl, Nat.zero_lt_one, rfl⟩, (xw_16 hR).kept (keep 16 0 1 _ rfl (Nat.zero_lt_one) rfl (by decide) (by decide))⟩
    | 17, hb, he => cases hb; cases he; obtain rfl : i = 0 := (by omega); exact Or.inl ⟨rfl, ⟨_, _, rfl, Nat.zero_lt_one, rfl⟩, (xw_17 hR).kept (keep 17 0 1 _ rfl (Nat.zero_lt_one) rfl (by decide) (by decide))⟩
    | 18, hb, he =>
      cases hb; cases he; obtain rfl : i = 0 := (by omega)
      refine Or.inl ⟨rfl, ⟨_, _, rfl, Nat.zero_lt_one, rfl⟩, hE.arrTo fun k _ => ?_⟩
      exact xel_grow _ (fun q9 => by simp [xAd, xN1, xN2, q9]) (fun q9 => by simp [xAd, xN1, xN2, q9])
    | 19, hb, he => cases hb; exact absurd hi (Nat.not_lt_zero _)
    | 20, hb, he =>
      cases hb; cases he
      have hi9 : i < S.1 0 0 := hi
      exact Or.inl ⟨rfl, ⟨_, _, rfl, hi9, rfl⟩, (xw_20 hR hi9).kept (keep 20 i _ _ rfl hi9 rfl (by decide) (by decide))⟩
    | 21, hb, he =>
      cases hb; cases he
      have hi9 : i < S.1 1 0 := hi
      exact Or.inl ⟨rfl, ⟨_, _, rfl, hi9, rfl⟩, (xw_21 hR hi9).kept (keep 21 i _ _ rfl hi9 rfl (by decide) (by decide))⟩
    | 22, hb, he =>
      cases hb; cases he
      have hi9 : i < S.1 1 0 := hi
      exact Or.inl ⟨rfl, ⟨_, _, rfl, hi9, rfl⟩, (xw_22 hR hi9).kept (keep 22 i _ _ rfl hi9 rfl (by decide) (by decide))⟩
    | 23, hb, he =>
      cases hb; cases he
      have hi9 : i < S.1 2 0 := hi
      exact Or.inl ⟨rfl, ⟨_, _, rfl, hi9, rfl⟩, (xw_23 hR hi9).kept (keep 23 i _ _ rfl hi9 rfl (by decide) (by decide))⟩
    | 24, hb, he =>
      cases hb; cases he
      have hi9 : i < S.1 2 0 := hi
      exact Or.inl ⟨rfl, ⟨_, _, rfl, hi9, rfl⟩, (xw_24 hR hi9).kept (keep 24 i _ _ rfl hi9 rfl (by decide) (by decide))⟩
    | 25, hb, he =>
      cases hb; cases he
      have hi9 : i < S.1 2 0 := hi
      exact Or.inl ⟨rfl, ⟨_, _, rfl, hi9, rfl⟩, (xw_25 hR hi9).kept (keep 25 i _ _ rfl hi9 rfl (by decide) (by decide))⟩
    | 26, hb, he =>
      cases hb; cases he
      by_cases hin : i = (S.1 3 0)
      · subst hin
        refine Or.inr ⟨q, by simp [xN1, xN2, xAd, sF, sN, sR, fset, frow, nset], hA26, ?_⟩
        have h9 := h26
        simpa [xAd, xN1, xN2, sF, sN, sR, fset, frow, nset, show nI 0 = 0 from rfl] using h9
      · have hi2 : i < (S.1 3 0) := by have hi9 : i < (S.1 3 0) + 1 := hi; omega
        refine Or.inl ⟨by simp [xN1, xN2, hin], ⟨_, _, rfl, hi2, rfl⟩, ?_⟩
        have h9 := (xw_26 hR hi2).kept (keep 26 i _ _ rfl hi2 rfl (by decide) (by decide))
        simpa [xAd, xN1, xN2, sF, sN, sR, fset, frow, nset, hin] using h9
    | 27, hb, he =>
      cases hb; cases he
      have hi9 : i < S.1 8 0 := hi
      exact Or.inl ⟨rfl, ⟨_, _, rfl, hi9, rfl⟩, (xw_27 hR hi9).kept (keep 27 i _ _ rfl hi9 rfl (by decide) (by decide))⟩
    | 28, hb, he => cases hb; cases he; obtain rfl : i = 0 := (by omega); exact Or.inl ⟨rfl, ⟨_, _, rfl, Nat.zero_lt_one, rfl⟩, (xw_28 hR).kept (keep 28 0 1 _ rfl (Nat.zero_lt_one) rfl (by decide) (by decide))⟩
    | 29, hb, he => cases hb; cases he; obtain rfl : i = 0 := (by omega); exact Or.inl ⟨rfl, ⟨_, _, rfl, Nat.zero_lt_one, rfl⟩, (xw_29 hR).kept (keep 29 0 1 _ rfl (Nat.zero_lt_one) rfl (by decide) (by decide))⟩
    | q + 30, hb, he => cases hb
end GROW
