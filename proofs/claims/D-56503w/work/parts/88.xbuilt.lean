/-! LENDLATHE's WORLD AT ITS START -/
set_option maxRecDepth 100000
def xinv : List (Nat × Nat) := [(1, 0), (2, 0), (29, 0), (3, 0), (15, 0), (4, 0), (16, 0), (5, 0), (17, 0), (6, 0), (18, 0), (7, 0), (8, 0), (8, 1), (8, 2), (8, 3), (9, 0), (10, 0), (28, 0), (11, 0), (12, 0), (12, 1), (12, 2), (13, 0)] ++ (List.range 20).map (fun i => (14, i))
theorem xinv_ok : ∀ k, k < 30 → ∀ i, i < (xbd xInit).getD k 0 → k ≠ 0 → xinv.getD (xps k + i) (0, 0) = (k, i) := by decide +kernel
theorem xBuilt {G : xG} {A : Nat → Prop} {a h0 : Nat} {H : Heap} {f0 f1 fc : Nat → Value} (hO : xat G a (xO 0 [.ref (h0 + 0), .ref (h0 + 1), .ref (h0 + 3), .ref (h0 + 5), .ref (h0 + 7), .ref (h0 + 9), .ref (h0 + 11), .ref (h0 + 16), .int 0, .ref (h0 + 17), .ref (h0 + 19), .ref (h0 + 23), .int 0]) H) (hA9 : A a) (hlt : a < h0)
    (hB : xBd G h0 ([xA 6 4 f0, xA 0 4 f1, xO 1 [.ref a], xO 2 [.int 0, .ref (h0 + 4), .int 0], xA 5 6 (fun _ => .null), xO 2 [.int 0, .ref (h0 + 6), .int 0], xA 5 10 (fun _ => .null), xO 2 [.int 0, .ref (h0 + 8), .int 0], xA 5 150 (fun _ => .null), xO 2 [.int 0, .ref (h0 + 10), .int 0], xA 5 30 (fun _ => .null),
      xA 11 4 (fun j => .ref (h0 + 11 + 1 + j)), xA 3 4 (fun _ => .int 0), xA 3 4 (fun _ => .int 0), xA 3 4 (fun _ => .int 0), xA 3 4 (fun _ => .int 0), xA 0 3 (fun _ => .int 0), xO 3 [.ref (h0 + 18), .int 0, .int 0, .ref a], xA 8 150 (fun _ => .null), xA 7 3 fc,
      xR ({ cls := G.2.2.2 0, slots := [Value.ref a].toArray, vm := .none } : Cell), xR ({ cls := G.2.2.2 1, slots := [Value.ref a].toArray, vm := .none } : Cell), xR ({ cls := G.2.2.2 2, slots := [Value.ref a].toArray, vm := .none } : Cell), xA 10 20 (fun j => .ref (h0 + 23 + 1 + j))] ++ List.replicate 20 (xA 0 10 (fun _ => .int 0))) H)
    (hAh : ∀ q, h0 ≤ q → A q) (hf0 : ∀ k, k < 4 → f0 k = .ref (h0 + 2)) (hf1 : ∀ k, k < 4 → f1 k = .int 1) (hfc : ∀ k, k < 3 → fc k = .ref (h0 + 20 + k)) : ∃ ad : Nat × Nat → Nat, ad (0, 0) = a ∧ xRX G A xInit ad xZ0 H := by
  have at0 : ∀ (k : Nat) (e : xE), _ → xat G (h0 + k) e H := hB.2
  have hAA : ∀ k i, A (h0 + k + i) := fun k i => hAh _ (by omega)
  refine ⟨xad0 a h0, rfl, fun k i b e hb hi he => ?_, fun k i b k1 i1 b1 hb hi hb1 hi1 heq => ?_⟩
  · match k, hb, he with
    | 0, hb, he => cases hb; cases he; obtain rfl : i = 0 := (by omega); exact ⟨hO, hA9⟩
    | 1, hb, he => cases hb; cases he; obtain rfl : i = 0 := (by omega); exact ⟨(at0 0 _ rfl).arrTo hf0, hAA 0 0⟩
    | 2, hb, he => cases hb; cases he; obtain rfl : i = 0 := (by omega); exact ⟨(at0 1 _ rfl).arrTo hf1, hAA 1 0⟩
    | 3, hb, he => cases hb; cases he; obtain rfl : i = 0 := (by omega); exact ⟨at0 3 _ rfl, hAA 3 0⟩
    | 4, hb, he => cases hb; cases he; obtain rfl : i = 0 := (by omega); exact ⟨at0 5 _ rfl, hAA 5 0⟩
    | 5, hb, he => cases hb; cases he; obtain rfl : i = 0 := (by omega); exact ⟨at0 7 _ rfl, hAA 7 0⟩
    | 6, hb, he => cases hb; cases he; obtain rfl : i = 0 := (by omega); exact ⟨at0 9 _ rfl, hAA 9 0⟩
    | 7, hb, he => cases hb; cases he; obtain rfl : i = 0 := (by omega); exact ⟨(at0 11 _ rfl).arrTo (fun j _ => rfl), hAA 11 0⟩
    | 8, hb, he =>
      cases hb; cases he
      have hi9 : i < 4 := hi
      refine ⟨?_, hAA 12 i⟩
      rcases (show i = 0 ∨ i = 1 ∨ i = 2 ∨ i = 3 by omega) with q | q | q | q <;> subst q
      · exact at0 12 _ rfl
      · exact at0 13 _ rfl
      · exact at0 14 _ rfl
      · exact at0 15 _ rfl
    | 9, hb, he => cases hb; cases he; obtain rfl : i = 0 := (by omega); exact ⟨at0 16 _ rfl, hAA 16 0⟩
    | 10, hb, he => cases hb; cases he; obtain rfl : i = 0 := (by omega); exact ⟨at0 17 _ rfl, hAA 17 0⟩
    | 11, hb, he => cases hb; cases he; obtain rfl : i = 0 := (by omega); exact ⟨(at0 19 _ rfl).arrTo hfc, hAA 19 0⟩
    | 12, hb, he =>
      cases hb; cases he
      have hi9 : i < 3 := hi
      refine ⟨?_, hAA 20 i⟩
      rcases (show i = 0 ∨ i = 1 ∨ i = 2 by omega) with q | q | q <;> subst q
      · exact at0 20 _ rfl
      · exact at0 21 _ rfl
      · exact at0 22 _ rfl
    | 13, hb, he => cases hb; cases he; obtain rfl : i = 0 := (by omega); exact ⟨(at0 23 _ rfl).arrTo (fun j _ => rfl), hAA 23 0⟩
    | 14, hb, he =>
      cases hb; cases he
      have hi9 : i < 20 := hi
      have h5 := at0 (24 + i) (xA 0 10 (fun _ => .int 0)) (by rw [List.getElem?_append_right (by show 24 ≤ 24 + i; omega)]; show (List.replicate 20 (xA 0 10 (fun _ => Value.int 0)))[24 + i - 24]? = _; rw [Nat.add_sub_cancel_left, List.getElem?_replicate, if_pos hi9])
      rw [← Nat.add_assoc] at h5
      exact ⟨h5, hAA 24 i⟩
    | 15, hb, he => cases hb; cases he; obtain rfl : i = 0 := (by omega); exact ⟨(at0 4 _ rfl).arrTo (fun j _ => (if_neg (Nat.not_lt_zero j)).symm), hAA 4 0⟩
    | 16, hb, he => cases hb; cases he; obtain rfl : i = 0 := (by omega); exact ⟨(at0 6 _ rfl).arrTo (fun j _ => (if_neg (Nat.not_lt_zero j)).symm), hAA 6 0⟩
    | 17, hb, he => cases hb; cases he; obtain rfl : i = 0 := (by omega); exact ⟨(at0 8 _ rfl).arrTo (fun j _ => (if_neg (Nat.not_lt_zero j)).symm), hAA 8 0⟩
    | 18, hb, he => cases hb; cases he; obtain rfl : i = 0 := (by omega); exact ⟨(at0 10 _ rfl).arrTo (fun j _ => (if_neg (Nat.not_lt_zero j)).symm), hAA 10 0⟩
    | 19, hb, he => cases hb; exact absurd hi (Nat.not_lt_zero _)
    | 20, hb, he => cases hb; exact absurd hi (Nat.not_lt_zero _)
    | 21, hb, he => cases hb; exact absurd hi (Nat.not_lt_zero _)
    | 22, hb, he => cases hb; exact absurd hi (Nat.not_lt_zero _)
    | 23, hb, he => cases hb; exact absurd hi (Nat.not_lt_zero _)
    | 24, hb, he => cases hb; exact absurd hi (Nat.not_lt_zero _)
    | 25, hb, he => cases hb; exact absurd hi (Nat.not_lt_zero _)
    | 26, hb, he => cases hb; exact absurd hi (Nat.not_lt_zero _)
    | 27, hb, he => cases hb; exact absurd hi (Nat.not_lt_zero _)
    | 28, hb, he => cases hb; cases he; obtain rfl : i = 0 := (by omega); exact ⟨at0 18 _ rfl, hAA 18 0⟩
    | 29, hb, he => cases hb; cases he; obtain rfl : i = 0 := (by omega); exact ⟨at0 2 _ rfl, hAA 2 0⟩
    | q + 30, hb, he => cases hb
  · have hk : k < 30 := (List.getElem?_eq_some_iff.mp hb).1
    have hk1 : k1 < 30 := (List.getElem?_eq_some_iff.mp hb1).1
    have hb' : (xbd xInit).getD k 0 = b := by rw [List.getD_eq_getElem?_getD, hb]; rfl
    have hb1' : (xbd xInit).getD k1 0 = b1 := by rw [List.getD_eq_getElem?_getD, hb1]; rfl
    have z0 : ∀ {k i b}, (xbd xInit)[k]? = some b → i < b → k = 0 → i = 0 := fun {k i b} h1 h2 h3 => by subst h3; cases h1; omega
    by_cases e : k = 0
    · by_cases e1 : k1 = 0
      · exact ⟨e.trans e1.symm, (z0 hb hi e).trans (z0 hb1 hi1 e1).symm⟩
      · exfalso
        unfold xad0 at heq
        dsimp only at heq
        rw [if_pos e, if_neg e1] at heq
        omega
    · by_cases e1 : k1 = 0
      · exfalso
        unfold xad0 at heq
        dsimp only at heq
        rw [if_neg e, if_pos e1] at heq
        omega
      · unfold xad0 at heq
        dsimp only at heq
        rw [if_neg e, if_neg e1] at heq
        have h1 := xinv_ok k hk i (by rw [hb']; exact hi) e
        have h2 := xinv_ok k1 hk1 i1 (by rw [hb1']; exact hi1) e1
        have h3 : xps k + i = xps k1 + i1 := by omega
        rw [h3, h2] at h1
        have h4 := Prod.mk.inj h1
        exact ⟨h4.1.symm, h4.2.symm⟩
