/-! LENDLATHE's WORLD IS BUILT: the cells behind h0, in their order -/
set_option maxRecDepth 100000
def xBd (G : xG) (h0 : Nat) (L : List xE) (H : Heap) : Prop := H.size = h0 + L.length ∧ ∀ (k : Nat) (e : xE), L[k]? = some e → xat G (h0 + k) e H
section XBD
variable {G : xG} {h0 a : Nat} {L : List xE} {e : xE} {H H1 : Heap}
theorem xBd.nil (H : Heap) : xBd G H.size [] H := ⟨rfl, fun k e h => by cases h⟩
theorem xBd.one (h : xBd G h0 L H) (hat : xat G H.size e H1) (hz : H1.size = H.size + 1) (hg : xGrow H H1) : xBd G h0 (L ++ [e]) H1 := by
  refine ⟨by rw [hz, h.1, List.length_append]; rfl, fun k e1 he => ?_⟩
  rcases Nat.lt_trichotomy k L.length with hk | hk | hk
  · rw [List.getElem?_append_left hk] at he
    exact hg.at (h.2 k e1 he)
  · subst hk
    rw [List.getElem?_append_right (Nat.le_refl _), Nat.sub_self] at he
    obtain rfl : e = e1 := Option.some.inj he
    rw [← h.1]; exact hat
  · rw [List.getElem?_append_right (by omega)] at he
    obtain ⟨j, hj⟩ : ∃ j, k - L.length = j + 1 := ⟨k - L.length - 1, by omega⟩
    rw [hj] at he; cases he
theorem xBd.off (h : xBd G h0 L H) (ha : a < h0) (ho : xOff a H H1) : xBd G h0 L H1 := ⟨ho.1.trans h.1, fun k e he => (h.2 k e he).kept (ho.2 _ (by omega))⟩
theorem xBd.set (h : xBd G h0 L H) (k : Nat) (ho : xOff (h0 + k) H H1) (hat : xat G (h0 + k) e H1) : xBd G h0 (L.set k e) H1 := by
  refine ⟨by rw [ho.1, h.1, List.length_set], fun j e1 he => ?_⟩
  by_cases hj : j = k
  · subst hj
    by_cases hl : j < L.length
    · rw [List.getElem?_set_self hl] at he
      obtain rfl : e = e1 := Option.some.inj he
      exact hat
    · rw [List.getElem?_eq_none (by rw [List.length_set]; omega)] at he; cases he
  · rw [List.getElem?_set_ne (Ne.symm hj)] at he
    exact (h.2 j e1 he).kept (ho.2 _ (by omega))
theorem xBd.call0 (h : xBd G h0 L H) (k : Nat) (ho : xOG (h0 + k) 0 H H1) (hat : xat G (h0 + k) e H1) : xBd G h0 (L.set k e) H1 := h.set k ho.off hat
theorem xBd.call1 (h : xBd G h0 L H) (k : Nat) {ea : xE} (hk : k < L.length) (ho : xOG (h0 + k) 1 H H1) (hat : xat G (h0 + k) e H1) (hea : xat G H.size ea H1) : xBd G h0 (L.set k e ++ [ea]) H1 := by
  refine ⟨by rw [ho.1, h.1, List.length_append, List.length_set]; rfl, fun j e1 he => ?_⟩
  rcases Nat.lt_trichotomy j L.length with hj | hj | hj
  · rw [List.getElem?_append_left (by rw [List.length_set]; exact hj)] at he
    by_cases hjk : j = k
    · subst hjk
      rw [List.getElem?_set_self hj] at he
      obtain rfl : e = e1 := Option.some.inj he
      exact hat
    · rw [List.getElem?_set_ne (Ne.symm hjk)] at he
      exact ho.at (h.2 j e1 he) (by omega)
  · subst hj
    rw [List.getElem?_append_right (by rw [List.length_set]; exact Nat.le_refl _), List.length_set, Nat.sub_self] at he
    obtain rfl : ea = e1 := Option.some.inj he
    rw [← h.1]; exact hea
  · rw [List.getElem?_append_right (by rw [List.length_set]; omega), List.length_set] at he
    obtain ⟨i, hi⟩ : ∃ i, j - L.length = i + 1 := ⟨j - L.length - 1, by omega⟩
    rw [hi] at he; cases he
theorem xBd.grid (h : xBd G h0 L H) {N : Nat} {eo ei : xE} (hz : H1.size = H.size + 1 + N) (hg : xGrow H H1) (hat : xat G H.size eo H1) (hin : ∀ j, j < N → xat G (H.size + 1 + j) ei H1) : xBd G h0 (L ++ eo :: List.replicate N ei) H1 := by
  refine ⟨by rw [hz, h.1, List.length_append, List.length_cons, List.length_replicate]; omega, fun k e1 he => ?_⟩
  rcases Nat.lt_trichotomy k L.length with hk | hk | hk
  · rw [List.getElem?_append_left hk] at he
    exact hg.at (h.2 k e1 he)
  · subst hk
    rw [List.getElem?_append_right (Nat.le_refl _), Nat.sub_self] at he
    obtain rfl : eo = e1 := Option.some.inj he
    rw [← h.1]; exact hat
  · rw [List.getElem?_append_right (by omega)] at he
    obtain ⟨j, hj⟩ : ∃ j, k = L.length + 1 + j := ⟨k - L.length - 1, by omega⟩
    subst hj
    rw [show L.length + 1 + j - L.length = j + 1 by omega, List.getElem?_cons_succ, List.getElem?_replicate] at he
    split at he
    · next hlt =>
      obtain rfl : ei = e1 := Option.some.inj he
      have := hin j hlt
      rw [h.1] at this
      rw [show h0 + (L.length + 1 + j) = h0 + L.length + 1 + j by omega]
      exact this
    · cases he
end XBD
theorem df0 : ∀ j, j < 13 → defaultValue (tyX1 j) = vp_V [.null, .null, .null, .null, .null, .null, .null, .null, .int 0, .null, .null, .null, .int 0] j := by decide +kernel
theorem df1 : ∀ j, j < 1 → defaultValue (tyX2 j) = vp_V [.null] j := by decide +kernel
theorem df2 : ∀ j, j < 3 → defaultValue (tyJ2 j) = vp_V [.int 0, .null, .int 0] j := by decide +kernel
theorem df3 : ∀ j, j < 4 → defaultValue (tyX3 j) = vp_V [.null, .int 0, .int 0, .null] j := by decide +kernel
theorem xfit0 (q : Nat) : ∀ (i : Nat) (w : Value), ([Value.ref q] : List Value)[i]? = some w → ∃ t, ([FieldType.object "Lendlathe"] : List FieldType)[i]? = some t ∧ fits t w = true
  | 0, w, h => by cases h; exact ⟨_, rfl, rfl⟩
  | i + 1, w, h => by cases h
/-- the store at the start -/
def xInit : xS := (fun c _ => if c = 5 then 1 else 0, fun _ _ _ => 0, fun _ => 0)
abbrev xZ0 : xZ := (fun _ => .null, 0, 0)
def xps (k : Nat) : Nat := [0, 0, 1, 3, 5, 7, 9, 11, 12, 16, 17, 19, 20, 23, 24, 4, 6, 8, 10, 44, 44, 44, 44, 44, 44, 44, 44, 44, 18, 2].getD k 0
def xad0 (a h0 : Nat) : Nat × Nat → Nat := fun r => if r.1 = 0 then a else h0 + xps r.1 + r.2
