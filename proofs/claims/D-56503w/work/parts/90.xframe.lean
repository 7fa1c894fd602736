/-! TWO WORLDS SIDE BY SIDE: the set of addresses that a world owns; another set A for the same world; a world untouched by a call that may change A alone -/
def xOwn (bd : List Nat) (ad : Nat × Nat → Nat) (q : Nat) : Prop := ∃ k i b : Nat, bd[k]? = some b ∧ i < b ∧ ad (k, i) = q
theorem xRW.toA {G : xG} {A A2 : Nat → Prop} {bd : List Nat} {ce : Nat → List xE} {ad : Nat × Nat → Nat} {H : Heap} (h : xRW G A bd ce ad H) (h2 : ∀ q, xOwn bd ad q → A2 q) : xRW G A2 bd ce ad H := ⟨fun k i b e hb hi he => ⟨(h.1 k i b e hb hi he).1, h2 _ ⟨k, i, b, hb, hi, rfl⟩⟩, h.2⟩
theorem xRW.own {G : xG} {A : Nat → Prop} {bd : List Nat} {ce : Nat → List xE} {ad : Nat × Nat → Nat} {H : Heap} (h : xRW G A bd ce ad H) (hl : ∀ i, bd.length ≤ (ce i).length) {q : Nat} (hq : xOwn bd ad q) : A q ∧ q < H.size := by
  obtain ⟨k, i, b, hb, hi, rfl⟩ := hq
  have hk : k < bd.length := by
    rcases Nat.lt_or_ge k bd.length with h9 | h9
    · exact h9
    · rw [List.getElem?_eq_none h9] at hb; exact absurd hb (by simp)
  obtain ⟨e, he⟩ : ∃ e, (ce i)[k]? = some e := ⟨(ce i)[k]'(Nat.lt_of_lt_of_le hk (hl i)), List.getElem?_eq_getElem _⟩
  exact ⟨(h.1 k i b e hb hi he).2, (h.1 k i b e hb hi he).1.lt⟩
theorem xRW.keepF {G : xG} {A A1 : Nat → Prop} {bd : List Nat} {ce : Nat → List xE} {ad : Nat × Nat → Nat} {H H1 : Heap} (h : xRW G A bd ce ad H) (hk : ∀ q, q < H.size → ¬ A1 q → H1[q]? = H[q]?) (hn : ∀ q, xOwn bd ad q → ¬ A1 q) : xRW G A bd ce ad H1 := h.kept fun k i b e hb hi he => hk _ (h.1 k i b e hb hi he).1.lt (hn _ ⟨k, i, b, hb, hi, rfl⟩)
theorem xbd_len {S : xS} {G : xG} {ad : Nat × Nat → Nat} {z : xZ} (i : Nat) : (xbd S).length ≤ (xce G S ad z i).length := by simp [xbd, xce]
theorem mbd_len {S : xS} {G : xG} {ad : Nat × Nat → Nat} {z : xZ} (i : Nat) : (mbd S).length ≤ (mce G S ad z i).length := by simp [mbd, mce]
/-- the addresses that an x call may change, beside m's world and the cells of O -/
def xAx (n : Nat) (O : Nat → Prop) (Sm : xS) (adm : Nat × Nat → Nat) (q : Nat) : Prop := n ≤ q ∧ ¬ O q ∧ ¬ xOwn (mbd Sm) adm q
/-- the addresses that an m call may change, beside x's world and the cells of O -/
def xAm (n : Nat) (O : Nat → Prop) (Sx : xS) (adx : Nat × Nat → Nat) (q : Nat) : Prop := n ≤ q ∧ ¬ O q ∧ ¬ xOwn (xbd Sx) adx q
/-- both worlds, apart from each other and from O, all behind n -/
def xDuo (G : xG) (n : Nat) (O : Nat → Prop) (Sx : xS) (adx : Nat × Nat → Nat) (zx : xZ) (Sm : xS) (adm : Nat × Nat → Nat) (zm : xZ) (H : Heap) : Prop := xRX G (xAx n O Sm adm) Sx adx zx H ∧ xRM G (xAm n O Sx adx) Sm adm zm H
theorem xDuo.afterX {G : xG} {n : Nat} {O : Nat → Prop} {Sx Sx1 : xS} {adx adx1 : Nat × Nat → Nat} {zx zx1 : xZ} {Sm : xS} {adm : Nat × Nat → Nat} {zm : xZ} {H H1 : Heap} (h : xDuo G n O Sx adx zx Sm adm zm H) (hx : xRX G (xAx n O Sm adm) Sx1 adx1 zx1 H1) (hk : ∀ q, q < H.size → ¬ xAx n O Sm adm q → H1[q]? = H[q]?) : xDuo G n O Sx1 adx1 zx1 Sm adm zm H1 := by
  refine ⟨hx, xRW.toA (xRW.keepF h.2 hk (fun q hq c => c.2.2 hq)) (fun q hq => ⟨(xRW.own h.2 mbd_len hq).1.1, (xRW.own h.2 mbd_len hq).1.2.1, fun c => (xRW.own hx xbd_len c).1.2.2 hq⟩)⟩
theorem xDuo.afterM {G : xG} {n : Nat} {O : Nat → Prop} {Sx : xS} {adx : Nat × Nat → Nat} {zx : xZ} {Sm Sm1 : xS} {adm adm1 : Nat × Nat → Nat} {zm zm1 : xZ} {H H1 : Heap} (h : xDuo G n O Sx adx zx Sm adm zm H) (hm : xRM G (xAm n O Sx adx) Sm1 adm1 zm1 H1) (hk : ∀ q, q < H.size → ¬ xAm n O Sx adx q → H1[q]? = H[q]?) : xDuo G n O Sx adx zx Sm1 adm1 zm1 H1 := by
  refine ⟨xRW.toA (xRW.keepF h.1 hk (fun q hq c => c.2.2 hq)) (fun q hq => ⟨(xRW.own h.1 xbd_len hq).1.1, (xRW.own h.1 xbd_len hq).1.2.1, fun c => (xRW.own hm mbd_len c).1.2.2 hq⟩), hm⟩
theorem xDuo.kept {G : xG} {n : Nat} {O : Nat → Prop} {Sx : xS} {adx : Nat × Nat → Nat} {zx : xZ} {Sm : xS} {adm : Nat × Nat → Nat} {zm : xZ} {H H1 : Heap} (h : xDuo G n O Sx adx zx Sm adm zm H) (hk : ∀ q, q < H.size → ¬ O q → H1[q]? = H[q]?) : xDuo G n O Sx adx zx Sm adm zm H1 := ⟨xRW.keepF (A1 := O) h.1 hk (fun q hq c => (xRW.own h.1 xbd_len hq).1.2.1 c), xRW.keepF (A1 := O) h.2 hk (fun q hq c => (xRW.own h.2 mbd_len hq).1.2.1 c)⟩
/-- at a moment when the heap is Z long, and O lies within it, what is not yet there may be changed -/
theorem xDuo.newX {G : xG} {n : Nat} {O : Nat → Prop} {Sx : xS} {adx : Nat × Nat → Nat} {zx : xZ} {Sm : xS} {adm : Nat × Nat → Nat} {zm : xZ} {H : Heap} (h : xDuo G n O Sx adx zx Sm adm zm H) (hn : n ≤ H.size) (hO : ∀ q, O q → q < H.size) (q : Nat) (hq : H.size ≤ q) : xAx n O Sm adm q := ⟨by omega, fun c => by have := hO _ c; omega, fun c => by have := (xRW.own h.2 mbd_len c).2; omega⟩
theorem xDuo.newM {G : xG} {n : Nat} {O : Nat → Prop} {Sx : xS} {adx : Nat × Nat → Nat} {zx : xZ} {Sm : xS} {adm : Nat × Nat → Nat} {zm : xZ} {H : Heap} (h : xDuo G n O Sx adx zx Sm adm zm H) (hn : n ≤ H.size) (hO : ∀ q, O q → q < H.size) (q : Nat) (hq : H.size ≤ q) : xAm n O Sx adx q := ⟨by omega, fun c => by have := hO _ c; omega, fun c => by have := (xRW.own h.1 xbd_len c).2; omega⟩
