/-! THE TWO WORLDS by roles (printed by gen/world.py) -/
set_option maxRecDepth 100000
/-- a store: counts, ints, longs -/
abbrev xS : Type := (Nat → Nat → Nat) × (Nat → Nat → Nat → Int32) × (Nat → Int64)
abbrev xZ : Type := (Nat → Value) × Int32 × Int32
def fset (f : Nat → Nat → Nat → Int32) (c i j : Nat) (v : Int32) : Nat → Nat → Nat → Int32 := fun c1 => if c1 = c then (fun i1 j1 => if i1 = i ∧ j1 = j then v else f c i1 j1) else f c1
def nset (f : Nat → Nat → Nat) (c i v : Nat) : Nat → Nat → Nat := fun c1 => if c1 = c then (fun i1 => if i1 = i then v else f c i1) else f c1
def lset (f : Nat → Int64) (i : Nat) (v : Int64) : Nat → Int64 := fun i1 => if i1 = i then v else f i1
abbrev sF (S : xS) (c i j : Nat) (v : Int32) : xS := (S.1, fset S.2.1 c i j v, S.2.2)
abbrev sN (S : xS) (c i v : Nat) : xS := (nset S.1 c i v, S.2)
abbrev sL (S : xS) (i : Nat) (v : Int64) : xS := (S.1, S.2.1, lset S.2.2 i v)
theorem fset_s (f : Nat → Nat → Nat → Int32) (c i j : Nat) (v : Int32) : fset f c i j v c i j = v := by simp [fset]
theorem fset_c (f : Nat → Nat → Nat → Int32) (c i j : Nat) (v : Int32) {c1 : Nat} (h : c1 ≠ c) (i1 j1 : Nat) : fset f c i j v c1 i1 j1 = f c1 i1 j1 := by simp [fset, h]
theorem fset_i (f : Nat → Nat → Nat → Int32) (c i j : Nat) (v : Int32) (c1 : Nat) {i1 : Nat} (h : i1 ≠ i) (j1 : Nat) : fset f c i j v c1 i1 j1 = f c1 i1 j1 := by by_cases e : c1 = c <;> simp [fset, e, h]
theorem fset_j (f : Nat → Nat → Nat → Int32) (c i j : Nat) (v : Int32) (c1 i1 : Nat) {j1 : Nat} (h : j1 ≠ j) : fset f c i j v c1 i1 j1 = f c1 i1 j1 := by by_cases e : c1 = c <;> simp [fset, e, h]
theorem nset_s (f : Nat → Nat → Nat) (c i v : Nat) : nset f c i v c i = v := by simp [nset]
theorem nset_c (f : Nat → Nat → Nat) (c i v : Nat) {c1 : Nat} (h : c1 ≠ c) (i1 : Nat) : nset f c i v c1 i1 = f c1 i1 := by simp [nset, h]
theorem nset_i (f : Nat → Nat → Nat) (c i v c1 : Nat) {i1 : Nat} (h : i1 ≠ i) : nset f c i v c1 i1 = f c1 i1 := by by_cases e : c1 = c <;> simp [nset, e, h]
theorem sF_sF (S : xS) (c i j : Nat) (v w : Int32) : sF (sF S c i j v) c i j w = sF S c i j w := by
  have e : fset (fset S.2.1 c i j v) c i j w = fset S.2.1 c i j w := by
    funext c1 i1 j1; unfold fset; by_cases h : c1 = c <;> simp [h]; by_cases h2 : i1 = i ∧ j1 = j <;> simp [h2]
  show (_, fset (fset S.2.1 c i j v) c i j w, _) = _
  rw [e]
theorem sN_sN (S : xS) (c i v w : Nat) : sN (sN S c i v) c i w = sN S c i w := by
  have e : nset (nset S.1 c i v) c i w = nset S.1 c i w := by
    funext c1 i1; unfold nset; by_cases h : c1 = c <;> simp [h]; by_cases h2 : i1 = i <;> simp [h2]
  show (nset (nset S.1 c i v) c i w, _) = _
  rw [e]
/-- an element of a list of n references -/
def xel (n a k : Nat) : Value := if k < n then .ref a else .null
/-- a tariff by its number: 0 the free one, t + 1 the lambda t -/
def xtr (ad : Nat × Nat → Nat) (u : Nat) : Nat := if u = 0 then ad (29, 0) else ad (27, u - 1)
/-- what a tariff has captured -/
def xcap (c b : Nat) (v : Int32) : Array Value := if c = 0 then #[.int v] else #[.ref b, .int v]
def xRW (G : xG) (A : Nat → Prop) (bd : List Nat) (ce : Nat → List xE) (ad : Nat × Nat → Nat) (H : Heap) : Prop := (∀ (k i b : Nat) (e : xE), bd[k]? = some b → i < b → (ce i)[k]? = some e → xat G (ad (k, i)) e H ∧ A (ad (k, i))) ∧ ∀ (k i b k1 i1 b1 : Nat), bd[k]? = some b → i < b → bd[k1]? = some b1 → i1 < b1 → ad (k, i) = ad (k1, i1) → k = k1 ∧ i = i1
theorem xRW.at {G : xG} {A : Nat → Prop} {bd : List Nat} {ce : Nat → List xE} {ad : Nat × Nat → Nat} {H : Heap} (h : xRW G A bd ce ad H) (k i : Nat) {b : Nat} {e : xE} (hb : bd[k]? = some b) (hi : i < b) (he : (ce i)[k]? = some e) : xat G (ad (k, i)) e H := (h.1 k i b e hb hi he).1
theorem xRW.A {G : xG} {A : Nat → Prop} {bd : List Nat} {ce : Nat → List xE} {ad : Nat × Nat → Nat} {H : Heap} (h : xRW G A bd ce ad H) (k i : Nat) {b : Nat} {e : xE} (hb : bd[k]? = some b) (hi : i < b) (he : (ce i)[k]? = some e) : A (ad (k, i)) := (h.1 k i b e hb hi he).2
theorem xRW.kept {G : xG} {A : Nat → Prop} {bd : List Nat} {ce : Nat → List xE} {ad : Nat × Nat → Nat} {H H1 : Heap} (h : xRW G A bd ce ad H) (hk : ∀ (k i b : Nat) (e : xE), bd[k]? = some b → i < b → (ce i)[k]? = some e → H1[ad (k, i)]? = H[ad (k, i)]?) : xRW G A bd ce ad H1 := ⟨fun k i b e hb hi he => ⟨(h.1 k i b e hb hi he).1.kept (hk k i b e hb hi he), (h.1 k i b e hb hi he).2⟩, h.2⟩
theorem xRW.grow {G : xG} {A : Nat → Prop} {bd : List Nat} {ce : Nat → List xE} {ad : Nat × Nat → Nat} {H H1 : Heap} (h : xRW G A bd ce ad H) (hg : xGrow H H1) : xRW G A bd ce ad H1 := h.kept fun k i b e hb hi he => hg.2 _ (h.1 k i b e hb hi he).1.lt
theorem xRW.fresh {G : xG} {A : Nat → Prop} {bd : List Nat} {ce : Nat → List xE} {ad : Nat × Nat → Nat} {H : Heap} (h : xRW G A bd ce ad H) : ∀ (k i b : Nat) (e : xE), bd[k]? = some b → i < b → (ce i)[k]? = some e → ad (k, i) ≠ H.size := fun k i b e hb hi he z => by have := (h.1 k i b e hb hi he).1.lt; omega
theorem xRW.off {G : xG} {A : Nat → Prop} {bd : List Nat} {ce : Nat → List xE} {ad : Nat × Nat → Nat} {H H1 : Heap} {q : Nat} (h : xRW G A bd ce ad H) (hf : ∀ (k i b : Nat) (e : xE), bd[k]? = some b → i < b → (ce i)[k]? = some e → ad (k, i) ≠ q) (ho : xOff q H H1) : xRW G A bd ce ad H1 := h.kept fun k i b e hb hi he => ho.2 _ (hf k i b e hb hi he)
theorem xRW.put {G : xG} {A : Nat → Prop} {bd : List Nat} {ce : Nat → List xE} {ad : Nat × Nat → Nat} {H : Heap} (h : xRW G A bd ce ad H) (k i : Nat) {b : Nat} (hb : bd[k]? = some b) (hi : i < b) {H1 : Heap} (ho : xOff (ad (k, i)) H H1) {ce1 : Nat → List xE} {e1 e0 : xE} (h0 : (ce i)[k]? = some e0) (hat : xat G (ad (k, i)) e1 H1) (he : (ce1 i)[k]? = some e1) (hce : ∀ k1 i1 b1 : Nat, bd[k1]? = some b1 → i1 < b1 → (k1 ≠ k ∨ i1 ≠ i) → (ce1 i1)[k1]? = (ce i1)[k1]?) : xRW G A bd ce1 ad H1 := by
  refine ⟨fun k1 i1 b1 e hb1 hi1 he1 => ?_, h.2⟩
  by_cases hq : k1 = k ∧ i1 = i
  · obtain ⟨rfl, rfl⟩ := hq
    rw [he] at he1
    cases he1
    exact ⟨hat, (h.1 _ _ _ _ hb hi h0).2⟩
  · have hne : k1 ≠ k ∨ i1 ≠ i := by
      by_cases hk : k1 = k
      · exact Or.inr fun z => hq ⟨hk, z⟩
      · exact Or.inl hk
    rw [hce k1 i1 b1 hb1 hi1 hne] at he1
    have h1 := h.1 k1 i1 b1 e hb1 hi1 he1
    exact ⟨ho.at h1.1 (fun z => hq (h.2 _ _ _ _ _ _ hb1 hi1 hb hi z)), h1.2⟩
def xbd (S : xS) : List Nat := [1, 1, 1, 1, 1, 1, 1, 1, 4, 1, 1, 1, 3, 1, 20, 1, 1, 1, 1, 0, S.1 0 0, S.1 1 0, S.1 1 0, S.1 2 0, S.1 2 0, S.1 2 0, S.1 3 0, S.1 8 0, 1, 1]
def xce (G : xG) (S : xS) (ad : Nat × Nat → Nat) (z : xZ) (i : Nat) : List xE := [xO 0 [.ref (ad (1, 0)), .ref (ad (2, 0)), .ref (ad (3, 0)), .ref (ad (4, 0)), .ref (ad (5, 0)), .ref (ad (6, 0)), .ref (ad (7, 0)), .ref (ad (9, 0)), .int (S.2.1 7 0 0), .ref (ad (10, 0)), .ref (ad (11, 0)), .ref (ad (13, 0)), .int (nI (S.1 4 0))], xA 6 4 (fun k => .ref (xtr ad (S.1 11 k))), xA 0 4 (fun k => .int (nI (S.1 5 k))), xO 2 [.int (nI (S.1 0 0)), .ref (ad (15, 0)), .int (nI (S.1 0 0))], xO 2 [.int (nI (S.1 1 0)), .ref (ad (16, 0)), .int (nI (S.1 1 0))], xO 2 [.int (nI (S.1 2 0)), .ref (ad (17, 0)), .int (nI (S.1 2 0))], xO 2 [.int (nI (S.1 3 0)), .ref (ad (18, 0)), .int (nI (S.1 3 0))], xA 11 4 (fun k => .ref (ad (8, k))), xA 3 4 (fun k => .int (S.2.1 5 i k)), xA 0 3 (fun k => .int (S.2.1 6 k 0)), xO 3 [.ref (ad (28, 0)), .int z.2.1, .int z.2.2, .ref (ad (0, 0))], xA 7 3 (fun k => .ref (ad (12, k))), xR ({ cls := G.2.2.2 i, slots := #[.ref (ad (0, 0))], vm := .none } : Cell), xA 10 20 (fun k => .ref (ad (14, k))), xA 0 10 (fun k => .int (S.2.1 25 i k)), xA 5 6 (fun k => xel (S.1 0 0) (ad (20, k)) k), xA 5 10 (fun k => xel (S.1 1 0) (ad (21, k)) k), xA 5 150 (fun k => xel (S.1 2 0) (ad (23, k)) k), xA 5 30 (fun k => xel (S.1 3 0) (ad (26, k)) k), xO 1 [.ref (ad (0, 0))], xO 5 [.int (S.2.1 0 i 0), .int (S.2.1 1 i 0)], xO 6 [.ref (ad (22, i)), .int (S.2.1 4 i 0), .int (S.2.1 3 i 0), .ref (ad (0, 0))], xA 0 4 (fun k => .int (S.2.1 2 i k)), xO 7 [.int (S.2.1 10 i 0), .int (S.2.1 11 i 0), .int (S.2.1 12 i 0), .int (S.2.1 13 i 0), .int (S.2.1 14 i 0), .int (S.2.1 15 i 0), .int (S.2.1 16 i 0), .int (S.2.1 17 i 0), .int (nI (S.1 6 i)), .ref (ad (24, i)), .ref (ad (25, i)), .ref (ad (0, 0))], xA 0 5 (fun k => .int (S.2.1 18 i k)), xA 0 5 (fun k => .int (S.2.1 19 i k)), xO 8 [.int (S.2.1 20 i 0), .int (S.2.1 21 i 0), .int (S.2.1 22 i 0)], xR ({ cls := G.2.2.2 (3 + S.1 9 i), slots := xcap (S.1 9 i) (xtr ad (S.1 10 i)) (S.2.1 23 i 0), vm := .none } : Cell), xA 8 150 z.1, xO 1 [.ref (ad (0, 0))]]
abbrev xRX (G : xG) (A : Nat → Prop) (S : xS) (ad : Nat × Nat → Nat) (z : xZ) (H : Heap) : Prop := xRW G A (xbd S) (xce G S ad z) ad H
section WX
variable {G : xG} {A : Nat → Prop} {S : xS} {ad : Nat × Nat → Nat} {z : xZ} {H H1 : Heap}
theorem xw_0 (h : xRX G A S ad z H) : xat G (ad (0, 0)) (xO 0 [.ref (ad (1, 0)), .ref (ad (2, 0)), .ref (ad (3, 0)), .ref (ad (4, 0)), .ref (ad (5, 0)), .ref (ad (6, 0)), .ref (ad (7, 0)), .ref (ad (9, 0)), .int (S.2.1 7 0 0), .ref (ad (10, 0)), .ref (ad (11, 0)), .ref (ad (13, 0)), .int (nI (S.1 4 0))]) H := h.at 0 0 rfl (Nat.zero_lt_one) rfl
theorem xa_0 (h : xRX G A S ad z H) : A (ad (0, 0)) := h.A 0 0 rfl (Nat.zero_lt_one) rfl
theorem xw_1 (h : xRX G A S ad z H) : xat G (ad (1, 0)) (xA 6 4 (fun k => .ref (xtr ad (S.1 11 k)))) H := h.at 1 0 rfl (Nat.zero_lt_one) rfl
theorem xa_1 (h : xRX G A S ad z H) : A (ad (1, 0)) := h.A 1 0 rfl (Nat.zero_lt_one) rfl
theorem xw_2 (h : xRX G A S ad z H) : xat G (ad (2, 0)) (xA 0 4 (fun k => .int (nI (S.1 5 k)))) H := h.at 2 0 rfl (Nat.zero_lt_one) rfl
theorem xa_2 (h : xRX G A S ad z H) : A (ad (2, 0)) := h.A 2 0 rfl (Nat.zero_lt_one) rfl
theorem xw_3 (h : xRX G A S ad z H) : xat G (ad (3, 0)) (xO 2 [.int (nI (S.1 0 0)), .ref (ad (15, 0)), .int (nI (S.1 0 0))]) H := h.at 3 0 rfl (Nat.zero_lt_one) rfl
theorem xa_3 (h : xRX G A S ad z H) : A (ad (3, 0)) := h.A 3 0 rfl (Nat.zero_lt_one) rfl
theorem xw_4 (h : xRX G A S ad z H) : xat G (ad (4, 0)) (xO 2 [.int (nI (S.1 1 0)), .ref (ad (16, 0)), .int (nI (S.1 1 0))]) H := h.at 4 0 rfl (Nat.zero_lt_one) rfl
theorem xa_4 (h : xRX G A S ad z H) : A (ad (4, 0)) := h.A 4 0 rfl (Nat.zero_lt_one) rfl
theorem xw_5 (h : xRX G A S ad z H) : xat G (ad (5, 0)) (xO 2 [.int (nI (S.1 2 0)), .ref (ad (17, 0)), .int (nI (S.1 2 0))]) H := h.at 5 0 rfl (Nat.zero_lt_one) rfl
theorem xa_5 (h : xRX G A S ad z H) : A (ad (5, 0)) := h.A 5 0 rfl (Nat.zero_lt_one) rfl
theorem xw_6 (h : xRX G A S ad z H) : xat G (ad (6, 0)) (xO 2 [.int (nI (S.1 3 0)), .ref (ad (18, 0)), .int (nI (S.1 3 0))]) H := h.at 6 0 rfl (Nat.zero_lt_one) rfl
theorem xa_6 (h : xRX G A S ad z H) : A (ad (6, 0)) := h.A 6 0 rfl (Nat.zero_lt_one) rfl
theorem xw_7 (h : xRX G A S ad z H) : xat G (ad (7, 0)) (xA 11 4 (fun k => .ref (ad (8, k)))) H := h.at 7 0 rfl (Nat.zero_lt_one) rfl
theorem xa_7 (h : xRX G A S ad z H) : A (ad (7, 0)) := h.A 7 0 rfl (Nat.zero_lt_one) rfl
theorem xw_8 (h : xRX G A S ad z H) {i : Nat} (hi : i < 4) : xat G (ad (8, i)) (xA 3 4 (fun k => .int (S.2.1 5 i k))) H := h.at 8 i rfl hi rfl
theorem xa_8 (h : xRX G A S ad z H) {i : Nat} (hi : i < 4) : A (ad (8, i)) := h.A 8 i rfl hi rfl
theorem xw_9 (h : xRX G A S ad z H) : xat G (ad (9, 0)) (xA 0 3 (fun k => .int (S.2.1 6 k 0))) H := h.at 9 0 rfl (Nat.zero_lt_one) rfl
theorem xa_9 (h : xRX G A S ad z H) : A (ad (9, 0)) := h.A 9 0 rfl (Nat.zero_lt_one) rfl
theorem xw_10 (h : xRX G A S ad z H) : xat G (ad (10, 0)) (xO 3 [.ref (ad (28, 0)), .int z.2.1, .int z.2.2, .ref (ad (0, 0))]) H := h.at 10 0 rfl (Nat.zero_lt_one) rfl
theorem xa_10 (h : xRX G A S ad z H) : A (ad (10, 0)) := h.A 10 0 rfl (Nat.zero_lt_one) rfl
theorem xw_11 (h : xRX G A S ad z H) : xat G (ad (11, 0)) (xA 7 3 (fun k => .ref (ad (12, k)))) H := h.at 11 0 rfl (Nat.zero_lt_one) rfl
theorem xa_11 (h : xRX G A S ad z H) : A (ad (11, 0)) := h.A 11 0 rfl (Nat.zero_lt_one) rfl
theorem xw_12 (h : xRX G A S ad z H) {i : Nat} (hi : i < 3) : xat G (ad (12, i)) (xR ({ cls := G.2.2.2 i, slots := #[.ref (ad (0, 0))], vm := .none } : Cell)) H := h.at 12 i rfl hi rfl
theorem xa_12 (h : xRX G A S ad z H) {i : Nat} (hi : i < 3) : A (ad (12, i)) := h.A 12 i rfl hi rfl
theorem xw_13 (h : xRX G A S ad z H) : xat G (ad (13, 0)) (xA 10 20 (fun k => .ref (ad (14, k)))) H := h.at 13 0 rfl (Nat.zero_lt_one) rfl
theorem xa_13 (h : xRX G A S ad z H) : A (ad (13, 0)) := h.A 13 0 rfl (Nat.zero_lt_one) rfl
theorem xw_14 (h : xRX G A S ad z H) {i : Nat} (hi : i < 20) : xat G (ad (14, i)) (xA 0 10 (fun k => .int (S.2.1 25 i k))) H := h.at 14 i rfl hi rfl
theorem xa_14 (h : xRX G A S ad z H) {i : Nat} (hi : i < 20) : A (ad (14, i)) := h.A 14 i rfl hi rfl
theorem xw_15 (h : xRX G A S ad z H) : xat G (ad (15, 0)) (xA 5 6 (fun k => xel (S.1 0 0) (ad (20, k)) k)) H := h.at 15 0 rfl (Nat.zero_lt_one) rfl
theorem xa_15 (h : xRX G A S ad z H) : A (ad (15, 0)) := h.A 15 0 rfl (Nat.zero_lt_one) rfl
theorem xw_16 (h : xRX G A S ad z H) : xat G (ad (16, 0)) (xA 5 10 (fun k => xel (S.1 1 0) (ad (21, k)) k)) H := h.at 16 0 rfl (Nat.zero_lt_one) rfl
theorem xa_16 (h : xRX G A S ad z H) : A (ad (16, 0)) := h.A 16 0 rfl (Nat.zero_lt_one) rfl
theorem xw_17 (h : xRX G A S ad z H) : xat G (ad (17, 0)) (xA 5 150 (fun k => xel (S.1 2 0) (ad (23, k)) k)) H := h.at 17 0 rfl (Nat.zero_lt_one) rfl
theorem xa_17 (h : xRX G A S ad z H) : A (ad (17, 0)) := h.A 17 0 rfl (Nat.zero_lt_one) rfl
theorem xw_18 (h : xRX G A S ad z H) : xat G (ad (18, 0)) (xA 5 30 (fun k => xel (S.1 3 0) (ad (26, k)) k)) H := h.at 18 0 rfl (Nat.zero_lt_one) rfl
theorem xa_18 (h : xRX G A S ad z H) : A (ad (18, 0)) := h.A 18 0 rfl (Nat.zero_lt_one) rfl
theorem xw_20 (h : xRX G A S ad z H) {i : Nat} (hi : i < S.1 0 0) : xat G (ad (20, i)) (xO 5 [.int (S.2.1 0 i 0), .int (S.2.1 1 i 0)]) H := h.at 20 i rfl hi rfl
theorem xa_20 (h : xRX G A S ad z H) {i : Nat} (hi : i < S.1 0 0) : A (ad (20, i)) := h.A 20 i rfl hi rfl
theorem xw_21 (h : xRX G A S ad z H) {i : Nat} (hi : i < S.1 1 0) : xat G (ad (21, i)) (xO 6 [.ref (ad (22, i)), .int (S.2.1 4 i 0), .int (S.2.1 3 i 0), .ref (ad (0, 0))]) H := h.at 21 i rfl hi rfl
theorem xa_21 (h : xRX G A S ad z H) {i : Nat} (hi : i < S.1 1 0) : A (ad (21, i)) := h.A 21 i rfl hi rfl
theorem xw_22 (h : xRX G A S ad z H) {i : Nat} (hi : i < S.1 1 0) : xat G (ad (22, i)) (xA 0 4 (fun k => .int (S.2.1 2 i k))) H := h.at 22 i rfl hi rfl
theorem xa_22 (h : xRX G A S ad z H) {i : Nat} (hi : i < S.1 1 0) : A (ad (22, i)) := h.A 22 i rfl hi rfl
theorem xw_23 (h : xRX G A S ad z H) {i : Nat} (hi : i < S.1 2 0) : xat G (ad (23, i)) (xO 7 [.int (S.2.1 10 i 0), .int (S.2.1 11 i 0), .int (S.2.1 12 i 0), .int (S.2.1 13 i 0), .int (S.2.1 14 i 0), .int (S.2.1 15 i 0), .int (S.2.1 16 i 0), .int (S.2.1 17 i 0), .int (nI (S.1 6 i)), .ref (ad (24, i)), .ref (ad (25, i)), .ref (ad (0, 0))]) H := h.at 23 i rfl hi rfl
theorem xa_23 (h : xRX G A S ad z H) {i : Nat} (hi : i < S.1 2 0) : A (ad (23, i)) := h.A 23 i rfl hi rfl
theorem xw_24 (h : xRX G A S ad z H) {i : Nat} (hi : i < S.1 2 0) : xat G (ad (24, i)) (xA 0 5 (fun k => .int (S.2.1 18 i k))) H := h.at 24 i rfl hi rfl
theorem xa_24 (h : xRX G A S ad z H) {i : Nat} (hi : i < S.1 2 0) : A (ad (24, i)) := h.A 24 i rfl hi rfl
theorem xw_25 (h : xRX G A S ad z H) {i : Nat} (hi : i < S.1 2 0) : xat G (ad (25, i)) (xA 0 5 (fun k => .int (S.2.1 19 i k))) H := h.at 25 i rfl hi rfl
theorem xa_25 (h : xRX G A S ad z H) {i : Nat} (hi : i < S.1 2 0) : A (ad (25, i)) := h.A 25 i rfl hi rfl
theorem xw_26 (h : xRX G A S ad z H) {i : Nat} (hi : i < S.1 3 0) : xat G (ad (26, i)) (xO 8 [.int (S.2.1 20 i 0), .int (S.2.1 21 i 0), .int (S.2.1 22 i 0)]) H := h.at 26 i rfl hi rfl
theorem xa_26 (h : xRX G A S ad z H) {i : Nat} (hi : i < S.1 3 0) : A (ad (26, i)) := h.A 26 i rfl hi rfl
theorem xw_27 (h : xRX G A S ad z H) {i : Nat} (hi : i < S.1 8 0) : xat G (ad (27, i)) (xR ({ cls := G.2.2.2 (3 + S.1 9 i), slots := xcap (S.1 9 i) (xtr ad (S.1 10 i)) (S.2.1 23 i 0), vm := .none } : Cell)) H := h.at 27 i rfl hi rfl
theorem xa_27 (h : xRX G A S ad z H) {i : Nat} (hi : i < S.1 8 0) : A (ad (27, i)) := h.A 27 i rfl hi rfl
theorem xw_28 (h : xRX G A S ad z H) : xat G (ad (28, 0)) (xA 8 150 z.1) H := h.at 28 0 rfl (Nat.zero_lt_one) rfl
theorem xa_28 (h : xRX G A S ad z H) : A (ad (28, 0)) := h.A 28 0 rfl (Nat.zero_lt_one) rfl
theorem xw_29 (h : xRX G A S ad z H) : xat G (ad (29, 0)) (xO 1 [.ref (ad (0, 0))]) H := h.at 29 0 rfl (Nat.zero_lt_one) rfl
theorem xa_29 (h : xRX G A S ad z H) : A (ad (29, 0)) := h.A 29 0 rfl (Nat.zero_lt_one) rfl
theorem xs_0_8 (h : xRX G A S ad z H) {v : Int32} (ho : xOff (ad (0, 0)) H H1) (hat : xat G (ad (0, 0)) (xO 0 ([.ref (ad (1, 0)), .ref (ad (2, 0)), .ref (ad (3, 0)), .ref (ad (4, 0)), .ref (ad (5, 0)), .ref (ad (6, 0)), .ref (ad (7, 0)), .ref (ad (9, 0)), .int (S.2.1 7 0 0), .ref (ad (10, 0)), .ref (ad (11, 0)), .ref (ad (13, 0)), .int (nI (S.1 4 0))].set 8 (.int v))) H1) : xRX G A (sF S 7 0 0 v) ad z H1 := by
  have e : (xO 0 ([.ref (ad (1, 0)), .ref (ad (2, 0)), .ref (ad (3, 0)), .ref (ad (4, 0)), .ref (ad (5, 0)), .ref (ad (6, 0)), .ref (ad (7, 0)), .ref (ad (9, 0)), .int (S.2.1 7 0 0), .ref (ad (10, 0)), .ref (ad (11, 0)), .ref (ad (13, 0)), .int (nI (S.1 4 0))].set 8 (.int v))) = xO 0 [.ref (ad (1, 0)), .ref (ad (2, 0)), .ref (ad (3, 0)), .ref (ad (4, 0)), .ref (ad (5, 0)), .ref (ad (6, 0)), .ref (ad (7, 0)), .ref (ad (9, 0)), .int ((sF S 7 0 0 v).2.1 7 0 0), .ref (ad (10, 0)), .ref (ad (11, 0)), .ref (ad (13, 0)), .int (nI ((sF S 7 0 0 v).1 4 0))] := by
    simp [fset, nset]
  rw [e] at hat
  refine xRW.put (ce1 := xce G (sF S 7 0 0 v) ad z) h 0 0 rfl (Nat.zero_lt_one) ho rfl hat rfl (fun k1 i1 b1 hb1 hlt hne => ?_)
  by_cases hk : k1 = 0
  · subst hk
    have hi1 : i1 ≠ 0 := hne.resolve_left (fun q => q rfl)
    have hb2 : 1 = b1 := Option.some.inj hb1
    omega
  · have e2 : xce G (sF S 7 0 0 v) ad z i1 = (xce G S ad z i1).set 0 (xO 0 [.ref (ad (1, 0)), .ref (ad (2, 0)), .ref (ad (3, 0)), .ref (ad (4, 0)), .ref (ad (5, 0)), .ref (ad (6, 0)), .ref (ad (7, 0)), .ref (ad (9, 0)), .int ((sF S 7 0 0 v).2.1 7 0 0), .ref (ad (10, 0)), .ref (ad (11, 0)), .ref (ad (13, 0)), .int (nI ((sF S 7 0 0 v).1 4 0))]) := rfl
    rw [e2, List.getElem?_set_ne (Ne.symm hk)]
theorem xs_0_12 (h : xRX G A S ad z H) {v : Nat} (ho : xOff (ad (0, 0)) H H1) (hat : xat G (ad (0, 0)) (xO 0 ([.ref (ad (1, 0)), .ref (ad (2, 0)), .ref (ad (3, 0)), .ref (ad (4, 0)), .ref (ad (5, 0)), .ref (ad (6, 0)), .ref (ad (7, 0)), .ref (ad (9, 0)), .int (S.2.1 7 0 0), .ref (ad (10, 0)), .ref (ad (11, 0)), .ref (ad (13, 0)), .int (nI (S.1 4 0))].set 12 (.int (nI v)))) H1) : xRX G A (sN S 4 0 v) ad z H1 := by
  have e : (xO 0 ([.ref (ad (1, 0)), .ref (ad (2, 0)), .ref (ad (3, 0)), .ref (ad (4, 0)), .ref (ad (5, 0)), .ref (ad (6, 0)), .ref (ad (7, 0)), .ref (ad (9, 0)), .int (S.2.1 7 0 0), .ref (ad (10, 0)), .ref (ad (11, 0)), .ref (ad (13, 0)), .int (nI (S.1 4 0))].set 12 (.int (nI v)))) = xO 0 [.ref (ad (1, 0)), .ref (ad (2, 0)), .ref (ad (3, 0)), .ref (ad (4, 0)), .ref (ad (5, 0)), .ref (ad (6, 0)), .ref (ad (7, 0)), .ref (ad (9, 0)), .int ((sN S 4 0 v).2.1 7 0 0), .ref (ad (10, 0)), .ref (ad (11, 0)), .ref (ad (13, 0)), .int (nI ((sN S 4 0 v).1 4 0))] := by
    simp [fset, nset]
  rw [e] at hat
  refine xRW.put (ce1 := xce G (sN S 4 0 v) ad z) h 0 0 rfl (Nat.zero_lt_one) ho rfl hat rfl (fun k1 i1 b1 hb1 hlt hne => ?_)
  by_cases hk : k1 = 0
  · subst hk
    have hi1 : i1 ≠ 0 := hne.resolve_left (fun q => q rfl)
    have hb2 : 1 = b1 := Option.some.inj hb1
    omega
  · have e2 : xce G (sN S 4 0 v) ad z i1 = (xce G S ad z i1).set 0 (xO 0 [.ref (ad (1, 0)), .ref (ad (2, 0)), .ref (ad (3, 0)), .ref (ad (4, 0)), .ref (ad (5, 0)), .ref (ad (6, 0)), .ref (ad (7, 0)), .ref (ad (9, 0)), .int ((sN S 4 0 v).2.1 7 0 0), .ref (ad (10, 0)), .ref (ad (11, 0)), .ref (ad (13, 0)), .int (nI ((sN S 4 0 v).1 4 0))]) := rfl
    rw [e2, List.getElem?_set_ne (Ne.symm hk)]
theorem xs_2_a (h : xRX G A S ad z H) {j : Nat} {v : Nat} (ho : xOff (ad (2, 0)) H H1) (hat : xat G (ad (2, 0)) (xA 0 4 (updV (fun k => .int (nI (S.1 5 k))) j (.int (nI v)))) H1) : xRX G A (sN S 5 j v) ad z H1 := by
  have e : (xA 0 4 (updV (fun k => .int (nI (S.1 5 k))) j (.int (nI v)))) = xA 0 4 (fun k => .int (nI ((sN S 5 j v).1 5 k))) := by
    congr 1; congr 1; congr 1; funext k; by_cases hk : k = j <;> simp [updV, fset, nset, lset, hk]
  rw [e] at hat
  refine xRW.put (ce1 := xce G (sN S 5 j v) ad z) h 2 0 rfl (Nat.zero_lt_one) ho rfl hat rfl (fun k1 i1 b1 hb1 hlt hne => ?_)
  by_cases hk : k1 = 2
  · subst hk
    have hi1 : i1 ≠ 0 := hne.resolve_left (fun q => q rfl)
    have hb2 : 1 = b1 := Option.some.inj hb1
    omega
  · have e2 : xce G (sN S 5 j v) ad z i1 = (xce G S ad z i1).set 2 (xA 0 4 (fun k => .int (nI ((sN S 5 j v).1 5 k)))) := rfl
    rw [e2, List.getElem?_set_ne (Ne.symm hk)]
theorem xs_8_a (h : xRX G A S ad z H) {i : Nat} (hi : i < 4) {j : Nat} {v : Int32} (ho : xOff (ad (8, i)) H H1) (hat : xat G (ad (8, i)) (xA 3 4 (updV (fun k => .int (S.2.1 5 i k)) j (.int v))) H1) : xRX G A (sF S 5 i j v) ad z H1 := by
  have e : (xA 3 4 (updV (fun k => .int (S.2.1 5 i k)) j (.int v))) = xA 3 4 (fun k => .int ((sF S 5 i j v).2.1 5 i k)) := by
    congr 1; congr 1; congr 1; funext k; by_cases hk : k = j <;> simp [updV, fset, nset, lset, hk]
  rw [e] at hat
  refine xRW.put (ce1 := xce G (sF S 5 i j v) ad z) h 8 i rfl hi ho rfl hat rfl (fun k1 i1 b1 hb1 hlt hne => ?_)
  by_cases hk : k1 = 8
  · subst hk
    have hi1 : i1 ≠ i := hne.resolve_left (fun q => q rfl)
    show some (xA 3 4 (fun k => .int ((sF S 5 i j v).2.1 5 i1 k))) = some (xA 3 4 (fun k => .int (S.2.1 5 i1 k)))
    simp [fset, nset, hi1]
  · have e2 : xce G (sF S 5 i j v) ad z i1 = (xce G S ad z i1).set 8 (xA 3 4 (fun k => .int ((sF S 5 i j v).2.1 5 i1 k))) := rfl
    rw [e2, List.getElem?_set_ne (Ne.symm hk)]
theorem xs_9_a (h : xRX G A S ad z H) {j : Nat} {v : Int32} (ho : xOff (ad (9, 0)) H H1) (hat : xat G (ad (9, 0)) (xA 0 3 (updV (fun k => .int (S.2.1 6 k 0)) j (.int v))) H1) : xRX G A (sF S 6 j 0 v) ad z H1 := by
  have e : (xA 0 3 (updV (fun k => .int (S.2.1 6 k 0)) j (.int v))) = xA 0 3 (fun k => .int ((sF S 6 j 0 v).2.1 6 k 0)) := by
    congr 1; congr 1; congr 1; funext k; by_cases hk : k = j <;> simp [updV, fset, nset, lset, hk]
  rw [e] at hat
  refine xRW.put (ce1 := xce G (sF S 6 j 0 v) ad z) h 9 0 rfl (Nat.zero_lt_one) ho rfl hat rfl (fun k1 i1 b1 hb1 hlt hne => ?_)
  by_cases hk : k1 = 9
  · subst hk
    have hi1 : i1 ≠ 0 := hne.resolve_left (fun q => q rfl)
    have hb2 : 1 = b1 := Option.some.inj hb1
    omega
  · have e2 : xce G (sF S 6 j 0 v) ad z i1 = (xce G S ad z i1).set 9 (xA 0 3 (fun k => .int ((sF S 6 j 0 v).2.1 6 k 0))) := rfl
    rw [e2, List.getElem?_set_ne (Ne.symm hk)]
theorem xs_10_1 (h : xRX G A S ad z H) {v : Int32} (ho : xOff (ad (10, 0)) H H1) (hat : xat G (ad (10, 0)) (xO 3 ([.ref (ad (28, 0)), .int z.2.1, .int z.2.2, .ref (ad (0, 0))].set 1 (.int v))) H1) : xRX G A S ad (z.1, v, z.2.2) H1 := by
  have e : (xO 3 ([.ref (ad (28, 0)), .int z.2.1, .int z.2.2, .ref (ad (0, 0))].set 1 (.int v))) = xO 3 [.ref (ad (28, 0)), .int (z.1, v, z.2.2).2.1, .int (z.1, v, z.2.2).2.2, .ref (ad (0, 0))] := by
    simp [fset, nset]
  rw [e] at hat
  refine xRW.put (ce1 := xce G S ad (z.1, v, z.2.2)) h 10 0 rfl (Nat.zero_lt_one) ho rfl hat rfl (fun k1 i1 b1 hb1 hlt hne => ?_)
  by_cases hk : k1 = 10
  · subst hk
    have hi1 : i1 ≠ 0 := hne.resolve_left (fun q => q rfl)
    have hb2 : 1 = b1 := Option.some.inj hb1
    omega
  · have e2 : xce G S ad (z.1, v, z.2.2) i1 = (xce G S ad z i1).set 10 (xO 3 [.ref (ad (28, 0)), .int (z.1, v, z.2.2).2.1, .int (z.1, v, z.2.2).2.2, .ref (ad (0, 0))]) := rfl
    rw [e2, List.getElem?_set_ne (Ne.symm hk)]
theorem xs_10_2 (h : xRX G A S ad z H) {v : Int32} (ho : xOff (ad (10, 0)) H H1) (hat : xat G (ad (10, 0)) (xO 3 ([.ref (ad (28, 0)), .int z.2.1, .int z.2.2, .ref (ad (0, 0))].set 2 (.int v))) H1) : xRX G A S ad (z.1, z.2.1, v) H1 := by
  have e : (xO 3 ([.ref (ad (28, 0)), .int z.2.1, .int z.2.2, .ref (ad (0, 0))].set 2 (.int v))) = xO 3 [.ref (ad (28, 0)), .int (z.1, z.2.1, v).2.1, .int (z.1, z.2.1, v).2.2, .ref (ad (0, 0))] := by
    simp [fset, nset]
  rw [e] at hat
  refine xRW.put (ce1 := xce G S ad (z.1, z.2.1, v)) h 10 0 rfl (Nat.zero_lt_one) ho rfl hat rfl (fun k1 i1 b1 hb1 hlt hne => ?_)
  by_cases hk : k1 = 10
  · subst hk
    have hi1 : i1 ≠ 0 := hne.resolve_left (fun q => q rfl)
    have hb2 : 1 = b1 := Option.some.inj hb1
    omega
  · have e2 : xce G S ad (z.1, z.2.1, v) i1 = (xce G S ad z i1).set 10 (xO 3 [.ref (ad (28, 0)), .int (z.1, z.2.1, v).2.1, .int (z.1, z.2.1, v).2.2, .ref (ad (0, 0))]) := rfl
    rw [e2, List.getElem?_set_ne (Ne.symm hk)]
theorem xs_14_a (h : xRX G A S ad z H) {i : Nat} (hi : i < 20) {j : Nat} {v : Int32} (ho : xOff (ad (14, i)) H H1) (hat : xat G (ad (14, i)) (xA 0 10 (updV (fun k => .int (S.2.1 25 i k)) j (.int v))) H1) : xRX G A (sF S 25 i j v) ad z H1 := by
  have e : (xA 0 10 (updV (fun k => .int (S.2.1 25 i k)) j (.int v))) = xA 0 10 (fun k => .int ((sF S 25 i j v).2.1 25 i k)) := by
    congr 1; congr 1; congr 1; funext k; by_cases hk : k = j <;> simp [updV, fset, nset, lset, hk]
  rw [e] at hat
  refine xRW.put (ce1 := xce G (sF S 25 i j v) ad z) h 14 i rfl hi ho rfl hat rfl (fun k1 i1 b1 hb1 hlt hne => ?_)
  by_cases hk : k1 = 14
  · subst hk
    have hi1 : i1 ≠ i := hne.resolve_left (fun q => q rfl)
    show some (xA 0 10 (fun k => .int ((sF S 25 i j v).2.1 25 i1 k))) = some (xA 0 10 (fun k => .int (S.2.1 25 i1 k)))
    simp [fset, nset, hi1]
  · have e2 : xce G (sF S 25 i j v) ad z i1 = (xce G S ad z i1).set 14 (xA 0 10 (fun k => .int ((sF S 25 i j v).2.1 25 i1 k))) := rfl
    rw [e2, List.getElem?_set_ne (Ne.symm hk)]
theorem xs_20_0 (h : xRX G A S ad z H) {i : Nat} (hi : i < S.1 0 0) {v : Int32} (ho : xOff (ad (20, i)) H H1) (hat : xat G (ad (20, i)) (xO 5 ([.int (S.2.1 0 i 0), .int (S.2.1 1 i 0)].set 0 (.int v))) H1) : xRX G A (sF S 0 i 0 v) ad z H1 := by
  have e : (xO 5 ([.int (S.2.1 0 i 0), .int (S.2.1 1 i 0)].set 0 (.int v))) = xO 5 [.int ((sF S 0 i 0 v).2.1 0 i 0), .int ((sF S 0 i 0 v).2.1 1 i 0)] := by
    simp [fset, nset]
  rw [e] at hat
  refine xRW.put (ce1 := xce G (sF S 0 i 0 v) ad z) h 20 i rfl hi ho rfl hat rfl (fun k1 i1 b1 hb1 hlt hne => ?_)
  by_cases hk : k1 = 20
  · subst hk
    have hi1 : i1 ≠ i := hne.resolve_left (fun q => q rfl)
    show some (xO 5 [.int ((sF S 0 i 0 v).2.1 0 i1 0), .int ((sF S 0 i 0 v).2.1 1 i1 0)]) = some (xO 5 [.int (S.2.1 0 i1 0), .int (S.2.1 1 i1 0)])
    simp [fset, nset, hi1]
  · have e2 : xce G (sF S 0 i 0 v) ad z i1 = (xce G S ad z i1).set 20 (xO 5 [.int ((sF S 0 i 0 v).2.1 0 i1 0), .int ((sF S 0 i 0 v).2.1 1 i1 0)]) := rfl
    rw [e2, List.getElem?_set_ne (Ne.symm hk)]
theorem xs_20_1 (h : xRX G A S ad z H) {i : Nat} (hi : i < S.1 0 0) {v : Int32} (ho : xOff (ad (20, i)) H H1) (hat : xat G (ad (20, i)) (xO 5 ([.int (S.2.1 0 i 0), .int (S.2.1 1 i 0)].set 1 (.int v))) H1) : xRX G A (sF S 1 i 0 v) ad z H1 := by
  have e : (xO 5 ([.int (S.2.1 0 i 0), .int (S.2.1 1 i 0)].set 1 (.int v))) = xO 5 [.int ((sF S 1 i 0 v).2.1 0 i 0), .int ((sF S 1 i 0 v).2.1 1 i 0)] := by
    simp [fset, nset]
  rw [e] at hat
  refine xRW.put (ce1 := xce G (sF S 1 i 0 v) ad z) h 20 i rfl hi ho rfl hat rfl (fun k1 i1 b1 hb1 hlt hne => ?_)
  by_cases hk : k1 = 20
  · subst hk
    have hi1 : i1 ≠ i := hne.resolve_left (fun q => q rfl)
    show some (xO 5 [.int ((sF S 1 i 0 v).2.1 0 i1 0), .int ((sF S 1 i 0 v).2.1 1 i1 0)]) = some (xO 5 [.int (S.2.1 0 i1 0), .int (S.2.1 1 i1 0)])
    simp [fset, nset, hi1]
  · have e2 : xce G (sF S 1 i 0 v) ad z i1 = (xce G S ad z i1).set 20 (xO 5 [.int ((sF S 1 i 0 v).2.1 0 i1 0), .int ((sF S 1 i 0 v).2.1 1 i1 0)]) := rfl
    rw [e2, List.getElem?_set_ne (Ne.symm hk)]
theorem xs_21_1 (h : xRX G A S ad z H) {i : Nat} (hi : i < S.1 1 0) {v : Int32} (ho : xOff (ad (21, i)) H H1) (hat : xat G (ad (21, i)) (xO 6 ([.ref (ad (22, i)), .int (S.2.1 4 i 0), .int (S.2.1 3 i 0), .ref (ad (0, 0))].set 1 (.int v))) H1) : xRX G A (sF S 4 i 0 v) ad z H1 := by
  have e : (xO 6 ([.ref (ad (22, i)), .int (S.2.1 4 i 0), .int (S.2.1 3 i 0), .ref (ad (0, 0))].set 1 (.int v))) = xO 6 [.ref (ad (22, i)), .int ((sF S 4 i 0 v).2.1 4 i 0), .int ((sF S 4 i 0 v).2.1 3 i 0), .ref (ad (0, 0))] := by
    simp [fset, nset]
  rw [e] at hat
  refine xRW.put (ce1 := xce G (sF S 4 i 0 v) ad z) h 21 i rfl hi ho rfl hat rfl (fun k1 i1 b1 hb1 hlt hne => ?_)
  by_cases hk : k1 = 21
  · subst hk
    have hi1 : i1 ≠ i := hne.resolve_left (fun q => q rfl)
    show some (xO 6 [.ref (ad (22, i1)), .int ((sF S 4 i 0 v).2.1 4 i1 0), .int ((sF S 4 i 0 v).2.1 3 i1 0), .ref (ad (0, 0))]) = some (xO 6 [.ref (ad (22, i1)), .int (S.2.1 4 i1 0), .int (S.2.1 3 i1 0), .ref (ad (0, 0))])
    simp [fset, nset, hi1]
  · have e2 : xce G (sF S 4 i 0 v) ad z i1 = (xce G S ad z i1).set 21 (xO 6 [.ref (ad (22, i1)), .int ((sF S 4 i 0 v).2.1 4 i1 0), .int ((sF S 4 i 0 v).2.1 3 i1 0), .ref (ad (0, 0))]) := rfl
    rw [e2, List.getElem?_set_ne (Ne.symm hk)]
theorem xs_21_2 (h : xRX G A S ad z H) {i : Nat} (hi : i < S.1 1 0) {v : Int32} (ho : xOff (ad (21, i)) H H1) (hat : xat G (ad (21, i)) (xO 6 ([.ref (ad (22, i)), .int (S.2.1 4 i 0), .int (S.2.1 3 i 0), .ref (ad (0, 0))].set 2 (.int v))) H1) : xRX G A (sF S 3 i 0 v) ad z H1 := by
  have e : (xO 6 ([.ref (ad (22, i)), .int (S.2.1 4 i 0), .int (S.2.1 3 i 0), .ref (ad (0, 0))].set 2 (.int v))) = xO 6 [.ref (ad (22, i)), .int ((sF S 3 i 0 v).2.1 4 i 0), .int ((sF S 3 i 0 v).2.1 3 i 0), .ref (ad (0, 0))] := by
    simp [fset, nset]
  rw [e] at hat
  refine xRW.put (ce1 := xce G (sF S 3 i 0 v) ad z) h 21 i rfl hi ho rfl hat rfl (fun k1 i1 b1 hb1 hlt hne => ?_)
  by_cases hk : k1 = 21
  · subst hk
    have hi1 : i1 ≠ i := hne.resolve_left (fun q => q rfl)
    show some (xO 6 [.ref (ad (22, i1)), .int ((sF S 3 i 0 v).2.1 4 i1 0), .int ((sF S 3 i 0 v).2.1 3 i1 0), .ref (ad (0, 0))]) = some (xO 6 [.ref (ad (22, i1)), .int (S.2.1 4 i1 0), .int (S.2.1 3 i1 0), .ref (ad (0, 0))])
    simp [fset, nset, hi1]
  · have e2 : xce G (sF S 3 i 0 v) ad z i1 = (xce G S ad z i1).set 21 (xO 6 [.ref (ad (22, i1)), .int ((sF S 3 i 0 v).2.1 4 i1 0), .int ((sF S 3 i 0 v).2.1 3 i1 0), .ref (ad (0, 0))]) := rfl
    rw [e2, List.getElem?_set_ne (Ne.symm hk)]
theorem xs_22_a (h : xRX G A S ad z H) {i : Nat} (hi : i < S.1 1 0) {j : Nat} {v : Int32} (ho : xOff (ad (22, i)) H H1) (hat : xat G (ad (22, i)) (xA 0 4 (updV (fun k => .int (S.2.1 2 i k)) j (.int v))) H1) : xRX G A (sF S 2 i j v) ad z H1 := by
  have e : (xA 0 4 (updV (fun k => .int (S.2.1 2 i k)) j (.int v))) = xA 0 4 (fun k => .int ((sF S 2 i j v).2.1 2 i k)) := by
    congr 1; congr 1; congr 1; funext k; by_cases hk : k = j <;> simp [updV, fset, nset, lset, hk]
  rw [e] at hat
  refine xRW.put (ce1 := xce G (sF S 2 i j v) ad z) h 22 i rfl hi ho rfl hat rfl (fun k1 i1 b1 hb1 hlt hne => ?_)
  by_cases hk : k1 = 22
  · subst hk
    have hi1 : i1 ≠ i := hne.resolve_left (fun q => q rfl)
    show some (xA 0 4 (fun k => .int ((sF S 2 i j v).2.1 2 i1 k))) = some (xA 0 4 (fun k => .int (S.2.1 2 i1 k)))
    simp [fset, nset, hi1]
  · have e2 : xce G (sF S 2 i j v) ad z i1 = (xce G S ad z i1).set 22 (xA 0 4 (fun k => .int ((sF S 2 i j v).2.1 2 i1 k))) := rfl
    rw [e2, List.getElem?_set_ne (Ne.symm hk)]
theorem xs_23_0 (h : xRX G A S ad z H) {i : Nat} (hi : i < S.1 2 0) {v : Int32} (ho : xOff (ad (23, i)) H H1) (hat : xat G (ad (23, i)) (xO 7 ([.int (S.2.1 10 i 0), .int (S.2.1 11 i 0), .int (S.2.1 12 i 0), .int (S.2.1 13 i 0), .int (S.2.1 14 i 0), .int (S.2.1 15 i 0), .int (S.2.1 16 i 0), .int (S.2.1 17 i 0), .int (nI (S.1 6 i)), .ref (ad (24, i)), .ref (ad (25, i)), .ref (ad (0, 0))].set 0 (.int v))) H1) : xRX G A (sF S 10 i 0 v) ad z H1 := by
  have e : (xO 7 ([.int (S.2.1 10 i 0), .int (S.2.1 11 i 0), .int (S.2.1 12 i 0), .int (S.2.1 13 i 0), .int (S.2.1 14 i 0), .int (S.2.1 15 i 0), .int (S.2.1 16 i 0), .int (S.2.1 17 i 0), .int (nI (S.1 6 i)), .ref (ad (24, i)), .ref (ad (25, i)), .ref (ad (0, 0))].set 0 (.int v))) = xO 7 [.int ((sF S 10 i 0 v).2.1 10 i 0), .int ((sF S 10 i 0 v).2.1 11 i 0), .int ((sF S 10 i 0 v).2.1 12 i 0), .int ((sF S 10 i 0 v).2.1 13 i 0), .int ((sF S 10 i 0 v).2.1 14 i 0), .int ((sF S 10 i 0 v).2.1 15 i 0), .int ((sF S 10 i 0 v).2.1 16 i 0), .int ((sF S 10 i 0 v).2.1 17 i 0), .int (nI ((sF S 10 i 0 v).1 6 i)), .ref (ad (24, i)), .ref (ad (25, i)), .ref (ad (0, 0))] := by
    simp [fset, nset]
  rw [e] at hat
  refine xRW.put (ce1 := xce G (sF S 10 i 0 v) ad z) h 23 i rfl hi ho rfl hat rfl (fun k1 i1 b1 hb1 hlt hne => ?_)
  by_cases hk : k1 = 23
  · subst hk
    have hi1 : i1 ≠ i := hne.resolve_left (fun q => q rfl)
    show some (xO 7 [.int ((sF S 10 i 0 v).2.1 10 i1 0), .int ((sF S 10 i 0 v).2.1 11 i1 0), .int ((sF S 10 i 0 v).2.1 12 i1 0), .int ((sF S 10 i 0 v).2.1 13 i1 0), .int ((sF S 10 i 0 v).2.1 14 i1 0), .int ((sF S 10 i 0 v).2.1 15 i1 0), .int ((sF S 10 i 0 v).2.1 16 i1 0), .int ((sF S 10 i 0 v).2.1 17 i1 0), .int (nI ((sF S 10 i 0 v).1 6 i1)), .ref (ad (24, i1)), .ref (ad (25, i1)), .ref (ad (0, 0))]) = some (xO 7 [.int (S.2.1 10 i1 0), .int (S.2.1 11 i1 0), .int (S.2.1 12 i1 0), .int (S.2.1 13 i1 0), .int (S.2.1 14 i1 0), .int (S.2.1 15 i1 0), .int (S.2.1 16 i1 0), .int (S.2.1 17 i1 0), .int (nI (S.1 6 i1)), .ref (ad (24, i1)), .ref (ad (25, i1)), .ref (ad (0, 0))])
    simp [fset, nset, hi1]
  · have e2 : xce G (sF S 10 i 0 v) ad z i1 = (xce G S ad z i1).set 23 (xO 7 [.int ((sF S 10 i 0 v).2.1 10 i1 0), .int ((sF S 10 i 0 v).2.1 11 i1 0), .int ((sF S 10 i 0 v).2.1 12 i1 0), .int ((sF S 10 i 0 v).2.1 13 i1 0), .int ((sF S 10 i 0 v).2.1 14 i1 0), .int ((sF S 10 i 0 v).2.1 15 i1 0), .int ((sF S 10 i 0 v).2.1 16 i1 0), .int ((sF S 10 i 0 v).2.1 17 i1 0), .int (nI ((sF S 10 i 0 v).1 6 i1)), .ref (ad (24, i1)), .ref (ad (25, i1)), .ref (ad (0, 0))]) := rfl
    rw [e2, List.getElem?_set_ne (Ne.symm hk)]
theorem xs_23_1 (h : xRX G A S ad z H) {i : Nat} (hi : i < S.1 2 0) {v : Int32} (ho : xOff (ad (23, i)) H H1) (hat : xat G (ad (23, i)) (xO 7 ([.int (S.2.1 10 i 0), .int (S.2.1 11 i 0), .int (S.2.1 12 i 0), .int (S.2.1 13 i 0), .int (S.2.1 14 i 0), .int (S.2.1 15 i 0), .int (S.2.1 16 i 0), .int (S.2.1 17 i 0), .int (nI (S.1 6 i)), .ref (ad (24, i)), .ref (ad (25, i)), .ref (ad (0, 0))].set 1 (.int v))) H1) : xRX G A (sF S 11 i 0 v) ad z H1 := by
  have e : (xO 7 ([.int (S.2.1 10 i 0), .int (S.2.1 11 i 0), .int (S.2.1 12 i 0), .int (S.2.1 13 i 0), .int (S.2.1 14 i 0), .int (S.2.1 15 i 0), .int (S.2.1 16 i 0), .int (S.2.1 17 i 0), .int (nI (S.1 6 i)), .ref (ad (24, i)), .ref (ad (25, i)), .ref (ad (0, 0))].set 1 (.int v))) = xO 7 [.int ((sF S 11 i 0 v).2.1 10 i 0), .int ((sF S 11 i 0 v).2.1 11 i 0), .int ((sF S 11 i 0 v).2.1 12 i 0), .int ((sF S 11 i 0 v).2.1 13 i 0), .int ((sF S 11 i 0 v).2.1 14 i 0), .int ((sF S 11 i 0 v).2.1 15 i 0), .int ((sF S 11 i 0 v).2.1 16 i 0), .int ((sF S 11 i 0 v).2.1 17 i 0), .int (nI ((sF S 11 i 0 v).1 6 i)), .ref (ad (24, i)), .ref (ad (25, i)), .ref (ad (0, 0))] := by
    simp [fset, nset]
  rw [e] at hat
  refine xRW.put (ce1 := xce G (sF S 11 i 0 v) ad z) h 23 i rfl hi ho rfl hat rfl (fun k1 i1 b1 hb1 hlt hne => ?_)
  by_cases hk : k1 = 23
  · subst hk
    have hi1 : i1 ≠ i := hne.resolve_left (fun q => q rfl)
    show some (xO 7 [.int ((sF S 11 i 0 v).2.1 10 i1 0), .int ((sF S 11 i 0 v).2.1 11 i1 0), .int ((sF S 11 i 0 v).2.1 12 i1 0), .int ((sF S 11 i 0 v).2.1 13 i1 0), .int ((sF S 11 i 0 v).2.1 14 i1 0), .int ((sF S 11 i 0 v).2.1 15 i1 0), .int ((sF S 11 i 0 v).2.1 16 i1 0), .int ((sF S 11 i 0 v).2.1 17 i1 0), .int (nI ((sF S 11 i 0 v).1 6 i1)), .ref (ad (24, i1)), .ref (ad (25, i1)), .ref (ad (0, 0))]) = some (xO 7 [.int (S.2.1 10 i1 0), .int (S.2.1 11 i1 0), .int (S.2.1 12 i1 0), .int (S.2.1 13 i1 0), .int (S.2.1 14 i1 0), .int (S.2.1 15 i1 0), .int (S.2.1 16 i1 0), .int (S.2.1 17 i1 0), .int (nI (S.1 6 i1)), .ref (ad (24, i1)), .ref (ad (25, i1)), .ref (ad (0, 0))])
    simp [fset, nset, hi1]
  · have e2 : xce G (sF S 11 i 0 v) ad z i1 = (xce G S ad z i1).set 23 (xO 7 [.int ((sF S 11 i 0 v).2.1 10 i1 0), .int ((sF S 11 i 0 v).2.1 11 i1 0), .int ((sF S 11 i 0 v).2.1 12 i1 0), .int ((sF S 11 i 0 v).2.1 13 i1 0), .int ((sF S 11 i 0 v).2.1 14 i1 0), .int ((sF S 11 i 0 v).2.1 15 i1 0), .int ((sF S 11 i 0 v).2.1 16 i1 0), .int ((sF S 11 i 0 v).2.1 17 i1 0), .int (nI ((sF S 11 i 0 v).1 6 i1)), .ref (ad (24, i1)), .ref (ad (25, i1)), .ref (ad (0, 0))]) := rfl
    rw [e2, List.getElem?_set_ne (Ne.symm hk)]
theorem xs_23_2 (h : xRX G A S ad z H) {i : Nat} (hi : i < S.1 2 0) {v : Int32} (ho : xOff (ad (23, i)) H H1) (hat : xat G (ad (23, i)) (xO 7 ([.int (S.2.1 10 i 0), .int (S.2.1 11 i 0), .int (S.2.1 12 i 0), .int (S.2.1 13 i 0), .int (S.2.1 14 i 0), .int (S.2.1 15 i 0), .int (S.2.1 16 i 0), .int (S.2.1 17 i 0), .int (nI (S.1 6 i)), .ref (ad (24, i)), .ref (ad (25, i)), .ref (ad (0, 0))].set 2 (.int v))) H1) : xRX G A (sF S 12 i 0 v) ad z H1 := by
  have e : (xO 7 ([.int (S.2.1 10 i 0), .int (S.2.1 11 i 0), .int (S.2.1 12 i 0), .int (S.2.1 13 i 0), .int (S.2.1 14 i 0), .int (S.2.1 15 i 0), .int (S.2.1 16 i 0), .int (S.2.1 17 i 0), .int (nI (S.1 6 i)), .ref (ad (24, i)), .ref (ad (25, i)), .ref (ad (0, 0))].set 2 (.int v))) = xO 7 [.int ((sF S 12 i 0 v).2.1 10 i 0), .int ((sF S 12 i 0 v).2.1 11 i 0), .int ((sF S 12 i 0 v).2.1 12 i 0), .int ((sF S 12 i 0 v).2.1 13 i 0), .int ((sF S 12 i 0 v).2.1 14 i 0), .int ((sF S 12 i 0 v).2.1 15 i 0), .int ((sF S 12 i 0 v).2.1 16 i 0), .int ((sF S 12 i 0 v).2.1 17 i 0), .int (nI ((sF S 12 i 0 v).1 6 i)), .ref (ad (24, i)), .ref (ad (25, i)), .ref (ad (0, 0))] := by
    simp [fset, nset]
  rw [e] at hat
  refine xRW.put (ce1 := xce G (sF S 12 i 0 v) ad z) h 23 i rfl hi ho rfl hat rfl (fun k1 i1 b1 hb1 hlt hne => ?_)
  by_cases hk : k1 = 23
  · subst hk
    have hi1 : i1 ≠ i := hne.resolve_left (fun q => q rfl)
    show some (xO 7 [.int ((sF S 12 i 0 v).2.1 10 i1 0), .int ((sF S 12 i 0 v).2.1 11 i1 0), .int ((sF S 12 i 0 v).2.1 12 i1 0), .int ((sF S 12 i 0 v).2.1 13 i1 0), .int ((sF S 12 i 0 v).2.1 14 i1 0), .int ((sF S 12 i 0 v).2.1 15 i1 0), .int ((sF S 12 i 0 v).2.1 16 i1 0), .int ((sF S 12 i 0 v).2.1 17 i1 0), .int (nI ((sF S 12 i 0 v).1 6 i1)), .ref (ad (24, i1)), .ref (ad (25, i1)), .ref (ad (0, 0))]) = some (xO 7 [.int (S.2.1 10 i1 0), .int (S.2.1 11 i1 0), .int (S.2.1 12 i1 0), .int (S.2.1 13 i1 0), .int (S.2.1 14 i1 0), .int (S.2.1 15 i1 0), .int (S.2.1 16 i1 0), .int (S.2.1 17 i1 0), .int (nI (S.1 6 i1)), .ref (ad (24, i1)), .ref (ad (25, i1)), .ref (ad (0, 0))])
    simp [fset, nset, hi1]
  · have e2 : xce G (sF S 12 i 0 v) ad z i1 = (xce G S ad z i1).set 23 (xO 7 [.int ((sF S 12 i 0 v).2.1 10 i1 0), .int ((sF S 12 i 0 v).2.1 11 i1 0), .int ((sF S 12 i 0 v).2.1 12 i1 0), .int ((sF S 12 i 0 v).2.1 13 i1 0), .int ((sF S 12 i 0 v).2.1 14 i1 0), .int ((sF S 12 i 0 v).2.1 15 i1 0), .int ((sF S 12 i 0 v).2.1 16 i1 0), .int ((sF S 12 i 0 v).2.1 17 i1 0), .int (nI ((sF S 12 i 0 v).1 6 i1)), .ref (ad (24, i1)), .ref (ad (25, i1)), .ref (ad (0, 0))]) := rfl
    rw [e2, List.getElem?_set_ne (Ne.symm hk)]
theorem xs_23_3 (h : xRX G A S ad z H) {i : Nat} (hi : i < S.1 2 0) {v : Int32} (ho : xOff (ad (23, i)) H H1) (hat : xat G (ad (23, i)) (xO 7 ([.int (S.2.1 10 i 0), .int (S.2.1 11 i 0), .int (S.2.1 12 i 0), .int (S.2.1 13 i 0), .int (S.2.1 14 i 0), .int (S.2.1 15 i 0), .int (S.2.1 16 i 0), .int (S.2.1 17 i 0), .int (nI (S.1 6 i)), .ref (ad (24, i)), .ref (ad (25, i)), .ref (ad (0, 0))].set 3 (.int v))) H1) : xRX G A (sF S 13 i 0 v) ad z H1 := by
  have e : (xO 7 ([.int (S.2.1 10 i 0), .int (S.2.1 11 i 0), .int (S.2.1 12 i 0), .int (S.2.1 13 i 0), .int (S.2.1 14 i 0), .int (S.2.1 15 i 0), .int (S.2.1 16 i 0), .int (S.2.1 17 i 0), .int (nI (S.1 6 i)), .ref (ad (24, i)), .ref (ad (25, i)), .ref (ad (0, 0))].set 3 (.int v))) = xO 7 [.int ((sF S 13 i 0 v).2.1 10 i 0), .int ((sF S 13 i 0 v).2.1 11 i 0), .int ((sF S 13 i 0 v).2.1 12 i 0), .int ((sF S 13 i 0 v).2.1 13 i 0), .int ((sF S 13 i 0 v).2.1 14 i 0), .int ((sF S 13 i 0 v).2.1 15 i 0), .int ((sF S 13 i 0 v).2.1 16 i 0), .int ((sF S 13 i 0 v).2.1 17 i 0), .int (nI ((sF S 13 i 0 v).1 6 i)), .ref (ad (24, i)), .ref (ad (25, i)), .ref (ad (0, 0))] := by
    simp [fset, nset]
  rw [e] at hat
  refine xRW.put (ce1 := xce G (sF S 13 i 0 v) ad z) h 23 i rfl hi ho rfl hat rfl (fun k1 i1 b1 hb1 hlt hne => ?_)
  by_cases hk : k1 = 23
  · subst hk
    have hi1 : i1 ≠ i := hne.resolve_left (fun q => q rfl)
    show some (xO 7 [.int ((sF S 13 i 0 v).2.1 10 i1 0), .int ((sF S 13 i 0 v).2.1 11 i1 0), .int ((sF S 13 i 0 v).2.1 12 i1 0), .int ((sF S 13 i 0 v).2.1 13 i1 0), .int ((sF S 13 i 0 v).2.1 14 i1 0), .int ((sF S 13 i 0 v).2.1 15 i1 0), .int ((sF S 13 i 0 v).2.1 16 i1 0), .int ((sF S 13 i 0 v).2.1 17 i1 0), .int (nI ((sF S 13 i 0 v).1 6 i1)), .ref (ad (24, i1)), .ref (ad (25, i1)), .ref (ad (0, 0))]) = some (xO 7 [.int (S.2.1 10 i1 0), .int (S.2.1 11 i1 0), .int (S.2.1 12 i1 0), .int (S.2.1 13 i1 0), .int (S.2.1 14 i1 0), .int (S.2.1 15 i1 0), .int (S.2.1 16 i1 0), .int (S.2.1 17 i1 0), .int (nI (S.1 6 i1)), .ref (ad (24, i1)), .ref (ad (25, i1)), .ref (ad (0, 0))])
    simp [fset, nset, hi1]
  · have e2 : xce G (sF S 13 i 0 v) ad z i1 = (xce G S ad z i1).set 23 (xO 7 [.int ((sF S 13 i 0 v).2.1 10 i1 0), .int ((sF S 13 i 0 v).2.1 11 i1 0), .int ((sF S 13 i 0 v).2.1 12 i1 0), .int ((sF S 13 i 0 v).2.1 13 i1 0), .int ((sF S 13 i 0 v).2.1 14 i1 0), .int ((sF S 13 i 0 v).2.1 15 i1 0), .int ((sF S 13 i 0 v).2.1 16 i1 0), .int ((sF S 13 i 0 v).2.1 17 i1 0), .int (nI ((sF S 13 i 0 v).1 6 i1)), .ref (ad (24, i1)), .ref (ad (25, i1)), .ref (ad (0, 0))]) := rfl
    rw [e2, List.getElem?_set_ne (Ne.symm hk)]
theorem xs_23_4 (h : xRX G A S ad z H) {i : Nat} (hi : i < S.1 2 0) {v : Int32} (ho : xOff (ad (23, i)) H H1) (hat : xat G (ad (23, i)) (xO 7 ([.int (S.2.1 10 i 0), .int (S.2.1 11 i 0), .int (S.2.1 12 i 0), .int (S.2.1 13 i 0), .int (S.2.1 14 i 0), .int (S.2.1 15 i 0), .int (S.2.1 16 i 0), .int (S.2.1 17 i 0), .int (nI (S.1 6 i)), .ref (ad (24, i)), .ref (ad (25, i)), .ref (ad (0, 0))].set 4 (.int v))) H1) : xRX G A (sF S 14 i 0 v) ad z H1 := by
  have e : (xO 7 ([.int (S.2.1 10 i 0), .int (S.2.1 11 i 0), .int (S.2.1 12 i 0), .int (S.2.1 13 i 0), .int (S.2.1 14 i 0), .int (S.2.1 15 i 0), .int (S.2.1 16 i 0), .int (S.2.1 17 i 0), .int (nI (S.1 6 i)), .ref (ad (24, i)), .ref (ad (25, i)), .ref (ad (0, 0))].set 4 (.int v))) = xO 7 [.int ((sF S 14 i 0 v).2.1 10 i 0), .int ((sF S 14 i 0 v).2.1 11 i 0), .int ((sF S 14 i 0 v).2.1 12 i 0), .int ((sF S 14 i 0 v).2.1 13 i 0), .int ((sF S 14 i 0 v).2.1 14 i 0), .int ((sF S 14 i 0 v).2.1 15 i 0), .int ((sF S 14 i 0 v).2.1 16 i 0), .int ((sF S 14 i 0 v).2.1 17 i 0), .int (nI ((sF S 14 i 0 v).1 6 i)), .ref (ad (24, i)), .ref (ad (25, i)), .ref (ad (0, 0))] := by
    simp [fset, nset]
  rw [e] at hat
  refine xRW.put (ce1 := xce G (sF S 14 i 0 v) ad z) h 23 i rfl hi ho rfl hat rfl (fun k1 i1 b1 hb1 hlt hne => ?_)
  by_cases hk : k1 = 23
  · subst hk
    have hi1 : i1 ≠ i := hne.resolve_left (fun q => q rfl)
    show some (xO 7 [.int ((sF S 14 i 0 v).2.1 10 i1 0), .int ((sF S 14 i 0 v).2.1 11 i1 0), .int ((sF S 14 i 0 v).2.1 12 i1 0), .int ((sF S 14 i 0 v).2.1 13 i1 0), .int ((sF S 14 i 0 v).2.1 14 i1 0), .int ((sF S 14 i 0 v).2.1 15 i1 0), .int ((sF S 14 i 0 v).2.1 16 i1 0), .int ((sF S 14 i 0 v).2.1 17 i1 0), .int (nI ((sF S 14 i 0 v).1 6 i1)), .ref (ad (24, i1)), .ref (ad (25, i1)), .ref (ad (0, 0))]) = some (xO 7 [.int (S.2.1 10 i1 0), .int (S.2.1 11 i1 0), .int (S.2.1 12 i1 0), .int (S.2.1 13 i1 0), .int (S.2.1 14 i1 0), .int (S.2.1 15 i1 0), .int (S.2.1 16 i1 0), .int (S.2.1 17 i1 0), .int (nI (S.1 6 i1)), .ref (ad (24, i1)), .ref (ad (25, i1)), .ref (ad (0, 0))])
    simp [fset, nset, hi1]
  · have e2 : xce G (sF S 14 i 0 v) ad z i1 = (xce G S ad z i1).set 23 (xO 7 [.int ((sF S 14 i 0 v).2.1 10 i1 0), .int ((sF S 14 i 0 v).2.1 11 i1 0), .int ((sF S 14 i 0 v).2.1 12 i1 0), .int ((sF S 14 i 0 v).2.1 13 i1 0), .int ((sF S 14 i 0 v).2.1 14 i1 0), .int ((sF S 14 i 0 v).2.1 15 i1 0), .int ((sF S 14 i 0 v).2.1 16 i1 0), .int ((sF S 14 i 0 v).2.1 17 i1 0), .int (nI ((sF S 14 i 0 v).1 6 i1)), .ref (ad (24, i1)), .ref (ad (25, i1)), .ref (ad (0, 0))]) := rfl
    rw [e2, List.getElem?_set_ne (Ne.symm hk)]
theorem xs_23_5 (h : xRX G A S ad z H) {i : Nat} (hi : i < S.1 2 0) {v : Int32} (ho : xOff (ad (23, i)) H H1) (hat : xat G (ad (23, i)) (xO 7 ([.int (S.2.1 10 i 0), .int (S.2.1 11 i 0), .int (S.2.1 12 i 0), .int (S.2.1 13 i 0), .int (S.2.1 14 i 0), .int (S.2.1 15 i 0), .int (S.2.1 16 i 0), .int (S.2.1 17 i 0), .int (nI (S.1 6 i)), .ref (ad (24, i)), .ref (ad (25, i)), .ref (ad (0, 0))].set 5 (.int v))) H1) : xRX G A (sF S 15 i 0 v) ad z H1 := by
  have e : (xO 7 ([.int (S.2.1 10 i 0), .int (S.2.1 11 i 0), .int (S.2.1 12 i 0), .int (S.2.1 13 i 0), .int (S.2.1 14 i 0), .int (S.2.1 15 i 0), .int (S.2.1 16 i 0), .int (S.2.1 17 i 0), .int (nI (S.1 6 i)), .ref (ad (24, i)), .ref (ad (25, i)), .ref (ad (0, 0))].set 5 (.int v))) = xO 7 [.int ((sF S 15 i 0 v).2.1 10 i 0), .int ((sF S 15 i 0 v).2.1 11 i 0), .int ((sF S 15 i 0 v).2.1 12 i 0), .int ((sF S 15 i 0 v).2.1 13 i 0), .int ((sF S 15 i 0 v).2.1 14 i 0), .int ((sF S 15 i 0 v).2.1 15 i 0), .int ((sF S 15 i 0 v).2.1 16 i 0), .int ((sF S 15 i 0 v).2.1 17 i 0), .int (nI ((sF S 15 i 0 v).1 6 i)), .ref (ad (24, i)), .ref (ad (25, i)), .ref (ad (0, 0))] := by
    simp [fset, nset]
  rw [e] at hat
  refine xRW.put (ce1 := xce G (sF S 15 i 0 v) ad z) h 23 i rfl hi ho rfl hat rfl (fun k1 i1 b1 hb1 hlt hne => ?_)
  by_cases hk : k1 = 23
  · subst hk
    have hi1 : i1 ≠ i := hne.resolve_left (fun q => q rfl)
    show some (xO 7 [.int ((sF S 15 i 0 v).2.1 10 i1 0), .int ((sF S 15 i 0 v).2.1 11 i1 0), .int ((sF S 15 i 0 v).2.1 12 i1 0), .int ((sF S 15 i 0 v).2.1 13 i1 0), .int ((sF S 15 i 0 v).2.1 14 i1 0), .int ((sF S 15 i 0 v).2.1 15 i1 0), .int ((sF S 15 i 0 v).2.1 16 i1 0), .int ((sF S 15 i 0 v).2.1 17 i1 0), .int (nI ((sF S 15 i 0 v).1 6 i1)), .ref (ad (24, i1)), .ref (ad (25, i1)), .ref (ad (0, 0))]) = some (xO 7 [.int (S.2.1 10 i1 0), .int (S.2.1 11 i1 0), .int (S.2.1 12 i1 0), .int (S.2.1 13 i1 0), .int (S.2.1 14 i1 0), .int (S.2.1 15 i1 0), .int (S.2.1 16 i1 0), .int (S.2.1 17 i1 0), .int (nI (S.1 6 i1)), .ref (ad (24, i1)), .ref (ad (25, i1)), .ref (ad (0, 0))])
    simp [fset, nset, hi1]
  · have e2 : xce G (sF S 15 i 0 v) ad z i1 = (xce G S ad z i1).set 23 (xO 7 [.int ((sF S 15 i 0 v).2.1 10 i1 0), .int ((sF S 15 i 0 v).2.1 11 i1 0), .int ((sF S 15 i 0 v).2.1 12 i1 0), .int ((sF S 15 i 0 v).2.1 13 i1 0), .int ((sF S 15 i 0 v).2.1 14 i1 0), .int ((sF S 15 i 0 v).2.1 15 i1 0), .int ((sF S 15 i 0 v).2.1 16 i1 0), .int ((sF S 15 i 0 v).2.1 17 i1 0), .int (nI ((sF S 15 i 0 v).1 6 i1)), .ref (ad (24, i1)), .ref (ad (25, i1)), .ref (ad (0, 0))]) := rfl
    rw [e2, List.getElem?_set_ne (Ne.symm hk)]
theorem xs_23_6 (h : xRX G A S ad z H) {i : Nat} (hi : i < S.1 2 0) {v : Int32} (ho : xOff (ad (23, i)) H H1) (hat : xat G (ad (23, i)) (xO 7 ([.int (S.2.1 10 i 0), .int (S.2.1 11 i 0), .int (S.2.1 12 i 0), .int (S.2.1 13 i 0), .int (S.2.1 14 i 0), .int (S.2.1 15 i 0), .int (S.2.1 16 i 0), .int (S.2.1 17 i 0), .int (nI (S.1 6 i)), .ref (ad (24, i)), .ref (ad (25, i)), .ref (ad (0, 0))].set 6 (.int v))) H1) : xRX G A (sF S 16 i 0 v) ad z H1 := by
  have e : (xO 7 ([.int (S.2.1 10 i 0), .int (S.2.1 11 i 0), .int (S.2.1 12 i 0), .int (S.2.1 13 i 0), .int (S.2.1 14 i 0), .int (S.2.1 15 i 0), .int (S.2.1 16 i 0), .int (S.2.1 17 i 0), .int (nI (S.1 6 i)), .ref (ad (24, i)), .ref (ad (25, i)), .ref (ad (0, 0))].set 6 (.int v))) = xO 7 [.int ((sF S 16 i 0 v).2.1 10 i 0), .int ((sF S 16 i 0 v).2.1 11 i 0), .int ((sF S 16 i 0 v).2.1 12 i 0), .int ((sF S 16 i 0 v).2.1 13 i 0), .int ((sF S 16 i 0 v).2.1 14 i 0), .int ((sF S 16 i 0 v).2.1 15 i 0), .int ((sF S 16 i 0 v).2.1 16 i 0), .int ((sF S 16 i 0 v).2.1 17 i 0), .int (nI ((sF S 16 i 0 v).1 6 i)), .ref (ad (24, i)), .ref (ad (25, i)), .ref (ad (0, 0))] := by
    simp [fset, nset]
  rw [e] at hat
  refine xRW.put (ce1 := xce G (sF S 16 i 0 v) ad z) h 23 i rfl hi ho rfl hat rfl (fun k1 i1 b1 hb1 hlt hne => ?_)
  by_cases hk : k1 = 23
  · subst hk
    have hi1 : i1 ≠ i := hne.resolve_left (fun q => q rfl)
    show some (xO 7 [.int ((sF S 16 i 0 v).2.1 10 i1 0), .int ((sF S 16 i 0 v).2.1 11 i1 0), .int ((sF S 16 i 0 v).2.1 12 i1 0), .int ((sF S 16 i 0 v).2.1 13 i1 0), .int ((sF S 16 i 0 v).2.1 14 i1 0), .int ((sF S 16 i 0 v).2.1 15 i1 0), .int ((sF S 16 i 0 v).2.1 16 i1 0), .int ((sF S 16 i 0 v).2.1 17 i1 0), .int (nI ((sF S 16 i 0 v).1 6 i1)), .ref (ad (24, i1)), .ref (ad (25, i1)), .ref (ad (0, 0))]) = some (xO 7 [.int (S.2.1 10 i1 0), .int (S.2.1 11 i1 0), .int (S.2.1 12 i1 0), .int (S.2.1 13 i1 0), .int (S.2.1 14 i1 0), .int (S.2.1 15 i1 0), .int (S.2.1 16 i1 0), .int (S.2.1 17 i1 0), .int (nI (S.1 6 i1)), .ref (ad (24, i1)), .ref (ad (25, i1)), .ref (ad (0, 0))])
    simp [fset, nset, hi1]
  · have e2 : xce G (sF S 16 i 0 v) ad z i1 = (xce G S ad z i1).set 23 (xO 7 [.int ((sF S 16 i 0 v).2.1 10 i1 0), .int ((sF S 16 i 0 v).2.1 11 i1 0), .int ((sF S 16 i 0 v).2.1 12 i1 0), .int ((sF S 16 i 0 v).2.1 13 i1 0), .int ((sF S 16 i 0 v).2.1 14 i1 0), .int ((sF S 16 i 0 v).2.1 15 i1 0), .int ((sF S 16 i 0 v).2.1 16 i1 0), .int ((sF S 16 i 0 v).2.1 17 i1 0), .int (nI ((sF S 16 i 0 v).1 6 i1)), .ref (ad (24, i1)), .ref (ad (25, i1)), .ref (ad (0, 0))]) := rfl
    rw [e2, List.getElem?_set_ne (Ne.symm hk)]
theorem xs_23_7 (h : xRX G A S ad z H) {i : Nat} (hi : i < S.1 2 0) {v : Int32} (ho : xOff (ad (23, i)) H H1) (hat : xat G (ad (23, i)) (xO 7 ([.int (S.2.1 10 i 0), .int (S.2.1 11 i 0), .int (S.2.1 12 i 0), .int (S.2.1 13 i 0), .int (S.2.1 14 i 0), .int (S.2.1 15 i 0), .int (S.2.1 16 i 0), .int (S.2.1 17 i 0), .int (nI (S.1 6 i)), .ref (ad (24, i)), .ref (ad (25, i)), .ref (ad (0, 0))].set 7 (.int v))) H1) : xRX G A (sF S 17 i 0 v) ad z H1 := by
  have e : (xO 7 ([.int (S.2.1 10 i 0), .int (S.2.1 11 i 0), .int (S.2.1 12 i 0), .int (S.2.1 13 i 0), .int (S.2.1 14 i 0), .int (S.2.1 15 i 0), .int (S.2.1 16 i 0), .int (S.2.1 17 i 0), .int (nI (S.1 6 i)), .ref (ad (24, i)), .ref (ad (25, i)), .ref (ad (0, 0))].set 7 (.int v))) = xO 7 [.int ((sF S 17 i 0 v).2.1 10 i 0), .int ((sF S 17 i 0 v).2.1 11 i 0), .int ((sF S 17 i 0 v).2.1 12 i 0), .int ((sF S 17 i 0 v).2.1 13 i 0), .int ((sF S 17 i 0 v).2.1 14 i 0), .int ((sF S 17 i 0 v).2.1 15 i 0), .int ((sF S 17 i 0 v).2.1 16 i 0), .int ((sF S 17 i 0 v).2.1 17 i 0), .int (nI ((sF S 17 i 0 v).1 6 i)), .ref (ad (24, i)), .ref (ad (25, i)), .ref (ad (0, 0))] := by
    simp [fset, nset]
  rw [e] at hat
  refine xRW.put (ce1 := xce G (sF S 17 i 0 v) ad z) h 23 i rfl hi ho rfl hat rfl (fun k1 i1 b1 hb1 hlt hne => ?_)
  by_cases hk : k1 = 23
  · subst hk
    have hi1 : i1 ≠ i := hne.resolve_left (fun q => q rfl)
    show some (xO 7 [.int ((sF S 17 i 0 v).2.1 10 i1 0), .int ((sF S 17 i 0 v).2.1 11 i1 0), .int ((sF S 17 i 0 v).2.1 12 i1 0), .int ((sF S 17 i 0 v).2.1 13 i1 0), .int ((sF S 17 i 0 v).2.1 14 i1 0), .int ((sF S 17 i 0 v).2.1 15 i1 0), .int ((sF S 17 i 0 v).2.1 16 i1 0), .int ((sF S 17 i 0 v).2.1 17 i1 0), .int (nI ((sF S 17 i 0 v).1 6 i1)), .ref (ad (24, i1)), .ref (ad (25, i1)), .ref (ad (0, 0))]) = some (xO 7 [.int (S.2.1 10 i1 0), .int (S.2.1 11 i1 0), .int (S.2.1 12 i1 0), .int (S.2.1 13 i1 0), .int (S.2.1 14 i1 0), .int (S.2.1 15 i1 0), .int (S.2.1 16 i1 0), .int (S.2.1 17 i1 0), .int (nI (S.1 6 i1)), .ref (ad (24, i1)), .ref (ad (25, i1)), .ref (ad (0, 0))])
    simp [fset, nset, hi1]
  · have e2 : xce G (sF S 17 i 0 v) ad z i1 = (xce G S ad z i1).set 23 (xO 7 [.int ((sF S 17 i 0 v).2.1 10 i1 0), .int ((sF S 17 i 0 v).2.1 11 i1 0), .int ((sF S 17 i 0 v).2.1 12 i1 0), .int ((sF S 17 i 0 v).2.1 13 i1 0), .int ((sF S 17 i 0 v).2.1 14 i1 0), .int ((sF S 17 i 0 v).2.1 15 i1 0), .int ((sF S 17 i 0 v).2.1 16 i1 0), .int ((sF S 17 i 0 v).2.1 17 i1 0), .int (nI ((sF S 17 i 0 v).1 6 i1)), .ref (ad (24, i1)), .ref (ad (25, i1)), .ref (ad (0, 0))]) := rfl
    rw [e2, List.getElem?_set_ne (Ne.symm hk)]
theorem xs_23_8 (h : xRX G A S ad z H) {i : Nat} (hi : i < S.1 2 0) {v : Nat} (ho : xOff (ad (23, i)) H H1) (hat : xat G (ad (23, i)) (xO 7 ([.int (S.2.1 10 i 0), .int (S.2.1 11 i 0), .int (S.2.1 12 i 0), .int (S.2.1 13 i 0), .int (S.2.1 14 i 0), .int (S.2.1 15 i 0), .int (S.2.1 16 i 0), .int (S.2.1 17 i 0), .int (nI (S.1 6 i)), .ref (ad (24, i)), .ref (ad (25, i)), .ref (ad (0, 0))].set 8 (.int (nI v)))) H1) : xRX G A (sN S 6 i v) ad z H1 := by
  have e : (xO 7 ([.int (S.2.1 10 i 0), .int (S.2.1 11 i 0), .int (S.2.1 12 i 0), .int (S.2.1 13 i 0), .int (S.2.1 14 i 0), .int (S.2.1 15 i 0), .int (S.2.1 16 i 0), .int (S.2.1 17 i 0), .int (nI (S.1 6 i)), .ref (ad (24, i)), .ref (ad (25, i)), .ref (ad (0, 0))].set 8 (.int (nI v)))) = xO 7 [.int ((sN S 6 i v).2.1 10 i 0), .int ((sN S 6 i v).2.1 11 i 0), .int ((sN S 6 i v).2.1 12 i 0), .int ((sN S 6 i v).2.1 13 i 0), .int ((sN S 6 i v).2.1 14 i 0), .int ((sN S 6 i v).2.1 15 i 0), .int ((sN S 6 i v).2.1 16 i 0), .int ((sN S 6 i v).2.1 17 i 0), .int (nI ((sN S 6 i v).1 6 i)), .ref (ad (24, i)), .ref (ad (25, i)), .ref (ad (0, 0))] := by
    simp [fset, nset]
  rw [e] at hat
  refine xRW.put (ce1 := xce G (sN S 6 i v) ad z) h 23 i rfl hi ho rfl hat rfl (fun k1 i1 b1 hb1 hlt hne => ?_)
  by_cases hk : k1 = 23
  · subst hk
    have hi1 : i1 ≠ i := hne.resolve_left (fun q => q rfl)
    show some (xO 7 [.int ((sN S 6 i v).2.1 10 i1 0), .int ((sN S 6 i v).2.1 11 i1 0), .int ((sN S 6 i v).2.1 12 i1 0), .int ((sN S 6 i v).2.1 13 i1 0), .int ((sN S 6 i v).2.1 14 i1 0), .int ((sN S 6 i v).2.1 15 i1 0), .int ((sN S 6 i v).2.1 16 i1 0), .int ((sN S 6 i v).2.1 17 i1 0), .int (nI ((sN S 6 i v).1 6 i1)), .ref (ad (24, i1)), .ref (ad (25, i1)), .ref (ad (0, 0))]) = some (xO 7 [.int (S.2.1 10 i1 0), .int (S.2.1 11 i1 0), .int (S.2.1 12 i1 0), .int (S.2.1 13 i1 0), .int (S.2.1 14 i1 0), .int (S.2.1 15 i1 0), .int (S.2.1 16 i1 0), .int (S.2.1 17 i1 0), .int (nI (S.1 6 i1)), .ref (ad (24, i1)), .ref (ad (25, i1)), .ref (ad (0, 0))])
    simp [fset, nset, hi1]
  · have e2 : xce G (sN S 6 i v) ad z i1 = (xce G S ad z i1).set 23 (xO 7 [.int ((sN S 6 i v).2.1 10 i1 0), .int ((sN S 6 i v).2.1 11 i1 0), .int ((sN S 6 i v).2.1 12 i1 0), .int ((sN S 6 i v).2.1 13 i1 0), .int ((sN S 6 i v).2.1 14 i1 0), .int ((sN S 6 i v).2.1 15 i1 0), .int ((sN S 6 i v).2.1 16 i1 0), .int ((sN S 6 i v).2.1 17 i1 0), .int (nI ((sN S 6 i v).1 6 i1)), .ref (ad (24, i1)), .ref (ad (25, i1)), .ref (ad (0, 0))]) := rfl
    rw [e2, List.getElem?_set_ne (Ne.symm hk)]
theorem xs_24_a (h : xRX G A S ad z H) {i : Nat} (hi : i < S.1 2 0) {j : Nat} {v : Int32} (ho : xOff (ad (24, i)) H H1) (hat : xat G (ad (24, i)) (xA 0 5 (updV (fun k => .int (S.2.1 18 i k)) j (.int v))) H1) : xRX G A (sF S 18 i j v) ad z H1 := by
  have e : (xA 0 5 (updV (fun k => .int (S.2.1 18 i k)) j (.int v))) = xA 0 5 (fun k => .int ((sF S 18 i j v).2.1 18 i k)) := by
    congr 1; congr 1; congr 1; funext k; by_cases hk : k = j <;> simp [updV, fset, nset, lset, hk]
  rw [e] at hat
  refine xRW.put (ce1 := xce G (sF S 18 i j v) ad z) h 24 i rfl hi ho rfl hat rfl (fun k1 i1 b1 hb1 hlt hne => ?_)
  by_cases hk : k1 = 24
  · subst hk
    have hi1 : i1 ≠ i := hne.resolve_left (fun q => q rfl)
    show some (xA 0 5 (fun k => .int ((sF S 18 i j v).2.1 18 i1 k))) = some (xA 0 5 (fun k => .int (S.2.1 18 i1 k)))
    simp [fset, nset, hi1]
  · have e2 : xce G (sF S 18 i j v) ad z i1 = (xce G S ad z i1).set 24 (xA 0 5 (fun k => .int ((sF S 18 i j v).2.1 18 i1 k))) := rfl
    rw [e2, List.getElem?_set_ne (Ne.symm hk)]
theorem xs_25_a (h : xRX G A S ad z H) {i : Nat} (hi : i < S.1 2 0) {j : Nat} {v : Int32} (ho : xOff (ad (25, i)) H H1) (hat : xat G (ad (25, i)) (xA 0 5 (updV (fun k => .int (S.2.1 19 i k)) j (.int v))) H1) : xRX G A (sF S 19 i j v) ad z H1 := by
  have e : (xA 0 5 (updV (fun k => .int (S.2.1 19 i k)) j (.int v))) = xA 0 5 (fun k => .int ((sF S 19 i j v).2.1 19 i k)) := by
    congr 1; congr 1; congr 1; funext k; by_cases hk : k = j <;> simp [updV, fset, nset, lset, hk]
  rw [e] at hat
  refine xRW.put (ce1 := xce G (sF S 19 i j v) ad z) h 25 i rfl hi ho rfl hat rfl (fun k1 i1 b1 hb1 hlt hne => ?_)
  by_cases hk : k1 = 25
  · subst hk
    have hi1 : i1 ≠ i := hne.resolve_left (fun q => q rfl)
    show some (xA 0 5 (fun k => .int ((sF S 19 i j v).2.1 19 i1 k))) = some (xA 0 5 (fun k => .int (S.2.1 19 i1 k)))
    simp [fset, nset, hi1]
  · have e2 : xce G (sF S 19 i j v) ad z i1 = (xce G S ad z i1).set 25 (xA 0 5 (fun k => .int ((sF S 19 i j v).2.1 19 i1 k))) := rfl
    rw [e2, List.getElem?_set_ne (Ne.symm hk)]
theorem xs_26_0 (h : xRX G A S ad z H) {i : Nat} (hi : i < S.1 3 0) {v : Int32} (ho : xOff (ad (26, i)) H H1) (hat : xat G (ad (26, i)) (xO 8 ([.int (S.2.1 20 i 0), .int (S.2.1 21 i 0), .int (S.2.1 22 i 0)].set 0 (.int v))) H1) : xRX G A (sF S 20 i 0 v) ad z H1 := by
  have e : (xO 8 ([.int (S.2.1 20 i 0), .int (S.2.1 21 i 0), .int (S.2.1 22 i 0)].set 0 (.int v))) = xO 8 [.int ((sF S 20 i 0 v).2.1 20 i 0), .int ((sF S 20 i 0 v).2.1 21 i 0), .int ((sF S 20 i 0 v).2.1 22 i 0)] := by
    simp [fset, nset]
  rw [e] at hat
  refine xRW.put (ce1 := xce G (sF S 20 i 0 v) ad z) h 26 i rfl hi ho rfl hat rfl (fun k1 i1 b1 hb1 hlt hne => ?_)
  by_cases hk : k1 = 26
  · subst hk
    have hi1 : i1 ≠ i := hne.resolve_left (fun q => q rfl)
    show some (xO 8 [.int ((sF S 20 i 0 v).2.1 20 i1 0), .int ((sF S 20 i 0 v).2.1 21 i1 0), .int ((sF S 20 i 0 v).2.1 22 i1 0)]) = some (xO 8 [.int (S.2.1 20 i1 0), .int (S.2.1 21 i1 0), .int (S.2.1 22 i1 0)])
    simp [fset, nset, hi1]
  · have e2 : xce G (sF S 20 i 0 v) ad z i1 = (xce G S ad z i1).set 26 (xO 8 [.int ((sF S 20 i 0 v).2.1 20 i1 0), .int ((sF S 20 i 0 v).2.1 21 i1 0), .int ((sF S 20 i 0 v).2.1 22 i1 0)]) := rfl
    rw [e2, List.getElem?_set_ne (Ne.symm hk)]
theorem xs_26_1 (h : xRX G A S ad z H) {i : Nat} (hi : i < S.1 3 0) {v : Int32} (ho : xOff (ad (26, i)) H H1) (hat : xat G (ad (26, i)) (xO 8 ([.int (S.2.1 20 i 0), .int (S.2.1 21 i 0), .int (S.2.1 22 i 0)].set 1 (.int v))) H1) : xRX G A (sF S 21 i 0 v) ad z H1 := by
  have e : (xO 8 ([.int (S.2.1 20 i 0), .int (S.2.1 21 i 0), .int (S.2.1 22 i 0)].set 1 (.int v))) = xO 8 [.int ((sF S 21 i 0 v).2.1 20 i 0), .int ((sF S 21 i 0 v).2.1 21 i 0), .int ((sF S 21 i 0 v).2.1 22 i 0)] := by
    simp [fset, nset]
  rw [e] at hat
  refine xRW.put (ce1 := xce G (sF S 21 i 0 v) ad z) h 26 i rfl hi ho rfl hat rfl (fun k1 i1 b1 hb1 hlt hne => ?_)
  by_cases hk : k1 = 26
  · subst hk
    have hi1 : i1 ≠ i := hne.resolve_left (fun q => q rfl)
    show some (xO 8 [.int ((sF S 21 i 0 v).2.1 20 i1 0), .int ((sF S 21 i 0 v).2.1 21 i1 0), .int ((sF S 21 i 0 v).2.1 22 i1 0)]) = some (xO 8 [.int (S.2.1 20 i1 0), .int (S.2.1 21 i1 0), .int (S.2.1 22 i1 0)])
    simp [fset, nset, hi1]
  · have e2 : xce G (sF S 21 i 0 v) ad z i1 = (xce G S ad z i1).set 26 (xO 8 [.int ((sF S 21 i 0 v).2.1 20 i1 0), .int ((sF S 21 i 0 v).2.1 21 i1 0), .int ((sF S 21 i 0 v).2.1 22 i1 0)]) := rfl
    rw [e2, List.getElem?_set_ne (Ne.symm hk)]
theorem xs_26_2 (h : xRX G A S ad z H) {i : Nat} (hi : i < S.1 3 0) {v : Int32} (ho : xOff (ad (26, i)) H H1) (hat : xat G (ad (26, i)) (xO 8 ([.int (S.2.1 20 i 0), .int (S.2.1 21 i 0), .int (S.2.1 22 i 0)].set 2 (.int v))) H1) : xRX G A (sF S 22 i 0 v) ad z H1 := by
  have e : (xO 8 ([.int (S.2.1 20 i 0), .int (S.2.1 21 i 0), .int (S.2.1 22 i 0)].set 2 (.int v))) = xO 8 [.int ((sF S 22 i 0 v).2.1 20 i 0), .int ((sF S 22 i 0 v).2.1 21 i 0), .int ((sF S 22 i 0 v).2.1 22 i 0)] := by
    simp [fset, nset]
  rw [e] at hat
  refine xRW.put (ce1 := xce G (sF S 22 i 0 v) ad z) h 26 i rfl hi ho rfl hat rfl (fun k1 i1 b1 hb1 hlt hne => ?_)
  by_cases hk : k1 = 26
  · subst hk
    have hi1 : i1 ≠ i := hne.resolve_left (fun q => q rfl)
    show some (xO 8 [.int ((sF S 22 i 0 v).2.1 20 i1 0), .int ((sF S 22 i 0 v).2.1 21 i1 0), .int ((sF S 22 i 0 v).2.1 22 i1 0)]) = some (xO 8 [.int (S.2.1 20 i1 0), .int (S.2.1 21 i1 0), .int (S.2.1 22 i1 0)])
    simp [fset, nset, hi1]
  · have e2 : xce G (sF S 22 i 0 v) ad z i1 = (xce G S ad z i1).set 26 (xO 8 [.int ((sF S 22 i 0 v).2.1 20 i1 0), .int ((sF S 22 i 0 v).2.1 21 i1 0), .int ((sF S 22 i 0 v).2.1 22 i1 0)]) := rfl
    rw [e2, List.getElem?_set_ne (Ne.symm hk)]
theorem xs_28_a (h : xRX G A S ad z H) {j : Nat} {v : Value} (ho : xOff (ad (28, 0)) H H1) (hat : xat G (ad (28, 0)) (xA 8 150 (updV z.1 j (v))) H1) : xRX G A S ad (updV z.1 j v, z.2.1, z.2.2) H1 := by
  have e : (xA 8 150 (updV z.1 j (v))) = xA 8 150 (updV z.1 j v, z.2.1, z.2.2).1 := by
    rfl
  rw [e] at hat
  refine xRW.put (ce1 := xce G S ad (updV z.1 j v, z.2.1, z.2.2)) h 28 0 rfl (Nat.zero_lt_one) ho rfl hat rfl (fun k1 i1 b1 hb1 hlt hne => ?_)
  by_cases hk : k1 = 28
  · subst hk
    have hi1 : i1 ≠ 0 := hne.resolve_left (fun q => q rfl)
    have hb2 : 1 = b1 := Option.some.inj hb1
    omega
  · have e2 : xce G S ad (updV z.1 j v, z.2.1, z.2.2) i1 = (xce G S ad z i1).set 28 (xA 8 150 (updV z.1 j v, z.2.1, z.2.2).1) := rfl
    rw [e2, List.getElem?_set_ne (Ne.symm hk)]
end WX
def mbd (_S : xS) : List Nat := [1, 1, 1, 1, 10, 1, 1, 4, 1, 1, 1, 1, 1, 1, 1, 1, 1, 1, 150, 1, 150, 1, 1, 1, 1, 4, 1, 4, 1, 1, 20]
def mce (_G : xG) (S : xS) (ad : Nat × Nat → Nat) (_z : xZ) (i : Nat) : List xE := [xO 4 [.ref (ad (1, 0)), .ref (ad (2, 0)), .int (nI (S.1 0 0)), .int (nI (S.1 1 0)), .ref (ad (3, 0)), .ref (ad (5, 0)), .ref (ad (6, 0)), .int (S.2.1 7 0 0), .ref (ad (8, 0)), .ref (ad (9, 0)), .ref (ad (10, 0)), .ref (ad (11, 0)), .ref (ad (12, 0)), .ref (ad (13, 0)), .ref (ad (14, 0)), .ref (ad (15, 0)), .ref (ad (16, 0)), .ref (ad (17, 0)), .ref (ad (19, 0)), .int (nI (S.1 2 0)), .ref (ad (21, 0)), .ref (ad (22, 0)), .int (nI (S.1 3 0)), .ref (ad (23, 0)), .ref (ad (24, 0)), .ref (ad (26, 0)), .ref (ad (28, 0)), .ref (ad (29, 0)), .int (nI (S.1 4 0)), .int (S.2.1 26 0 0)], xA 0 6 (fun k => .int (S.2.1 0 k 0)), xA 0 6 (fun k => .int (S.2.1 1 k 0)), xA 10 10 (fun k => .ref (ad (4, k))), xA 0 4 (fun k => .int (S.2.1 2 i k)), xA 1 10 (fun k => .long (S.2.2 k)), xA 11 4 (fun k => .ref (ad (7, k))), xA 3 4 (fun k => .int (S.2.1 5 i k)), xA 0 150 (fun k => .int (S.2.1 10 k 0)), xA 0 150 (fun k => .int (S.2.1 11 k 0)), xA 0 150 (fun k => .int (S.2.1 12 k 0)), xA 0 150 (fun k => .int (S.2.1 13 k 0)), xA 0 150 (fun k => .int (S.2.1 14 k 0)), xA 4 150 (fun k => .int (S.2.1 15 k 0)), xA 4 150 (fun k => .int (S.2.1 16 k 0)), xA 0 150 (fun k => .int (S.2.1 17 k 0)), xA 0 150 (fun k => .int (nI (S.1 6 k))), xA 10 150 (fun k => .ref (ad (18, k))), xA 0 5 (fun k => .int (S.2.1 18 i k)), xA 10 150 (fun k => .ref (ad (20, k))), xA 0 5 (fun k => .int (S.2.1 19 i k)), xA 0 30 (fun k => .int (S.2.1 20 k 0)), xA 0 30 (fun k => .int (S.2.1 21 k 0)), xA 0 3 (fun k => .int (S.2.1 6 k 0)), xA 12 4 (fun k => .ref (ad (25, k))), xA 4 6 (fun k => .int (S.2.1 24 i k)), xA 10 4 (fun k => .ref (ad (27, k))), xA 0 6 (fun k => .int (S.2.1 23 i k)), xA 0 4 (fun k => .int (nI (S.1 5 k))), xA 10 20 (fun k => .ref (ad (30, k))), xA 0 10 (fun k => .int (S.2.1 25 i k))]
abbrev xRM (G : xG) (A : Nat → Prop) (S : xS) (ad : Nat × Nat → Nat) (z : xZ) (H : Heap) : Prop := xRW G A (mbd S) (mce G S ad z) ad H
section WM
variable {G : xG} {A : Nat → Prop} {S : xS} {ad : Nat × Nat → Nat} {z : xZ} {H H1 : Heap}
theorem mw_0 (h : xRM G A S ad z H) : xat G (ad (0, 0)) (xO 4 [.ref (ad (1, 0)), .ref (ad (2, 0)), .int (nI (S.1 0 0)), .int (nI (S.1 1 0)), .ref (ad (3, 0)), .ref (ad (5, 0)), .ref (ad (6, 0)), .int (S.2.1 7 0 0), .ref (ad (8, 0)), .ref (ad (9, 0)), .ref (ad (10, 0)), .ref (ad (11, 0)), .ref (ad (12, 0)), .ref (ad (13, 0)), .ref (ad (14, 0)), .ref (ad (15, 0)), .ref (ad (16, 0)), .ref (ad (17, 0)), .ref (ad (19, 0)), .int (nI (S.1 2 0)), .ref (ad (21, 0)), .ref (ad (22, 0)), .int (nI (S.1 3 0)), .ref (ad (23, 0)), .ref (ad (24, 0)), .ref (ad (26, 0)), .ref (ad (28, 0)), .ref (ad (29, 0)), .int (nI (S.1 4 0)), .int (S.2.1 26 0 0)]) H := h.at 0 0 rfl (Nat.zero_lt_one) rfl
theorem ma_0 (h : xRM G A S ad z H) : A (ad (0, 0)) := h.A 0 0 rfl (Nat.zero_lt_one) rfl
theorem mw_1 (h : xRM G A S ad z H) : xat G (ad (1, 0)) (xA 0 6 (fun k => .int (S.2.1 0 k 0))) H := h.at 1 0 rfl (Nat.zero_lt_one) rfl
theorem ma_1 (h : xRM G A S ad z H) : A (ad (1, 0)) := h.A 1 0 rfl (Nat.zero_lt_one) rfl
theorem mw_2 (h : xRM G A S ad z H) : xat G (ad (2, 0)) (xA 0 6 (fun k => .int (S.2.1 1 k 0))) H := h.at 2 0 rfl (Nat.zero_lt_one) rfl
theorem ma_2 (h : xRM G A S ad z H) : A (ad (2, 0)) := h.A 2 0 rfl (Nat.zero_lt_one) rfl
theorem mw_3 (h : xRM G A S ad z H) : xat G (ad (3, 0)) (xA 10 10 (fun k => .ref (ad (4, k)))) H := h.at 3 0 rfl (Nat.zero_lt_one) rfl
theorem ma_3 (h : xRM G A S ad z H) : A (ad (3, 0)) := h.A 3 0 rfl (Nat.zero_lt_one) rfl
theorem mw_4 (h : xRM G A S ad z H) {i : Nat} (hi : i < 10) : xat G (ad (4, i)) (xA 0 4 (fun k => .int (S.2.1 2 i k))) H := h.at 4 i rfl hi rfl
theorem ma_4 (h : xRM G A S ad z H) {i : Nat} (hi : i < 10) : A (ad (4, i)) := h.A 4 i rfl hi rfl
theorem mw_5 (h : xRM G A S ad z H) : xat G (ad (5, 0)) (xA 1 10 (fun k => .long (S.2.2 k))) H := h.at 5 0 rfl (Nat.zero_lt_one) rfl
theorem ma_5 (h : xRM G A S ad z H) : A (ad (5, 0)) := h.A 5 0 rfl (Nat.zero_lt_one) rfl
theorem mw_6 (h : xRM G A S ad z H) : xat G (ad (6, 0)) (xA 11 4 (fun k => .ref (ad (7, k)))) H := h.at 6 0 rfl (Nat.zero_lt_one) rfl
theorem ma_6 (h : xRM G A S ad z H) : A (ad (6, 0)) := h.A 6 0 rfl (Nat.zero_lt_one) rfl
theorem mw_7 (h : xRM G A S ad z H) {i : Nat} (hi : i < 4) : xat G (ad (7, i)) (xA 3 4 (fun k => .int (S.2.1 5 i k))) H := h.at 7 i rfl hi rfl
theorem ma_7 (h : xRM G A S ad z H) {i : Nat} (hi : i < 4) : A (ad (7, i)) := h.A 7 i rfl hi rfl
theorem mw_8 (h : xRM G A S ad z H) : xat G (ad (8, 0)) (xA 0 150 (fun k => .int (S.2.1 10 k 0))) H := h.at 8 0 rfl (Nat.zero_lt_one) rfl
theorem ma_8 (h : xRM G A S ad z H) : A (ad (8, 0)) := h.A 8 0 rfl (Nat.zero_lt_one) rfl
theorem mw_9 (h : xRM G A S ad z H) : xat G (ad (9, 0)) (xA 0 150 (fun k => .int (S.2.1 11 k 0))) H := h.at 9 0 rfl (Nat.zero_lt_one) rfl
theorem ma_9 (h : xRM G A S ad z H) : A (ad (9, 0)) := h.A 9 0 rfl (Nat.zero_lt_one) rfl
theorem mw_10 (h : xRM G A S ad z H) : xat G (ad (10, 0)) (xA 0 150 (fun k => .int (S.2.1 12 k 0))) H := h.at 10 0 rfl (Nat.zero_lt_one) rfl
theorem ma_10 (h : xRM G A S ad z H) : A (ad (10, 0)) := h.A 10 0 rfl (Nat.zero_lt_one) rfl
theorem mw_11 (h : xRM G A S ad z H) : xat G (ad (11, 0)) (xA 0 150 (fun k => .int (S.2.1 13 k 0))) H := h.at 11 0 rfl (Nat.zero_lt_one) rfl
theorem ma_11 (h : xRM G A S ad z H) : A (ad (11, 0)) := h.A 11 0 rfl (Nat.zero_lt_one) rfl
theorem mw_12 (h : xRM G A S ad z H) : xat G (ad (12, 0)) (xA 0 150 (fun k => .int (S.2.1 14 k 0))) H := h.at 12 0 rfl (Nat.zero_lt_one) rfl
theorem ma_12 (h : xRM G A S ad z H) : A (ad (12, 0)) := h.A 12 0 rfl (Nat.zero_lt_one) rfl
theorem mw_13 (h : xRM G A S ad z H) : xat G (ad (13, 0)) (xA 4 150 (fun k => .int (S.2.1 15 k 0))) H := h.at 13 0 rfl (Nat.zero_lt_one) rfl
theorem ma_13 (h : xRM G A S ad z H) : A (ad (13, 0)) := h.A 13 0 rfl (Nat.zero_lt_one) rfl
theorem mw_14 (h : xRM G A S ad z H) : xat G (ad (14, 0)) (xA 4 150 (fun k => .int (S.2.1 16 k 0))) H := h.at 14 0 rfl (Nat.zero_lt_one) rfl
theorem ma_14 (h : xRM G A S ad z H) : A (ad (14, 0)) := h.A 14 0 rfl (Nat.zero_lt_one) rfl
theorem mw_15 (h : xRM G A S ad z H) : xat G (ad (15, 0)) (xA 0 150 (fun k => .int (S.2.1 17 k 0))) H := h.at 15 0 rfl (Nat.zero_lt_one) rfl
theorem ma_15 (h : xRM G A S ad z H) : A (ad (15, 0)) := h.A 15 0 rfl (Nat.zero_lt_one) rfl
theorem mw_16 (h : xRM G A S ad z H) : xat G (ad (16, 0)) (xA 0 150 (fun k => .int (nI (S.1 6 k)))) H := h.at 16 0 rfl (Nat.zero_lt_one) rfl
theorem ma_16 (h : xRM G A S ad z H) : A (ad (16, 0)) := h.A 16 0 rfl (Nat.zero_lt_one) rfl
theorem mw_17 (h : xRM G A S ad z H) : xat G (ad (17, 0)) (xA 10 150 (fun k => .ref (ad (18, k)))) H := h.at 17 0 rfl (Nat.zero_lt_one) rfl
theorem ma_17 (h : xRM G A S ad z H) : A (ad (17, 0)) := h.A 17 0 rfl (Nat.zero_lt_one) rfl
theorem mw_18 (h : xRM G A S ad z H) {i : Nat} (hi : i < 150) : xat G (ad (18, i)) (xA 0 5 (fun k => .int (S.2.1 18 i k))) H := h.at 18 i rfl hi rfl
theorem ma_18 (h : xRM G A S ad z H) {i : Nat} (hi : i < 150) : A (ad (18, i)) := h.A 18 i rfl hi rfl
theorem mw_19 (h : xRM G A S ad z H) : xat G (ad (19, 0)) (xA 10 150 (fun k => .ref (ad (20, k)))) H := h.at 19 0 rfl (Nat.zero_lt_one) rfl
theorem ma_19 (h : xRM G A S ad z H) : A (ad (19, 0)) := h.A 19 0 rfl (Nat.zero_lt_one) rfl
theorem mw_20 (h : xRM G A S ad z H) {i : Nat} (hi : i < 150) : xat G (ad (20, i)) (xA 0 5 (fun k => .int (S.2.1 19 i k))) H := h.at 20 i rfl hi rfl
theorem ma_20 (h : xRM G A S ad z H) {i : Nat} (hi : i < 150) : A (ad (20, i)) := h.A 20 i rfl hi rfl
theorem mw_21 (h : xRM G A S ad z H) : xat G (ad (21, 0)) (xA 0 30 (fun k => .int (S.2.1 20 k 0))) H := h.at 21 0 rfl (Nat.zero_lt_one) rfl
theorem ma_21 (h : xRM G A S ad z H) : A (ad (21, 0)) := h.A 21 0 rfl (Nat.zero_lt_one) rfl
theorem mw_22 (h : xRM G A S ad z H) : xat G (ad (22, 0)) (xA 0 30 (fun k => .int (S.2.1 21 k 0))) H := h.at 22 0 rfl (Nat.zero_lt_one) rfl
theorem ma_22 (h : xRM G A S ad z H) : A (ad (22, 0)) := h.A 22 0 rfl (Nat.zero_lt_one) rfl
theorem mw_23 (h : xRM G A S ad z H) : xat G (ad (23, 0)) (xA 0 3 (fun k => .int (S.2.1 6 k 0))) H := h.at 23 0 rfl (Nat.zero_lt_one) rfl
theorem ma_23 (h : xRM G A S ad z H) : A (ad (23, 0)) := h.A 23 0 rfl (Nat.zero_lt_one) rfl
theorem mw_24 (h : xRM G A S ad z H) : xat G (ad (24, 0)) (xA 12 4 (fun k => .ref (ad (25, k)))) H := h.at 24 0 rfl (Nat.zero_lt_one) rfl
theorem ma_24 (h : xRM G A S ad z H) : A (ad (24, 0)) := h.A 24 0 rfl (Nat.zero_lt_one) rfl
theorem mw_25 (h : xRM G A S ad z H) {i : Nat} (hi : i < 4) : xat G (ad (25, i)) (xA 4 6 (fun k => .int (S.2.1 24 i k))) H := h.at 25 i rfl hi rfl
theorem ma_25 (h : xRM G A S ad z H) {i : Nat} (hi : i < 4) : A (ad (25, i)) := h.A 25 i rfl hi rfl
theorem mw_26 (h : xRM G A S ad z H) : xat G (ad (26, 0)) (xA 10 4 (fun k => .ref (ad (27, k)))) H := h.at 26 0 rfl (Nat.zero_lt_one) rfl
theorem ma_26 (h : xRM G A S ad z H) : A (ad (26, 0)) := h.A 26 0 rfl (Nat.zero_lt_one) rfl
theorem mw_27 (h : xRM G A S ad z H) {i : Nat} (hi : i < 4) : xat G (ad (27, i)) (xA 0 6 (fun k => .int (S.2.1 23 i k))) H := h.at 27 i rfl hi rfl
theorem ma_27 (h : xRM G A S ad z H) {i : Nat} (hi : i < 4) : A (ad (27, i)) := h.A 27 i rfl hi rfl
theorem mw_28 (h : xRM G A S ad z H) : xat G (ad (28, 0)) (xA 0 4 (fun k => .int (nI (S.1 5 k)))) H := h.at 28 0 rfl (Nat.zero_lt_one) rfl
theorem ma_28 (h : xRM G A S ad z H) : A (ad (28, 0)) := h.A 28 0 rfl (Nat.zero_lt_one) rfl
theorem mw_29 (h : xRM G A S ad z H) : xat G (ad (29, 0)) (xA 10 20 (fun k => .ref (ad (30, k)))) H := h.at 29 0 rfl (Nat.zero_lt_one) rfl
theorem ma_29 (h : xRM G A S ad z H) : A (ad (29, 0)) := h.A 29 0 rfl (Nat.zero_lt_one) rfl
theorem mw_30 (h : xRM G A S ad z H) {i : Nat} (hi : i < 20) : xat G (ad (30, i)) (xA 0 10 (fun k => .int (S.2.1 25 i k))) H := h.at 30 i rfl hi rfl
theorem ma_30 (h : xRM G A S ad z H) {i : Nat} (hi : i < 20) : A (ad (30, i)) := h.A 30 i rfl hi rfl
theorem ms_0_2 (h : xRM G A S ad z H) {v : Nat} (ho : xOff (ad (0, 0)) H H1) (hat : xat G (ad (0, 0)) (xO 4 ([.ref (ad (1, 0)), .ref (ad (2, 0)), .int (nI (S.1 0 0)), .int (nI (S.1 1 0)), .ref (ad (3, 0)), .ref (ad (5, 0)), .ref (ad (6, 0)), .int (S.2.1 7 0 0), .ref (ad (8, 0)), .ref (ad (9, 0)), .ref (ad (10, 0)), .ref (ad (11, 0)), .ref (ad (12, 0)), .ref (ad (13, 0)), .ref (ad (14, 0)), .ref (ad (15, 0)), .ref (ad (16, 0)), .ref (ad (17, 0)), .ref (ad (19, 0)), .int (nI (S.1 2 0)), .ref (ad (21, 0)), .ref (ad (22, 0)), .int (nI (S.1 3 0)), .ref (ad (23, 0)), .ref (ad (24, 0)), .ref (ad (26, 0)), .ref (ad (28, 0)), .ref (ad (29, 0)), .int (nI (S.1 4 0)), .int (S.2.1 26 0 0)].set 2 (.int (nI v)))) H1) : xRM G A (sN S 0 0 v) ad z H1 := by
  have e : (xO 4 ([.ref (ad (1, 0)), .ref (ad (2, 0)), .int (nI (S.1 0 0)), .int (nI (S.1 1 0)), .ref (ad (3, 0)), .ref (ad (5, 0)), .ref (ad (6, 0)), .int (S.2.1 7 0 0), .ref (ad (8, 0)), .ref (ad (9, 0)), .ref (ad (10, 0)), .ref (ad (11, 0)), .ref (ad (12, 0)), .ref (ad (13, 0)), .ref (ad (14, 0)), .ref (ad (15, 0)), .ref (ad (16, 0)), .ref (ad (17, 0)), .ref (ad (19, 0)), .int (nI (S.1 2 0)), .ref (ad (21, 0)), .ref (ad (22, 0)), .int (nI (S.1 3 0)), .ref (ad (23, 0)), .ref (ad (24, 0)), .ref (ad (26, 0)), .ref (ad (28, 0)), .ref (ad (29, 0)), .int (nI (S.1 4 0)), .int (S.2.1 26 0 0)].set 2 (.int (nI v)))) = xO 4 [.ref (ad (1, 0)), .ref (ad (2, 0)), .int (nI ((sN S 0 0 v).1 0 0)), .int (nI ((sN S 0 0 v).1 1 0)), .ref (ad (3, 0)), .ref (ad (5, 0)), .ref (ad (6, 0)), .int ((sN S 0 0 v).2.1 7 0 0), .ref (ad (8, 0)), .ref (ad (9, 0)), .ref (ad (10, 0)), .ref (ad (11, 0)), .ref (ad (12, 0)), .ref (ad (13, 0)), .ref (ad (14, 0)), .ref (ad (15, 0)), .ref (ad (16, 0)), .ref (ad (17, 0)), .ref (ad (19, 0)), .int (nI ((sN S 0 0 v).1 2 0)), .ref (ad (21, 0)), .ref (ad (22, 0)), .int (nI ((sN S 0 0 v).1 3 0)), .ref (ad (23, 0)), .ref (ad (24, 0)), .ref (ad (26, 0)), .ref (ad (28, 0)), .ref (ad (29, 0)), .int (nI ((sN S 0 0 v).1 4 0)), .int ((sN S 0 0 v).2.1 26 0 0)] := by
    simp [fset, nset]
  rw [e] at hat
  refine xRW.put (ce1 := mce G (sN S 0 0 v) ad z) h 0 0 rfl (Nat.zero_lt_one) ho rfl hat rfl (fun k1 i1 b1 hb1 hlt hne => ?_)
  by_cases hk : k1 = 0
  · subst hk
    have hi1 : i1 ≠ 0 := hne.resolve_left (fun q => q rfl)
    have hb2 : 1 = b1 := Option.some.inj hb1
    omega
  · have e2 : mce G (sN S 0 0 v) ad z i1 = (mce G S ad z i1).set 0 (xO 4 [.ref (ad (1, 0)), .ref (ad (2, 0)), .int (nI ((sN S 0 0 v).1 0 0)), .int (nI ((sN S 0 0 v).1 1 0)), .ref (ad (3, 0)), .ref (ad (5, 0)), .ref (ad (6, 0)), .int ((sN S 0 0 v).2.1 7 0 0), .ref (ad (8, 0)), .ref (ad (9, 0)), .ref (ad (10, 0)), .ref (ad (11, 0)), .ref (ad (12, 0)), .ref (ad (13, 0)), .ref (ad (14, 0)), .ref (ad (15, 0)), .ref (ad (16, 0)), .ref (ad (17, 0)), .ref (ad (19, 0)), .int (nI ((sN S 0 0 v).1 2 0)), .ref (ad (21, 0)), .ref (ad (22, 0)), .int (nI ((sN S 0 0 v).1 3 0)), .ref (ad (23, 0)), .ref (ad (24, 0)), .ref (ad (26, 0)), .ref (ad (28, 0)), .ref (ad (29, 0)), .int (nI ((sN S 0 0 v).1 4 0)), .int ((sN S 0 0 v).2.1 26 0 0)]) := rfl
    rw [e2, List.getElem?_set_ne (Ne.symm hk)]
theorem ms_0_3 (h : xRM G A S ad z H) {v : Nat} (ho : xOff (ad (0, 0)) H H1) (hat : xat G (ad (0, 0)) (xO 4 ([.ref (ad (1, 0)), .ref (ad (2, 0)), .int (nI (S.1 0 0)), .int (nI (S.1 1 0)), .ref (ad (3, 0)), .ref (ad (5, 0)), .ref (ad (6, 0)), .int (S.2.1 7 0 0), .ref (ad (8, 0)), .ref (ad (9, 0)), .ref (ad (10, 0)), .ref (ad (11, 0)), .ref (ad (12, 0)), .ref (ad (13, 0)), .ref (ad (14, 0)), .ref (ad (15, 0)), .ref (ad (16, 0)), .ref (ad (17, 0)), .ref (ad (19, 0)), .int (nI (S.1 2 0)), .ref (ad (21, 0)), .ref (ad (22, 0)), .int (nI (S.1 3 0)), .ref (ad (23, 0)), .ref (ad (24, 0)), .ref (ad (26, 0)), .ref (ad (28, 0)), .ref (ad (29, 0)), .int (nI (S.1 4 0)), .int (S.2.1 26 0 0)].set 3 (.int (nI v)))) H1) : xRM G A (sN S 1 0 v) ad z H1 := by
  have e : (xO 4 ([.ref (ad (1, 0)), .ref (ad (2, 0)), .int (nI (S.1 0 0)), .int (nI (S.1 1 0)), .ref (ad (3, 0)), .ref (ad (5, 0)), .ref (ad (6, 0)), .int (S.2.1 7 0 0), .ref (ad (8, 0)), .ref (ad (9, 0)), .ref (ad (10, 0)), .ref (ad (11, 0)), .ref (ad (12, 0)), .ref (ad (13, 0)), .ref (ad (14, 0)), .ref (ad (15, 0)), .ref (ad (16, 0)), .ref (ad (17, 0)), .ref (ad (19, 0)), .int (nI (S.1 2 0)), .ref (ad (21, 0)), .ref (ad (22, 0)), .int (nI (S.1 3 0)), .ref (ad (23, 0)), .ref (ad (24, 0)), .ref (ad (26, 0)), .ref (ad (28, 0)), .ref (ad (29, 0)), .int (nI (S.1 4 0)), .int (S.2.1 26 0 0)].set 3 (.int (nI v)))) = xO 4 [.ref (ad (1, 0)), .ref (ad (2, 0)), .int (nI ((sN S 1 0 v).1 0 0)), .int (nI ((sN S 1 0 v).1 1 0)), .ref (ad (3, 0)), .ref (ad (5, 0)), .ref (ad (6, 0)), .int ((sN S 1 0 v).2.1 7 0 0), .ref (ad (8, 0)), .ref (ad (9, 0)), .ref (ad (10, 0)), .ref (ad (11, 0)), .ref (ad (12, 0)), .ref (ad (13, 0)), .ref (ad (14, 0)), .ref (ad (15, 0)), .ref (ad (16, 0)), .ref (ad (17, 0)), .ref (ad (19, 0)), .int (nI ((sN S 1 0 v).1 2 0)), .ref (ad (21, 0)), .ref (ad (22, 0)), .int (nI ((sN S 1 0 v).1 3 0)), .ref (ad (23, 0)), .ref (ad (24, 0)), .ref (ad (26, 0)), .ref (ad (28, 0)), .ref (ad (29, 0)), .int (nI ((sN S 1 0 v).1 4 0)), .int ((sN S 1 0 v).2.1 26 0 0)] := by
    simp [fset, nset]
  rw [e] at hat
  refine xRW.put (ce1 := mce G (sN S 1 0 v) ad z) h 0 0 rfl (Nat.zero_lt_one) ho rfl hat rfl (fun k1 i1 b1 hb1 hlt hne => ?_)
  by_cases hk : k1 = 0
  · subst hk
    have hi1 : i1 ≠ 0 := hne.resolve_left (fun q => q rfl)
    have hb2 : 1 = b1 := Option.some.inj hb1
    omega
  · have e2 : mce G (sN S 1 0 v) ad z i1 = (mce G S ad z i1).set 0 (xO 4 [.ref (ad (1, 0)), .ref (ad (2, 0)), .int (nI ((sN S 1 0 v).1 0 0)), .int (nI ((sN S 1 0 v).1 1 0)), .ref (ad (3, 0)), .ref (ad (5, 0)), .ref (ad (6, 0)), .int ((sN S 1 0 v).2.1 7 0 0), .ref (ad (8, 0)), .ref (ad (9, 0)), .ref (ad (10, 0)), .ref (ad (11, 0)), .ref (ad (12, 0)), .ref (ad (13, 0)), .ref (ad (14, 0)), .ref (ad (15, 0)), .ref (ad (16, 0)), .ref (ad (17, 0)), .ref (ad (19, 0)), .int (nI ((sN S 1 0 v).1 2 0)), .ref (ad (21, 0)), .ref (ad (22, 0)), .int (nI ((sN S 1 0 v).1 3 0)), .ref (ad (23, 0)), .ref (ad (24, 0)), .ref (ad (26, 0)), .ref (ad (28, 0)), .ref (ad (29, 0)), .int (nI ((sN S 1 0 v).1 4 0)), .int ((sN S 1 0 v).2.1 26 0 0)]) := rfl
    rw [e2, List.getElem?_set_ne (Ne.symm hk)]
theorem ms_0_7 (h : xRM G A S ad z H) {v : Int32} (ho : xOff (ad (0, 0)) H H1) (hat : xat G (ad (0, 0)) (xO 4 ([.ref (ad (1, 0)), .ref (ad (2, 0)), .int (nI (S.1 0 0)), .int (nI (S.1 1 0)), .ref (ad (3, 0)), .ref (ad (5, 0)), .ref (ad (6, 0)), .int (S.2.1 7 0 0), .ref (ad (8, 0)), .ref (ad (9, 0)), .ref (ad (10, 0)), .ref (ad (11, 0)), .ref (ad (12, 0)), .ref (ad (13, 0)), .ref (ad (14, 0)), .ref (ad (15, 0)), .ref (ad (16, 0)), .ref (ad (17, 0)), .ref (ad (19, 0)), .int (nI (S.1 2 0)), .ref (ad (21, 0)), .ref (ad (22, 0)), .int (nI (S.1 3 0)), .ref (ad (23, 0)), .ref (ad (24, 0)), .ref (ad (26, 0)), .ref (ad (28, 0)), .ref (ad (29, 0)), .int (nI (S.1 4 0)), .int (S.2.1 26 0 0)].set 7 (.int v))) H1) : xRM G A (sF S 7 0 0 v) ad z H1 := by
  have e : (xO 4 ([.ref (ad (1, 0)), .ref (ad (2, 0)), .int (nI (S.1 0 0)), .int (nI (S.1 1 0)), .ref (ad (3, 0)), .ref (ad (5, 0)), .ref (ad (6, 0)), .int (S.2.1 7 0 0), .ref (ad (8, 0)), .ref (ad (9, 0)), .ref (ad (10, 0)), .ref (ad (11, 0)), .ref (ad (12, 0)), .ref (ad (13, 0)), .ref (ad (14, 0)), .ref (ad (15, 0)), .ref (ad (16, 0)), .ref (ad (17, 0)), .ref (ad (19, 0)), .int (nI (S.1 2 0)), .ref (ad (21, 0)), .ref (ad (22, 0)), .int (nI (S.1 3 0)), .ref (ad (23, 0)), .ref (ad (24, 0)), .ref (ad (26, 0)), .ref (ad (28, 0)), .ref (ad (29, 0)), .int (nI (S.1 4 0)), .int (S.2.1 26 0 0)].set 7 (.int v))) = xO 4 [.ref (ad (1, 0)), .ref (ad (2, 0)), .int (nI ((sF S 7 0 0 v).1 0 0)), .int (nI ((sF S 7 0 0 v).1 1 0)), .ref (ad (3, 0)), .ref (ad (5, 0)), .ref (ad (6, 0)), .int ((sF S 7 0 0 v).2.1 7 0 0), .ref (ad (8, 0)), .ref (ad (9, 0)), .ref (ad (10, 0)), .ref (ad (11, 0)), .ref (ad (12, 0)), .ref (ad (13, 0)), .ref (ad (14, 0)), .ref (ad (15, 0)), .ref (ad (16, 0)), .ref (ad (17, 0)), .ref (ad (19, 0)), .int (nI ((sF S 7 0 0 v).1 2 0)), .ref (ad (21, 0)), .ref (ad (22, 0)), .int (nI ((sF S 7 0 0 v).1 3 0)), .ref (ad (23, 0)), .ref (ad (24, 0)), .ref (ad (26, 0)), .ref (ad (28, 0)), .ref (ad (29, 0)), .int (nI ((sF S 7 0 0 v).1 4 0)), .int ((sF S 7 0 0 v).2.1 26 0 0)] := by
    simp [fset, nset]
  rw [e] at hat
  refine xRW.put (ce1 := mce G (sF S 7 0 0 v) ad z) h 0 0 rfl (Nat.zero_lt_one) ho rfl hat rfl (fun k1 i1 b1 hb1 hlt hne => ?_)
  by_cases hk : k1 = 0
  · subst hk
    have hi1 : i1 ≠ 0 := hne.resolve_left (fun q => q rfl)
    have hb2 : 1 = b1 := Option.some.inj hb1
    omega
  · have e2 : mce G (sF S 7 0 0 v) ad z i1 = (mce G S ad z i1).set 0 (xO 4 [.ref (ad (1, 0)), .ref (ad (2, 0)), .int (nI ((sF S 7 0 0 v).1 0 0)), .int (nI ((sF S 7 0 0 v).1 1 0)), .ref (ad (3, 0)), .ref (ad (5, 0)), .ref (ad (6, 0)), .int ((sF S 7 0 0 v).2.1 7 0 0), .ref (ad (8, 0)), .ref (ad (9, 0)), .ref (ad (10, 0)), .ref (ad (11, 0)), .ref (ad (12, 0)), .ref (ad (13, 0)), .ref (ad (14, 0)), .ref (ad (15, 0)), .ref (ad (16, 0)), .ref (ad (17, 0)), .ref (ad (19, 0)), .int (nI ((sF S 7 0 0 v).1 2 0)), .ref (ad (21, 0)), .ref (ad (22, 0)), .int (nI ((sF S 7 0 0 v).1 3 0)), .ref (ad (23, 0)), .ref (ad (24, 0)), .ref (ad (26, 0)), .ref (ad (28, 0)), .ref (ad (29, 0)), .int (nI ((sF S 7 0 0 v).1 4 0)), .int ((sF S 7 0 0 v).2.1 26 0 0)]) := rfl
    rw [e2, List.getElem?_set_ne (Ne.symm hk)]
theorem ms_0_19 (h : xRM G A S ad z H) {v : Nat} (ho : xOff (ad (0, 0)) H H1) (hat : xat G (ad (0, 0)) (xO 4 ([.ref (ad (1, 0)), .ref (ad (2, 0)), .int (nI (S.1 0 0)), .int (nI (S.1 1 0)), .ref (ad (3, 0)), .ref (ad (5, 0)), .ref (ad (6, 0)), .int (S.2.1 7 0 0), .ref (ad (8, 0)), .ref (ad (9, 0)), .ref (ad (10, 0)), .ref (ad (11, 0)), .ref (ad (12, 0)), .ref (ad (13, 0)), .ref (ad (14, 0)), .ref (ad (15, 0)), .ref (ad (16, 0)), .ref (ad (17, 0)), .ref (ad (19, 0)), .int (nI (S.1 2 0)), .ref (ad (21, 0)), .ref (ad (22, 0)), .int (nI (S.1 3 0)), .ref (ad (23, 0)), .ref (ad (24, 0)), .ref (ad (26, 0)), .ref (ad (28, 0)), .ref (ad (29, 0)), .int (nI (S.1 4 0)), .int (S.2.1 26 0 0)].set 19 (.int (nI v)))) H1) : xRM G A (sN S 2 0 v) ad z H1 := by
  have e : (xO 4 ([.ref (ad (1, 0)), .ref (ad (2, 0)), .int (nI (S.1 0 0)), .int (nI (S.1 1 0)), .ref (ad (3, 0)), .ref (ad (5, 0)), .ref (ad (6, 0)), .int (S.2.1 7 0 0), .ref (ad (8, 0)), .ref (ad (9, 0)), .ref (ad (10, 0)), .ref (ad (11, 0)), .ref (ad (12, 0)), .ref (ad (13, 0)), .ref (ad (14, 0)), .ref (ad (15, 0)), .ref (ad (16, 0)), .ref (ad (17, 0)), .ref (ad (19, 0)), .int (nI (S.1 2 0)), .ref (ad (21, 0)), .ref (ad (22, 0)), .int (nI (S.1 3 0)), .ref (ad (23, 0)), .ref (ad (24, 0)), .ref (ad (26, 0)), .ref (ad (28, 0)), .ref (ad (29, 0)), .int (nI (S.1 4 0)), .int (S.2.1 26 0 0)].set 19 (.int (nI v)))) = xO 4 [.ref (ad (1, 0)), .ref (ad (2, 0)), .int (nI ((sN S 2 0 v).1 0 0)), .int (nI ((sN S 2 0 v).1 1 0)), .ref (ad (3, 0)), .ref (ad (5, 0)), .ref (ad (6, 0)), .int ((sN S 2 0 v).2.1 7 0 0), .ref (ad (8, 0)), .ref (ad (9, 0)), .ref (ad (10, 0)), .ref (ad (11, 0)), .ref (ad (12, 0)), .ref (ad (13, 0)), .ref (ad (14, 0)), .ref (ad (15, 0)), .ref (ad (16, 0)), .ref (ad (17, 0)), .ref (ad (19, 0)), .int (nI ((sN S 2 0 v).1 2 0)), .ref (ad (21, 0)), .ref (ad (22, 0)), .int (nI ((sN S 2 0 v).1 3 0)), .ref (ad (23, 0)), .ref (ad (24, 0)), .ref (ad (26, 0)), .ref (ad (28, 0)), .ref (ad (29, 0)), .int (nI ((sN S 2 0 v).1 4 0)), .int ((sN S 2 0 v).2.1 26 0 0)] := by
    simp [fset, nset]
  rw [e] at hat
  refine xRW.put (ce1 := mce G (sN S 2 0 v) ad z) h 0 0 rfl (Nat.zero_lt_one) ho rfl hat rfl (fun k1 i1 b1 hb1 hlt hne => ?_)
  by_cases hk : k1 = 0
  · subst hk
    have hi1 : i1 ≠ 0 := hne.resolve_left (fun q => q rfl)
    have hb2 : 1 = b1 := Option.some.inj hb1
    omega
  · have e2 : mce G (sN S 2 0 v) ad z i1 = (mce G S ad z i1).set 0 (xO 4 [.ref (ad (1, 0)), .ref (ad (2, 0)), .int (nI ((sN S 2 0 v).1 0 0)), .int (nI ((sN S 2 0 v).1 1 0)), .ref (ad (3, 0)), .ref (ad (5, 0)), .ref (ad (6, 0)), .int ((sN S 2 0 v).2.1 7 0 0), .ref (ad (8, 0)), .ref (ad (9, 0)), .ref (ad (10, 0)), .ref (ad (11, 0)), .ref (ad (12, 0)), .ref (ad (13, 0)), .ref (ad (14, 0)), .ref (ad (15, 0)), .ref (ad (16, 0)), .ref (ad (17, 0)), .ref (ad (19, 0)), .int (nI ((sN S 2 0 v).1 2 0)), .ref (ad (21, 0)), .ref (ad (22, 0)), .int (nI ((sN S 2 0 v).1 3 0)), .ref (ad (23, 0)), .ref (ad (24, 0)), .ref (ad (26, 0)), .ref (ad (28, 0)), .ref (ad (29, 0)), .int (nI ((sN S 2 0 v).1 4 0)), .int ((sN S 2 0 v).2.1 26 0 0)]) := rfl
    rw [e2, List.getElem?_set_ne (Ne.symm hk)]
theorem ms_0_22 (h : xRM G A S ad z H) {v : Nat} (ho : xOff (ad (0, 0)) H H1) (hat : xat G (ad (0, 0)) (xO 4 ([.ref (ad (1, 0)), .ref (ad (2, 0)), .int (nI (S.1 0 0)), .int (nI (S.1 1 0)), .ref (ad (3, 0)), .ref (ad (5, 0)), .ref (ad (6, 0)), .int (S.2.1 7 0 0), .ref (ad (8, 0)), .ref (ad (9, 0)), .ref (ad (10, 0)), .ref (ad (11, 0)), .ref (ad (12, 0)), .ref (ad (13, 0)), .ref (ad (14, 0)), .ref (ad (15, 0)), .ref (ad (16, 0)), .ref (ad (17, 0)), .ref (ad (19, 0)), .int (nI (S.1 2 0)), .ref (ad (21, 0)), .ref (ad (22, 0)), .int (nI (S.1 3 0)), .ref (ad (23, 0)), .ref (ad (24, 0)), .ref (ad (26, 0)), .ref (ad (28, 0)), .ref (ad (29, 0)), .int (nI (S.1 4 0)), .int (S.2.1 26 0 0)].set 22 (.int (nI v)))) H1) : xRM G A (sN S 3 0 v) ad z H1 := by
  have e : (xO 4 ([.ref (ad (1, 0)), .ref (ad (2, 0)), .int (nI (S.1 0 0)), .int (nI (S.1 1 0)), .ref (ad (3, 0)), .ref (ad (5, 0)), .ref (ad (6, 0)), .int (S.2.1 7 0 0), .ref (ad (8, 0)), .ref (ad (9, 0)), .ref (ad (10, 0)), .ref (ad (11, 0)), .ref (ad (12, 0)), .ref (ad (13, 0)), .ref (ad (14, 0)), .ref (ad (15, 0)), .ref (ad (16, 0)), .ref (ad (17, 0)), .ref (ad (19, 0)), .int (nI (S.1 2 0)), .ref (ad (21, 0)), .ref (ad (22, 0)), .int (nI (S.1 3 0)), .ref (ad (23, 0)), .ref (ad (24, 0)), .ref (ad (26, 0)), .ref (ad (28, 0)), .ref (ad (29, 0)), .int (nI (S.1 4 0)), .int (S.2.1 26 0 0)].set 22 (.int (nI v)))) = xO 4 [.ref (ad (1, 0)), .ref (ad (2, 0)), .int (nI ((sN S 3 0 v).1 0 0)), .int (nI ((sN S 3 0 v).1 1 0)), .ref (ad (3, 0)), .ref (ad (5, 0)), .ref (ad (6, 0)), .int ((sN S 3 0 v).2.1 7 0 0), .ref (ad (8, 0)), .ref (ad (9, 0)), .ref (ad (10, 0)), .ref (ad (11, 0)), .ref (ad (12, 0)), .ref (ad (13, 0)), .ref (ad (14, 0)), .ref (ad (15, 0)), .ref (ad (16, 0)), .ref (ad (17, 0)), .ref (ad (19, 0)), .int (nI ((sN S 3 0 v).1 2 0)), .ref (ad (21, 0)), .ref (ad (22, 0)), .int (nI ((sN S 3 0 v).1 3 0)), .ref (ad (23, 0)), .ref (ad (24, 0)), .ref (ad (26, 0)), .ref (ad (28, 0)), .ref (ad (29, 0)), .int (nI ((sN S 3 0 v).1 4 0)), .int ((sN S 3 0 v).2.1 26 0 0)] := by
    simp [fset, nset]
  rw [e] at hat
  refine xRW.put (ce1 := mce G (sN S 3 0 v) ad z) h 0 0 rfl (Nat.zero_lt_one) ho rfl hat rfl (fun k1 i1 b1 hb1 hlt hne => ?_)
  by_cases hk : k1 = 0
  · subst hk
    have hi1 : i1 ≠ 0 := hne.resolve_left (fun q => q rfl)
    have hb2 : 1 = b1 := Option.some.inj hb1
    omega
  · have e2 : mce G (sN S 3 0 v) ad z i1 = (mce G S ad z i1).set 0 (xO 4 [.ref (ad (1, 0)), .ref (ad (2, 0)), .int (nI ((sN S 3 0 v).1 0 0)), .int (nI ((sN S 3 0 v).1 1 0)), .ref (ad (3, 0)), .ref (ad (5, 0)), .ref (ad (6, 0)), .int ((sN S 3 0 v).2.1 7 0 0), .ref (ad (8, 0)), .ref (ad (9, 0)), .ref (ad (10, 0)), .ref (ad (11, 0)), .ref (ad (12, 0)), .ref (ad (13, 0)), .ref (ad (14, 0)), .ref (ad (15, 0)), .ref (ad (16, 0)), .ref (ad (17, 0)), .ref (ad (19, 0)), .int (nI ((sN S 3 0 v).1 2 0)), .ref (ad (21, 0)), .ref (ad (22, 0)), .int (nI ((sN S 3 0 v).1 3 0)), .ref (ad (23, 0)), .ref (ad (24, 0)), .ref (ad (26, 0)), .ref (ad (28, 0)), .ref (ad (29, 0)), .int (nI ((sN S 3 0 v).1 4 0)), .int ((sN S 3 0 v).2.1 26 0 0)]) := rfl
    rw [e2, List.getElem?_set_ne (Ne.symm hk)]
theorem ms_0_28 (h : xRM G A S ad z H) {v : Nat} (ho : xOff (ad (0, 0)) H H1) (hat : xat G (ad (0, 0)) (xO 4 ([.ref (ad (1, 0)), .ref (ad (2, 0)), .int (nI (S.1 0 0)), .int (nI (S.1 1 0)), .ref (ad (3, 0)), .ref (ad (5, 0)), .ref (ad (6, 0)), .int (S.2.1 7 0 0), .ref (ad (8, 0)), .ref (ad (9, 0)), .ref (ad (10, 0)), .ref (ad (11, 0)), .ref (ad (12, 0)), .ref (ad (13, 0)), .ref (ad (14, 0)), .ref (ad (15, 0)), .ref (ad (16, 0)), .ref (ad (17, 0)), .ref (ad (19, 0)), .int (nI (S.1 2 0)), .ref (ad (21, 0)), .ref (ad (22, 0)), .int (nI (S.1 3 0)), .ref (ad (23, 0)), .ref (ad (24, 0)), .ref (ad (26, 0)), .ref (ad (28, 0)), .ref (ad (29, 0)), .int (nI (S.1 4 0)), .int (S.2.1 26 0 0)].set 28 (.int (nI v)))) H1) : xRM G A (sN S 4 0 v) ad z H1 := by
  have e : (xO 4 ([.ref (ad (1, 0)), .ref (ad (2, 0)), .int (nI (S.1 0 0)), .int (nI (S.1 1 0)), .ref (ad (3, 0)), .ref (ad (5, 0)), .ref (ad (6, 0)), .int (S.2.1 7 0 0), .ref (ad (8, 0)), .ref (ad (9, 0)), .ref (ad (10, 0)), .ref (ad (11, 0)), .ref (ad (12, 0)), .ref (ad (13, 0)), .ref (ad (14, 0)), .ref (ad (15, 0)), .ref (ad (16, 0)), .ref (ad (17, 0)), .ref (ad (19, 0)), .int (nI (S.1 2 0)), .ref (ad (21, 0)), .ref (ad (22, 0)), .int (nI (S.1 3 0)), .ref (ad (23, 0)), .ref (ad (24, 0)), .ref (ad (26, 0)), .ref (ad (28, 0)), .ref (ad (29, 0)), .int (nI (S.1 4 0)), .int (S.2.1 26 0 0)].set 28 (.int (nI v)))) = xO 4 [.ref (ad (1, 0)), .ref (ad (2, 0)), .int (nI ((sN S 4 0 v).1 0 0)), .int (nI ((sN S 4 0 v).1 1 0)), .ref (ad (3, 0)), .ref (ad (5, 0)), .ref (ad (6, 0)), .int ((sN S 4 0 v).2.1 7 0 0), .ref (ad (8, 0)), .ref (ad (9, 0)), .ref (ad (10, 0)), .ref (ad (11, 0)), .ref (ad (12, 0)), .ref (ad (13, 0)), .ref (ad (14, 0)), .ref (ad (15, 0)), .ref (ad (16, 0)), .ref (ad (17, 0)), .ref (ad (19, 0)), .int (nI ((sN S 4 0 v).1 2 0)), .ref (ad (21, 0)), .ref (ad (22, 0)), .int (nI ((sN S 4 0 v).1 3 0)), .ref (ad (23, 0)), .ref (ad (24, 0)), .ref (ad (26, 0)), .ref (ad (28, 0)), .ref (ad (29, 0)), .int (nI ((sN S 4 0 v).1 4 0)), .int ((sN S 4 0 v).2.1 26 0 0)] := by
    simp [fset, nset]
  rw [e] at hat
  refine xRW.put (ce1 := mce G (sN S 4 0 v) ad z) h 0 0 rfl (Nat.zero_lt_one) ho rfl hat rfl (fun k1 i1 b1 hb1 hlt hne => ?_)
  by_cases hk : k1 = 0
  · subst hk
    have hi1 : i1 ≠ 0 := hne.resolve_left (fun q => q rfl)
    have hb2 : 1 = b1 := Option.some.inj hb1
    omega
  · have e2 : mce G (sN S 4 0 v) ad z i1 = (mce G S ad z i1).set 0 (xO 4 [.ref (ad (1, 0)), .ref (ad (2, 0)), .int (nI ((sN S 4 0 v).1 0 0)), .int (nI ((sN S 4 0 v).1 1 0)), .ref (ad (3, 0)), .ref (ad (5, 0)), .ref (ad (6, 0)), .int ((sN S 4 0 v).2.1 7 0 0), .ref (ad (8, 0)), .ref (ad (9, 0)), .ref (ad (10, 0)), .ref (ad (11, 0)), .ref (ad (12, 0)), .ref (ad (13, 0)), .ref (ad (14, 0)), .ref (ad (15, 0)), .ref (ad (16, 0)), .ref (ad (17, 0)), .ref (ad (19, 0)), .int (nI ((sN S 4 0 v).1 2 0)), .ref (ad (21, 0)), .ref (ad (22, 0)), .int (nI ((sN S 4 0 v).1 3 0)), .ref (ad (23, 0)), .ref (ad (24, 0)), .ref (ad (26, 0)), .ref (ad (28, 0)), .ref (ad (29, 0)), .int (nI ((sN S 4 0 v).1 4 0)), .int ((sN S 4 0 v).2.1 26 0 0)]) := rfl
    rw [e2, List.getElem?_set_ne (Ne.symm hk)]
theorem ms_0_29 (h : xRM G A S ad z H) {v : Int32} (ho : xOff (ad (0, 0)) H H1) (hat : xat G (ad (0, 0)) (xO 4 ([.ref (ad (1, 0)), .ref (ad (2, 0)), .int (nI (S.1 0 0)), .int (nI (S.1 1 0)), .ref (ad (3, 0)), .ref (ad (5, 0)), .ref (ad (6, 0)), .int (S.2.1 7 0 0), .ref (ad (8, 0)), .ref (ad (9, 0)), .ref (ad (10, 0)), .ref (ad (11, 0)), .ref (ad (12, 0)), .ref (ad (13, 0)), .ref (ad (14, 0)), .ref (ad (15, 0)), .ref (ad (16, 0)), .ref (ad (17, 0)), .ref (ad (19, 0)), .int (nI (S.1 2 0)), .ref (ad (21, 0)), .ref (ad (22, 0)), .int (nI (S.1 3 0)), .ref (ad (23, 0)), .ref (ad (24, 0)), .ref (ad (26, 0)), .ref (ad (28, 0)), .ref (ad (29, 0)), .int (nI (S.1 4 0)), .int (S.2.1 26 0 0)].set 29 (.int v))) H1) : xRM G A (sF S 26 0 0 v) ad z H1 := by
  have e : (xO 4 ([.ref (ad (1, 0)), .ref (ad (2, 0)), .int (nI (S.1 0 0)), .int (nI (S.1 1 0)), .ref (ad (3, 0)), .ref (ad (5, 0)), .ref (ad (6, 0)), .int (S.2.1 7 0 0), .ref (ad (8, 0)), .ref (ad (9, 0)), .ref (ad (10, 0)), .ref (ad (11, 0)), .ref (ad (12, 0)), .ref (ad (13, 0)), .ref (ad (14, 0)), .ref (ad (15, 0)), .ref (ad (16, 0)), .ref (ad (17, 0)), .ref (ad (19, 0)), .int (nI (S.1 2 0)), .ref (ad (21, 0)), .ref (ad (22, 0)), .int (nI (S.1 3 0)), .ref (ad (23, 0)), .ref (ad (24, 0)), .ref (ad (26, 0)), .ref (ad (28, 0)), .ref (ad (29, 0)), .int (nI (S.1 4 0)), .int (S.2.1 26 0 0)].set 29 (.int v))) = xO 4 [.ref (ad (1, 0)), .ref (ad (2, 0)), .int (nI ((sF S 26 0 0 v).1 0 0)), .int (nI ((sF S 26 0 0 v).1 1 0)), .ref (ad (3, 0)), .ref (ad (5, 0)), .ref (ad (6, 0)), .int ((sF S 26 0 0 v).2.1 7 0 0), .ref (ad (8, 0)), .ref (ad (9, 0)), .ref (ad (10, 0)), .ref (ad (11, 0)), .ref (ad (12, 0)), .ref (ad (13, 0)), .ref (ad (14, 0)), .ref (ad (15, 0)), .ref (ad (16, 0)), .ref (ad (17, 0)), .ref (ad (19, 0)), .int (nI ((sF S 26 0 0 v).1 2 0)), .ref (ad (21, 0)), .ref (ad (22, 0)), .int (nI ((sF S 26 0 0 v).1 3 0)), .ref (ad (23, 0)), .ref (ad (24, 0)), .ref (ad (26, 0)), .ref (ad (28, 0)), .ref (ad (29, 0)), .int (nI ((sF S 26 0 0 v).1 4 0)), .int ((sF S 26 0 0 v).2.1 26 0 0)] := by
    simp [fset, nset]
  rw [e] at hat
  refine xRW.put (ce1 := mce G (sF S 26 0 0 v) ad z) h 0 0 rfl (Nat.zero_lt_one) ho rfl hat rfl (fun k1 i1 b1 hb1 hlt hne => ?_)
  by_cases hk : k1 = 0
  · subst hk
    have hi1 : i1 ≠ 0 := hne.resolve_left (fun q => q rfl)
    have hb2 : 1 = b1 := Option.some.inj hb1
    omega
  · have e2 : mce G (sF S 26 0 0 v) ad z i1 = (mce G S ad z i1).set 0 (xO 4 [.ref (ad (1, 0)), .ref (ad (2, 0)), .int (nI ((sF S 26 0 0 v).1 0 0)), .int (nI ((sF S 26 0 0 v).1 1 0)), .ref (ad (3, 0)), .ref (ad (5, 0)), .ref (ad (6, 0)), .int ((sF S 26 0 0 v).2.1 7 0 0), .ref (ad (8, 0)), .ref (ad (9, 0)), .ref (ad (10, 0)), .ref (ad (11, 0)), .ref (ad (12, 0)), .ref (ad (13, 0)), .ref (ad (14, 0)), .ref (ad (15, 0)), .ref (ad (16, 0)), .ref (ad (17, 0)), .ref (ad (19, 0)), .int (nI ((sF S 26 0 0 v).1 2 0)), .ref (ad (21, 0)), .ref (ad (22, 0)), .int (nI ((sF S 26 0 0 v).1 3 0)), .ref (ad (23, 0)), .ref (ad (24, 0)), .ref (ad (26, 0)), .ref (ad (28, 0)), .ref (ad (29, 0)), .int (nI ((sF S 26 0 0 v).1 4 0)), .int ((sF S 26 0 0 v).2.1 26 0 0)]) := rfl
    rw [e2, List.getElem?_set_ne (Ne.symm hk)]
theorem ms_1_a (h : xRM G A S ad z H) {j : Nat} {v : Int32} (ho : xOff (ad (1, 0)) H H1) (hat : xat G (ad (1, 0)) (xA 0 6 (updV (fun k => .int (S.2.1 0 k 0)) j (.int v))) H1) : xRM G A (sF S 0 j 0 v) ad z H1 := by
  have e : (xA 0 6 (updV (fun k => .int (S.2.1 0 k 0)) j (.int v))) = xA 0 6 (fun k => .int ((sF S 0 j 0 v).2.1 0 k 0)) := by
    congr 1; congr 1; congr 1; funext k; by_cases hk : k = j <;> simp [updV, fset, nset, lset, hk]
  rw [e] at hat
  refine xRW.put (ce1 := mce G (sF S 0 j 0 v) ad z) h 1 0 rfl (Nat.zero_lt_one) ho rfl hat rfl (fun k1 i1 b1 hb1 hlt hne => ?_)
  by_cases hk : k1 = 1
  · subst hk
    have hi1 : i1 ≠ 0 := hne.resolve_left (fun q => q rfl)
    have hb2 : 1 = b1 := Option.some.inj hb1
    omega
  · have e2 : mce G (sF S 0 j 0 v) ad z i1 = (mce G S ad z i1).set 1 (xA 0 6 (fun k => .int ((sF S 0 j 0 v).2.1 0 k 0))) := rfl
    rw [e2, List.getElem?_set_ne (Ne.symm hk)]
theorem ms_2_a (h : xRM G A S ad z H) {j : Nat} {v : Int32} (ho : xOff (ad (2, 0)) H H1) (hat : xat G (ad (2, 0)) (xA 0 6 (updV (fun k => .int (S.2.1 1 k 0)) j (.int v))) H1) : xRM G A (sF S 1 j 0 v) ad z H1 := by
  have e : (xA 0 6 (updV (fun k => .int (S.2.1 1 k 0)) j (.int v))) = xA 0 6 (fun k => .int ((sF S 1 j 0 v).2.1 1 k 0)) := by
    congr 1; congr 1; congr 1; funext k; by_cases hk : k = j <;> simp [updV, fset, nset, lset, hk]
  rw [e] at hat
  refine xRW.put (ce1 := mce G (sF S 1 j 0 v) ad z) h 2 0 rfl (Nat.zero_lt_one) ho rfl hat rfl (fun k1 i1 b1 hb1 hlt hne => ?_)
  by_cases hk : k1 = 2
  · subst hk
    have hi1 : i1 ≠ 0 := hne.resolve_left (fun q => q rfl)
    have hb2 : 1 = b1 := Option.some.inj hb1
    omega
  · have e2 : mce G (sF S 1 j 0 v) ad z i1 = (mce G S ad z i1).set 2 (xA 0 6 (fun k => .int ((sF S 1 j 0 v).2.1 1 k 0))) := rfl
    rw [e2, List.getElem?_set_ne (Ne.symm hk)]
theorem ms_4_a (h : xRM G A S ad z H) {i : Nat} (hi : i < 10) {j : Nat} {v : Int32} (ho : xOff (ad (4, i)) H H1) (hat : xat G (ad (4, i)) (xA 0 4 (updV (fun k => .int (S.2.1 2 i k)) j (.int v))) H1) : xRM G A (sF S 2 i j v) ad z H1 := by
  have e : (xA 0 4 (updV (fun k => .int (S.2.1 2 i k)) j (.int v))) = xA 0 4 (fun k => .int ((sF S 2 i j v).2.1 2 i k)) := by
    congr 1; congr 1; congr 1; funext k; by_cases hk : k = j <;> simp [updV, fset, nset, lset, hk]
  rw [e] at hat
  refine xRW.put (ce1 := mce G (sF S 2 i j v) ad z) h 4 i rfl hi ho rfl hat rfl (fun k1 i1 b1 hb1 hlt hne => ?_)
  by_cases hk : k1 = 4
  · subst hk
    have hi1 : i1 ≠ i := hne.resolve_left (fun q => q rfl)
    show some (xA 0 4 (fun k => .int ((sF S 2 i j v).2.1 2 i1 k))) = some (xA 0 4 (fun k => .int (S.2.1 2 i1 k)))
    simp [fset, nset, hi1]
  · have e2 : mce G (sF S 2 i j v) ad z i1 = (mce G S ad z i1).set 4 (xA 0 4 (fun k => .int ((sF S 2 i j v).2.1 2 i1 k))) := rfl
    rw [e2, List.getElem?_set_ne (Ne.symm hk)]
theorem ms_5_a (h : xRM G A S ad z H) {j : Nat} {v : Int64} (ho : xOff (ad (5, 0)) H H1) (hat : xat G (ad (5, 0)) (xA 1 10 (updV (fun k => .long (S.2.2 k)) j (.long v))) H1) : xRM G A (sL S j v) ad z H1 := by
  have e : (xA 1 10 (updV (fun k => .long (S.2.2 k)) j (.long v))) = xA 1 10 (fun k => .long ((sL S j v).2.2 k)) := by
    congr 1; congr 1; congr 1; funext k; by_cases hk : k = j <;> simp [updV, fset, nset, lset, hk]
  rw [e] at hat
  refine xRW.put (ce1 := mce G (sL S j v) ad z) h 5 0 rfl (Nat.zero_lt_one) ho rfl hat rfl (fun k1 i1 b1 hb1 hlt hne => ?_)
  by_cases hk : k1 = 5
  · subst hk
    have hi1 : i1 ≠ 0 := hne.resolve_left (fun q => q rfl)
    have hb2 : 1 = b1 := Option.some.inj hb1
    omega
  · have e2 : mce G (sL S j v) ad z i1 = (mce G S ad z i1).set 5 (xA 1 10 (fun k => .long ((sL S j v).2.2 k))) := rfl
    rw [e2, List.getElem?_set_ne (Ne.symm hk)]
theorem ms_7_a (h : xRM G A S ad z H) {i : Nat} (hi : i < 4) {j : Nat} {v : Int32} (ho : xOff (ad (7, i)) H H1) (hat : xat G (ad (7, i)) (xA 3 4 (updV (fun k => .int (S.2.1 5 i k)) j (.int v))) H1) : xRM G A (sF S 5 i j v) ad z H1 := by
  have e : (xA 3 4 (updV (fun k => .int (S.2.1 5 i k)) j (.int v))) = xA 3 4 (fun k => .int ((sF S 5 i j v).2.1 5 i k)) := by
    congr 1; congr 1; congr 1; funext k; by_cases hk : k = j <;> simp [updV, fset, nset, lset, hk]
  rw [e] at hat
  refine xRW.put (ce1 := mce G (sF S 5 i j v) ad z) h 7 i rfl hi ho rfl hat rfl (fun k1 i1 b1 hb1 hlt hne => ?_)
  by_cases hk : k1 = 7
  · subst hk
    have hi1 : i1 ≠ i := hne.resolve_left (fun q => q rfl)
    show some (xA 3 4 (fun k => .int ((sF S 5 i j v).2.1 5 i1 k))) = some (xA 3 4 (fun k => .int (S.2.1 5 i1 k)))
    simp [fset, nset, hi1]
  · have e2 : mce G (sF S 5 i j v) ad z i1 = (mce G S ad z i1).set 7 (xA 3 4 (fun k => .int ((sF S 5 i j v).2.1 5 i1 k))) := rfl
    rw [e2, List.getElem?_set_ne (Ne.symm hk)]
theorem ms_8_a (h : xRM G A S ad z H) {j : Nat} {v : Int32} (ho : xOff (ad (8, 0)) H H1) (hat : xat G (ad (8, 0)) (xA 0 150 (updV (fun k => .int (S.2.1 10 k 0)) j (.int v))) H1) : xRM G A (sF S 10 j 0 v) ad z H1 := by
  have e : (xA 0 150 (updV (fun k => .int (S.2.1 10 k 0)) j (.int v))) = xA 0 150 (fun k => .int ((sF S 10 j 0 v).2.1 10 k 0)) := by
    congr 1; congr 1; congr 1; funext k; by_cases hk : k = j <;> simp [updV, fset, nset, lset, hk]
  rw [e] at hat
  refine xRW.put (ce1 := mce G (sF S 10 j 0 v) ad z) h 8 0 rfl (Nat.zero_lt_one) ho rfl hat rfl (fun k1 i1 b1 hb1 hlt hne => ?_)
  by_cases hk : k1 = 8
  · subst hk
    have hi1 : i1 ≠ 0 := hne.resolve_left (fun q => q rfl)
    have hb2 : 1 = b1 := Option.some.inj hb1
    omega
  · have e2 : mce G (sF S 10 j 0 v) ad z i1 = (mce G S ad z i1).set 8 (xA 0 150 (fun k => .int ((sF S 10 j 0 v).2.1 10 k 0))) := rfl
    rw [e2, List.getElem?_set_ne (Ne.symm hk)]
theorem ms_9_a (h : xRM G A S ad z H) {j : Nat} {v : Int32} (ho : xOff (ad (9, 0)) H H1) (hat : xat G (ad (9, 0)) (xA 0 150 (updV (fun k => .int (S.2.1 11 k 0)) j (.int v))) H1) : xRM G A (sF S 11 j 0 v) ad z H1 := by
  have e : (xA 0 150 (updV (fun k => .int (S.2.1 11 k 0)) j (.int v))) = xA 0 150 (fun k => .int ((sF S 11 j 0 v).2.1 11 k 0)) := by
    congr 1; congr 1; congr 1; funext k; by_cases hk : k = j <;> simp [updV, fset, nset, lset, hk]
  rw [e] at hat
  refine xRW.put (ce1 := mce G (sF S 11 j 0 v) ad z) h 9 0 rfl (Nat.zero_lt_one) ho rfl hat rfl (fun k1 i1 b1 hb1 hlt hne => ?_)
  by_cases hk : k1 = 9
  · subst hk
    have hi1 : i1 ≠ 0 := hne.resolve_left (fun q => q rfl)
    have hb2 : 1 = b1 := Option.some.inj hb1
    omega
  · have e2 : mce G (sF S 11 j 0 v) ad z i1 = (mce G S ad z i1).set 9 (xA 0 150 (fun k => .int ((sF S 11 j 0 v).2.1 11 k 0))) := rfl
    rw [e2, List.getElem?_set_ne (Ne.symm hk)]
theorem ms_10_a (h : xRM G A S ad z H) {j : Nat} {v : Int32} (ho : xOff (ad (10, 0)) H H1) (hat : xat G (ad (10, 0)) (xA 0 150 (updV (fun k => .int (S.2.1 12 k 0)) j (.int v))) H1) : xRM G A (sF S 12 j 0 v) ad z H1 := by
  have e : (xA 0 150 (updV (fun k => .int (S.2.1 12 k 0)) j (.int v))) = xA 0 150 (fun k => .int ((sF S 12 j 0 v).2.1 12 k 0)) := by
    congr 1; congr 1; congr 1; funext k; by_cases hk : k = j <;> simp [updV, fset, nset, lset, hk]
  rw [e] at hat
  refine xRW.put (ce1 := mce G (sF S 12 j 0 v) ad z) h 10 0 rfl (Nat.zero_lt_one) ho rfl hat rfl (fun k1 i1 b1 hb1 hlt hne => ?_)
  by_cases hk : k1 = 10
  · subst hk
    have hi1 : i1 ≠ 0 := hne.resolve_left (fun q => q rfl)
    have hb2 : 1 = b1 := Option.some.inj hb1
    omega
  · have e2 : mce G (sF S 12 j 0 v) ad z i1 = (mce G S ad z i1).set 10 (xA 0 150 (fun k => .int ((sF S 12 j 0 v).2.1 12 k 0))) := rfl
    rw [e2, List.getElem?_set_ne (Ne.symm hk)]
theorem ms_11_a (h : xRM G A S ad z H) {j : Nat} {v : Int32} (ho : xOff (ad (11, 0)) H H1) (hat : xat G (ad (11, 0)) (xA 0 150 (updV (fun k => .int (S.2.1 13 k 0)) j (.int v))) H1) : xRM G A (sF S 13 j 0 v) ad z H1 := by
  have e : (xA 0 150 (updV (fun k => .int (S.2.1 13 k 0)) j (.int v))) = xA 0 150 (fun k => .int ((sF S 13 j 0 v).2.1 13 k 0)) := by
    congr 1; congr 1; congr 1; funext k; by_cases hk : k = j <;> simp [updV, fset, nset, lset, hk]
  rw [e] at hat
  refine xRW.put (ce1 := mce G (sF S 13 j 0 v) ad z) h 11 0 rfl (Nat.zero_lt_one) ho rfl hat rfl (fun k1 i1 b1 hb1 hlt hne => ?_)
  by_cases hk : k1 = 11
  · subst hk
    have hi1 : i1 ≠ 0 := hne.resolve_left (fun q => q rfl)
    have hb2 : 1 = b1 := Option.some.inj hb1
    omega
  · have e2 : mce G (sF S 13 j 0 v) ad z i1 = (mce G S ad z i1).set 11 (xA 0 150 (fun k => .int ((sF S 13 j 0 v).2.1 13 k 0))) := rfl
    rw [e2, List.getElem?_set_ne (Ne.symm hk)]
theorem ms_12_a (h : xRM G A S ad z H) {j : Nat} {v : Int32} (ho : xOff (ad (12, 0)) H H1) (hat : xat G (ad (12, 0)) (xA 0 150 (updV (fun k => .int (S.2.1 14 k 0)) j (.int v))) H1) : xRM G A (sF S 14 j 0 v) ad z H1 := by
  have e : (xA 0 150 (updV (fun k => .int (S.2.1 14 k 0)) j (.int v))) = xA 0 150 (fun k => .int ((sF S 14 j 0 v).2.1 14 k 0)) := by
    congr 1; congr 1; congr 1; funext k; by_cases hk : k = j <;> simp [updV, fset, nset, lset, hk]
  rw [e] at hat
  refine xRW.put (ce1 := mce G (sF S 14 j 0 v) ad z) h 12 0 rfl (Nat.zero_lt_one) ho rfl hat rfl (fun k1 i1 b1 hb1 hlt hne => ?_)
  by_cases hk : k1 = 12
  · subst hk
    have hi1 : i1 ≠ 0 := hne.resolve_left (fun q => q rfl)
    have hb2 : 1 = b1 := Option.some.inj hb1
    omega
  · have e2 : mce G (sF S 14 j 0 v) ad z i1 = (mce G S ad z i1).set 12 (xA 0 150 (fun k => .int ((sF S 14 j 0 v).2.1 14 k 0))) := rfl
    rw [e2, List.getElem?_set_ne (Ne.symm hk)]
theorem ms_13_a (h : xRM G A S ad z H) {j : Nat} {v : Int32} (ho : xOff (ad (13, 0)) H H1) (hat : xat G (ad (13, 0)) (xA 4 150 (updV (fun k => .int (S.2.1 15 k 0)) j (.int v))) H1) : xRM G A (sF S 15 j 0 v) ad z H1 := by
  have e : (xA 4 150 (updV (fun k => .int (S.2.1 15 k 0)) j (.int v))) = xA 4 150 (fun k => .int ((sF S 15 j 0 v).2.1 15 k 0)) := by
    congr 1; congr 1; congr 1; funext k; by_cases hk : k = j <;> simp [updV, fset, nset, lset, hk]
  rw [e] at hat
  refine xRW.put (ce1 := mce G (sF S 15 j 0 v) ad z) h 13 0 rfl (Nat.zero_lt_one) ho rfl hat rfl (fun k1 i1 b1 hb1 hlt hne => ?_)
  by_cases hk : k1 = 13
  · subst hk
    have hi1 : i1 ≠ 0 := hne.resolve_left (fun q => q rfl)
    have hb2 : 1 = b1 := Option.some.inj hb1
    omega
  · have e2 : mce G (sF S 15 j 0 v) ad z i1 = (mce G S ad z i1).set 13 (xA 4 150 (fun k => .int ((sF S 15 j 0 v).2.1 15 k 0))) := rfl
    rw [e2, List.getElem?_set_ne (Ne.symm hk)]
theorem ms_14_a (h : xRM G A S ad z H) {j : Nat} {v : Int32} (ho : xOff (ad (14, 0)) H H1) (hat : xat G (ad (14, 0)) (xA 4 150 (updV (fun k => .int (S.2.1 16 k 0)) j (.int v))) H1) : xRM G A (sF S 16 j 0 v) ad z H1 := by
  have e : (xA 4 150 (updV (fun k => .int (S.2.1 16 k 0)) j (.int v))) = xA 4 150 (fun k => .int ((sF S 16 j 0 v).2.1 16 k 0)) := by
    congr 1; congr 1; congr 1; funext k; by_cases hk : k = j <;> simp [updV, fset, nset, lset, hk]
  rw [e] at hat
  refine xRW.put (ce1 := mce G (sF S 16 j 0 v) ad z) h 14 0 rfl (Nat.zero_lt_one) ho rfl hat rfl (fun k1 i1 b1 hb1 hlt hne => ?_)
  by_cases hk : k1 = 14
  · subst hk
    have hi1 : i1 ≠ 0 := hne.resolve_left (fun q => q rfl)
    have hb2 : 1 = b1 := Option.some.inj hb1
    omega
  · have e2 : mce G (sF S 16 j 0 v) ad z i1 = (mce G S ad z i1).set 14 (xA 4 150 (fun k => .int ((sF S 16 j 0 v).2.1 16 k 0))) := rfl
    rw [e2, List.getElem?_set_ne (Ne.symm hk)]
theorem ms_15_a (h : xRM G A S ad z H) {j : Nat} {v : Int32} (ho : xOff (ad (15, 0)) H H1) (hat : xat G (ad (15, 0)) (xA 0 150 (updV (fun k => .int (S.2.1 17 k 0)) j (.int v))) H1) : xRM G A (sF S 17 j 0 v) ad z H1 := by
  have e : (xA 0 150 (updV (fun k => .int (S.2.1 17 k 0)) j (.int v))) = xA 0 150 (fun k => .int ((sF S 17 j 0 v).2.1 17 k 0)) := by
    congr 1; congr 1; congr 1; funext k; by_cases hk : k = j <;> simp [updV, fset, nset, lset, hk]
  rw [e] at hat
  refine xRW.put (ce1 := mce G (sF S 17 j 0 v) ad z) h 15 0 rfl (Nat.zero_lt_one) ho rfl hat rfl (fun k1 i1 b1 hb1 hlt hne => ?_)
  by_cases hk : k1 = 15
  · subst hk
    have hi1 : i1 ≠ 0 := hne.resolve_left (fun q => q rfl)
    have hb2 : 1 = b1 := Option.some.inj hb1
    omega
  · have e2 : mce G (sF S 17 j 0 v) ad z i1 = (mce G S ad z i1).set 15 (xA 0 150 (fun k => .int ((sF S 17 j 0 v).2.1 17 k 0))) := rfl
    rw [e2, List.getElem?_set_ne (Ne.symm hk)]
theorem ms_16_a (h : xRM G A S ad z H) {j : Nat} {v : Nat} (ho : xOff (ad (16, 0)) H H1) (hat : xat G (ad (16, 0)) (xA 0 150 (updV (fun k => .int (nI (S.1 6 k))) j (.int (nI v)))) H1) : xRM G A (sN S 6 j v) ad z H1 := by
  have e : (xA 0 150 (updV (fun k => .int (nI (S.1 6 k))) j (.int (nI v)))) = xA 0 150 (fun k => .int (nI ((sN S 6 j v).1 6 k))) := by
    congr 1; congr 1; congr 1; funext k; by_cases hk : k = j <;> simp [updV, fset, nset, lset, hk]
  rw [e] at hat
  refine xRW.put (ce1 := mce G (sN S 6 j v) ad z) h 16 0 rfl (Nat.zero_lt_one) ho rfl hat rfl (fun k1 i1 b1 hb1 hlt hne => ?_)
  by_cases hk : k1 = 16
  · subst hk
    have hi1 : i1 ≠ 0 := hne.resolve_left (fun q => q rfl)
    have hb2 : 1 = b1 := Option.some.inj hb1
    omega
  · have e2 : mce G (sN S 6 j v) ad z i1 = (mce G S ad z i1).set 16 (xA 0 150 (fun k => .int (nI ((sN S 6 j v).1 6 k)))) := rfl
    rw [e2, List.getElem?_set_ne (Ne.symm hk)]
theorem ms_18_a (h : xRM G A S ad z H) {i : Nat} (hi : i < 150) {j : Nat} {v : Int32} (ho : xOff (ad (18, i)) H H1) (hat : xat G (ad (18, i)) (xA 0 5 (updV (fun k => .int (S.2.1 18 i k)) j (.int v))) H1) : xRM G A (sF S 18 i j v) ad z H1 := by
  have e : (xA 0 5 (updV (fun k => .int (S.2.1 18 i k)) j (.int v))) = xA 0 5 (fun k => .int ((sF S 18 i j v).2.1 18 i k)) := by
    congr 1; congr 1; congr 1; funext k; by_cases hk : k = j <;> simp [updV, fset, nset, lset, hk]
  rw [e] at hat
  refine xRW.put (ce1 := mce G (sF S 18 i j v) ad z) h 18 i rfl hi ho rfl hat rfl (fun k1 i1 b1 hb1 hlt hne => ?_)
  by_cases hk : k1 = 18
  · subst hk
    have hi1 : i1 ≠ i := hne.resolve_left (fun q => q rfl)
    show some (xA 0 5 (fun k => .int ((sF S 18 i j v).2.1 18 i1 k))) = some (xA 0 5 (fun k => .int (S.2.1 18 i1 k)))
    simp [fset, nset, hi1]
  · have e2 : mce G (sF S 18 i j v) ad z i1 = (mce G S ad z i1).set 18 (xA 0 5 (fun k => .int ((sF S 18 i j v).2.1 18 i1 k))) := rfl
    rw [e2, List.getElem?_set_ne (Ne.symm hk)]
theorem ms_20_a (h : xRM G A S ad z H) {i : Nat} (hi : i < 150) {j : Nat} {v : Int32} (ho : xOff (ad (20, i)) H H1) (hat : xat G (ad (20, i)) (xA 0 5 (updV (fun k => .int (S.2.1 19 i k)) j (.int v))) H1) : xRM G A (sF S 19 i j v) ad z H1 := by
  have e : (xA 0 5 (updV (fun k => .int (S.2.1 19 i k)) j (.int v))) = xA 0 5 (fun k => .int ((sF S 19 i j v).2.1 19 i k)) := by
    congr 1; congr 1; congr 1; funext k; by_cases hk : k = j <;> simp [updV, fset, nset, lset, hk]
  rw [e] at hat
  refine xRW.put (ce1 := mce G (sF S 19 i j v) ad z) h 20 i rfl hi ho rfl hat rfl (fun k1 i1 b1 hb1 hlt hne => ?_)
  by_cases hk : k1 = 20
  · subst hk
    have hi1 : i1 ≠ i := hne.resolve_left (fun q => q rfl)
    show some (xA 0 5 (fun k => .int ((sF S 19 i j v).2.1 19 i1 k))) = some (xA 0 5 (fun k => .int (S.2.1 19 i1 k)))
    simp [fset, nset, hi1]
  · have e2 : mce G (sF S 19 i j v) ad z i1 = (mce G S ad z i1).set 20 (xA 0 5 (fun k => .int ((sF S 19 i j v).2.1 19 i1 k))) := rfl
    rw [e2, List.getElem?_set_ne (Ne.symm hk)]
theorem ms_21_a (h : xRM G A S ad z H) {j : Nat} {v : Int32} (ho : xOff (ad (21, 0)) H H1) (hat : xat G (ad (21, 0)) (xA 0 30 (updV (fun k => .int (S.2.1 20 k 0)) j (.int v))) H1) : xRM G A (sF S 20 j 0 v) ad z H1 := by
  have e : (xA 0 30 (updV (fun k => .int (S.2.1 20 k 0)) j (.int v))) = xA 0 30 (fun k => .int ((sF S 20 j 0 v).2.1 20 k 0)) := by
    congr 1; congr 1; congr 1; funext k; by_cases hk : k = j <;> simp [updV, fset, nset, lset, hk]
  rw [e] at hat
  refine xRW.put (ce1 := mce G (sF S 20 j 0 v) ad z) h 21 0 rfl (Nat.zero_lt_one) ho rfl hat rfl (fun k1 i1 b1 hb1 hlt hne => ?_)
  by_cases hk : k1 = 21
  · subst hk
    have hi1 : i1 ≠ 0 := hne.resolve_left (fun q => q rfl)
    have hb2 : 1 = b1 := Option.some.inj hb1
    omega
  · have e2 : mce G (sF S 20 j 0 v) ad z i1 = (mce G S ad z i1).set 21 (xA 0 30 (fun k => .int ((sF S 20 j 0 v).2.1 20 k 0))) := rfl
    rw [e2, List.getElem?_set_ne (Ne.symm hk)]
theorem ms_22_a (h : xRM G A S ad z H) {j : Nat} {v : Int32} (ho : xOff (ad (22, 0)) H H1) (hat : xat G (ad (22, 0)) (xA 0 30 (updV (fun k => .int (S.2.1 21 k 0)) j (.int v))) H1) : xRM G A (sF S 21 j 0 v) ad z H1 := by
  have e : (xA 0 30 (updV (fun k => .int (S.2.1 21 k 0)) j (.int v))) = xA 0 30 (fun k => .int ((sF S 21 j 0 v).2.1 21 k 0)) := by
    congr 1; congr 1; congr 1; funext k; by_cases hk : k = j <;> simp [updV, fset, nset, lset, hk]
  rw [e] at hat
  refine xRW.put (ce1 := mce G (sF S 21 j 0 v) ad z) h 22 0 rfl (Nat.zero_lt_one) ho rfl hat rfl (fun k1 i1 b1 hb1 hlt hne => ?_)
  by_cases hk : k1 = 22
  · subst hk
    have hi1 : i1 ≠ 0 := hne.resolve_left (fun q => q rfl)
    have hb2 : 1 = b1 := Option.some.inj hb1
    omega
  · have e2 : mce G (sF S 21 j 0 v) ad z i1 = (mce G S ad z i1).set 22 (xA 0 30 (fun k => .int ((sF S 21 j 0 v).2.1 21 k 0))) := rfl
    rw [e2, List.getElem?_set_ne (Ne.symm hk)]
theorem ms_23_a (h : xRM G A S ad z H) {j : Nat} {v : Int32} (ho : xOff (ad (23, 0)) H H1) (hat : xat G (ad (23, 0)) (xA 0 3 (updV (fun k => .int (S.2.1 6 k 0)) j (.int v))) H1) : xRM G A (sF S 6 j 0 v) ad z H1 := by
  have e : (xA 0 3 (updV (fun k => .int (S.2.1 6 k 0)) j (.int v))) = xA 0 3 (fun k => .int ((sF S 6 j 0 v).2.1 6 k 0)) := by
    congr 1; congr 1; congr 1; funext k; by_cases hk : k = j <;> simp [updV, fset, nset, lset, hk]
  rw [e] at hat
  refine xRW.put (ce1 := mce G (sF S 6 j 0 v) ad z) h 23 0 rfl (Nat.zero_lt_one) ho rfl hat rfl (fun k1 i1 b1 hb1 hlt hne => ?_)
  by_cases hk : k1 = 23
  · subst hk
    have hi1 : i1 ≠ 0 := hne.resolve_left (fun q => q rfl)
    have hb2 : 1 = b1 := Option.some.inj hb1
    omega
  · have e2 : mce G (sF S 6 j 0 v) ad z i1 = (mce G S ad z i1).set 23 (xA 0 3 (fun k => .int ((sF S 6 j 0 v).2.1 6 k 0))) := rfl
    rw [e2, List.getElem?_set_ne (Ne.symm hk)]
theorem ms_25_a (h : xRM G A S ad z H) {i : Nat} (hi : i < 4) {j : Nat} {v : Int32} (ho : xOff (ad (25, i)) H H1) (hat : xat G (ad (25, i)) (xA 4 6 (updV (fun k => .int (S.2.1 24 i k)) j (.int v))) H1) : xRM G A (sF S 24 i j v) ad z H1 := by
  have e : (xA 4 6 (updV (fun k => .int (S.2.1 24 i k)) j (.int v))) = xA 4 6 (fun k => .int ((sF S 24 i j v).2.1 24 i k)) := by
    congr 1; congr 1; congr 1; funext k; by_cases hk : k = j <;> simp [updV, fset, nset, lset, hk]
  rw [e] at hat
  refine xRW.put (ce1 := mce G (sF S 24 i j v) ad z) h 25 i rfl hi ho rfl hat rfl (fun k1 i1 b1 hb1 hlt hne => ?_)
  by_cases hk : k1 = 25
  · subst hk
    have hi1 : i1 ≠ i := hne.resolve_left (fun q => q rfl)
    show some (xA 4 6 (fun k => .int ((sF S 24 i j v).2.1 24 i1 k))) = some (xA 4 6 (fun k => .int (S.2.1 24 i1 k)))
    simp [fset, nset, hi1]
  · have e2 : mce G (sF S 24 i j v) ad z i1 = (mce G S ad z i1).set 25 (xA 4 6 (fun k => .int ((sF S 24 i j v).2.1 24 i1 k))) := rfl
    rw [e2, List.getElem?_set_ne (Ne.symm hk)]
theorem ms_27_a (h : xRM G A S ad z H) {i : Nat} (hi : i < 4) {j : Nat} {v : Int32} (ho : xOff (ad (27, i)) H H1) (hat : xat G (ad (27, i)) (xA 0 6 (updV (fun k => .int (S.2.1 23 i k)) j (.int v))) H1) : xRM G A (sF S 23 i j v) ad z H1 := by
  have e : (xA 0 6 (updV (fun k => .int (S.2.1 23 i k)) j (.int v))) = xA 0 6 (fun k => .int ((sF S 23 i j v).2.1 23 i k)) := by
    congr 1; congr 1; congr 1; funext k; by_cases hk : k = j <;> simp [updV, fset, nset, lset, hk]
  rw [e] at hat
  refine xRW.put (ce1 := mce G (sF S 23 i j v) ad z) h 27 i rfl hi ho rfl hat rfl (fun k1 i1 b1 hb1 hlt hne => ?_)
  by_cases hk : k1 = 27
  · subst hk
    have hi1 : i1 ≠ i := hne.resolve_left (fun q => q rfl)
    show some (xA 0 6 (fun k => .int ((sF S 23 i j v).2.1 23 i1 k))) = some (xA 0 6 (fun k => .int (S.2.1 23 i1 k)))
    simp [fset, nset, hi1]
  · have e2 : mce G (sF S 23 i j v) ad z i1 = (mce G S ad z i1).set 27 (xA 0 6 (fun k => .int ((sF S 23 i j v).2.1 23 i1 k))) := rfl
    rw [e2, List.getElem?_set_ne (Ne.symm hk)]
theorem ms_28_a (h : xRM G A S ad z H) {j : Nat} {v : Nat} (ho : xOff (ad (28, 0)) H H1) (hat : xat G (ad (28, 0)) (xA 0 4 (updV (fun k => .int (nI (S.1 5 k))) j (.int (nI v)))) H1) : xRM G A (sN S 5 j v) ad z H1 := by
  have e : (xA 0 4 (updV (fun k => .int (nI (S.1 5 k))) j (.int (nI v)))) = xA 0 4 (fun k => .int (nI ((sN S 5 j v).1 5 k))) := by
    congr 1; congr 1; congr 1; funext k; by_cases hk : k = j <;> simp [updV, fset, nset, lset, hk]
  rw [e] at hat
  refine xRW.put (ce1 := mce G (sN S 5 j v) ad z) h 28 0 rfl (Nat.zero_lt_one) ho rfl hat rfl (fun k1 i1 b1 hb1 hlt hne => ?_)
  by_cases hk : k1 = 28
  · subst hk
    have hi1 : i1 ≠ 0 := hne.resolve_left (fun q => q rfl)
    have hb2 : 1 = b1 := Option.some.inj hb1
    omega
  · have e2 : mce G (sN S 5 j v) ad z i1 = (mce G S ad z i1).set 28 (xA 0 4 (fun k => .int (nI ((sN S 5 j v).1 5 k)))) := rfl
    rw [e2, List.getElem?_set_ne (Ne.symm hk)]
theorem ms_30_a (h : xRM G A S ad z H) {i : Nat} (hi : i < 20) {j : Nat} {v : Int32} (ho : xOff (ad (30, i)) H H1) (hat : xat G (ad (30, i)) (xA 0 10 (updV (fun k => .int (S.2.1 25 i k)) j (.int v))) H1) : xRM G A (sF S 25 i j v) ad z H1 := by
  have e : (xA 0 10 (updV (fun k => .int (S.2.1 25 i k)) j (.int v))) = xA 0 10 (fun k => .int ((sF S 25 i j v).2.1 25 i k)) := by
    congr 1; congr 1; congr 1; funext k; by_cases hk : k = j <;> simp [updV, fset, nset, lset, hk]
  rw [e] at hat
  refine xRW.put (ce1 := mce G (sF S 25 i j v) ad z) h 30 i rfl hi ho rfl hat rfl (fun k1 i1 b1 hb1 hlt hne => ?_)
  by_cases hk : k1 = 30
  · subst hk
    have hi1 : i1 ≠ i := hne.resolve_left (fun q => q rfl)
    show some (xA 0 10 (fun k => .int ((sF S 25 i j v).2.1 25 i1 k))) = some (xA 0 10 (fun k => .int (S.2.1 25 i1 k)))
    simp [fset, nset, hi1]
  · have e2 : mce G (sF S 25 i j v) ad z i1 = (mce G S ad z i1).set 30 (xA 0 10 (fun k => .int ((sF S 25 i j v).2.1 25 i1 k))) := rfl
    rw [e2, List.getElem?_set_ne (Ne.symm hk)]
end WM
