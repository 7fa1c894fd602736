/-! WHAT A BREAKAGE COMPUTES; the row of its parts, beside the world -/
set_option maxRecDepth 100000
def xMinF (S : xS) (machine member : Int32) (e : Nat) : Int32 := if S.2.1 11 e 0 = machine ∧ S.2.1 10 e 0 = member ∧ S.2.1 16 e 0 = 100 ∧ ¬ S.2.1 12 e 0 < S.2.1 7 0 0 - 7 then S.2.1 14 e 0 else 0
def xMin (S : xS) (machine member : Int32) : Int32 := sumI (S.1 2 0) (xMinF S machine member)
def xTot (S : xS) (machine : Int32) (k : Nat) : Int32 := sumI k (fun j => xMin S machine (nI j))
def xSh (cost t u : Int32) : Int32 := cost * u / t
def xRe (cost t u : Int32) : Int32 := cost * u - cost * u / t * t
def xLeft (cost t : Int32) (u : Nat → Int32) : Nat → Int32
  | 0 => cost
  | j + 1 => xLeft cost t u j - xSh cost t (u j)
def xTopN (re : Nat → Int32) : Nat → Nat
  | 0 => 0
  | k + 1 => if re (xTopN re k) < re k then k else xTopN re k
def xDist (n : Nat) : Nat → (Nat → Int32) → (Nat → Int32) → Nat → Int32
  | 0, sh, _ => sh
  | r + 1, sh, re => xDist n r (upd sh (xTopN re n) (sh (xTopN re n) + 1)) (upd re (xTopN re n) (-1))
def xPayN (S : xS) (b : Nat) (sh : Nat → Int32) : Nat → xS
  | 0 => S
  | j + 1 => sF (sF (xPayN S b sh j) 25 b j (sh j)) 4 j 0 ((xPayN S b sh j).2.1 4 j 0 + sh j)
def xBreakS (S : xS) (machine cost : Int32) : xS :=
  if xTot S machine (S.1 1 0) ≤ 0 then S else xPayN S (S.1 4 0) (xDist (S.1 1 0) (xLeft cost (xTot S machine (S.1 1 0)) (fun j => xMin S machine (nI j)) (S.1 1 0)).toNatClampNeg (fun j => xSh cost (xTot S machine (S.1 1 0)) (xMin S machine (nI j))) (fun j => xRe cost (xTot S machine (S.1 1 0)) (xMin S machine (nI j)))) (S.1 1 0)
def xBreak (S : xS) (machine cost : Int32) : Nat × (Int32 × xS) :=
  if inI machine 0 (nI (S.1 0 0) - 1) = false then (4, 0, S) else if inI cost 1 100000 = false then (1, 0, S) else if ¬ S.1 4 0 < 20 then (2, 0, S)
  else (0, xTot S machine (S.1 1 0), sN (xBreakS S machine cost) 4 0 (S.1 4 0 + 1))
theorem xTopN_lt (re : Nat → Int32) : ∀ {k : Nat}, 0 < k → xTopN re k < k
  | 0, h => by omega
  | 1, _ => by unfold xTopN; split <;> simp [xTopN]
  | k + 2, _ => by
    unfold xTopN
    split
    · omega
    · have := xTopN_lt re (k := k + 1) (by omega)
      omega
/-- the row of parts: n of N lie there -/
def xPs (G : xG) (A : Nat → Prop) (S : xS) (ad : Nat × Nat → Nat) (z : xZ) (q : Nat) (pa : Nat → Nat) (N n : Nat) (mi sh re : Nat → Int32) (mach cost : Int32) (H : Heap) : Prop :=
  (xat G q (xA 9 N (fun k => if k < n then .ref (pa k) else .null)) H ∧ A q ∧ xFree G S ad z q) ∧ (∀ k, k < n → xat G (pa k) (xO 9 [.int (mi k), .int (sh k), .int (re k), .int mach, .int cost, .ref (ad (0, 0))]) H ∧ A (pa k) ∧ xFree G S ad z (pa k) ∧ pa k ≠ q) ∧ ∀ i j, i < n → j < n → pa i = pa j → i = j
section XPS
variable {G : xG} {A : Nat → Prop} {S T : xS} {ad : Nat × Nat → Nat} {z : xZ} {q : Nat} {pa : Nat → Nat} {N n k : Nat} {mi sh re : Nat → Int32} {mach cost : Int32} {H H1 : Heap}
theorem xPs.arr (h : xPs G A S ad z q pa N n mi sh re mach cost H) : xat G q (xA 9 N (fun k => if k < n then .ref (pa k) else .null)) H := h.1.1
theorem xPs.at (h : xPs G A S ad z q pa N n mi sh re mach cost H) (hk : k < n) : xat G (pa k) (xO 9 [.int (mi k), .int (sh k), .int (re k), .int mach, .int cost, .ref (ad (0, 0))]) H := (h.2.1 k hk).1
theorem xPs.inA (h : xPs G A S ad z q pa N n mi sh re mach cost H) (hk : k < n) : A (pa k) := (h.2.1 k hk).2.1
theorem xPs.fr (h : xPs G A S ad z q pa N n mi sh re mach cost H) (hk : k < n) : xFree G S ad z (pa k) := (h.2.1 k hk).2.2.1
theorem xPs.kept (h : xPs G A S ad z q pa N n mi sh re mach cost H) (hq : H1[q]? = H[q]?) (hp : ∀ k, k < n → H1[pa k]? = H[pa k]?) : xPs G A S ad z q pa N n mi sh re mach cost H1 := ⟨⟨h.1.1.kept hq, h.1.2⟩, fun k hk => ⟨(h.2.1 k hk).1.kept (hp k hk), (h.2.1 k hk).2⟩, h.2.2⟩
/-- a cell of no part has changed -/
theorem xPs.off (h : xPs G A S ad z q pa N n mi sh re mach cost H) {x : Nat} (h1 : q ≠ x) (h2 : ∀ k, k < n → pa k ≠ x) (ho : xOff x H H1) : xPs G A S ad z q pa N n mi sh re mach cost H1 := h.kept (ho.2 q h1) fun k hk => ho.2 _ (h2 k hk)
/-- a role of the world has changed -/
theorem xPs.world (h : xPs G A S ad z q pa N n mi sh re mach cost H) (r i : Nat) {b : Nat} {e : xE} (hb : (xbd S)[r]? = some b) (hi : i < b) (he : (xce G S ad z i)[r]? = some e) (ho : xOff (ad (r, i)) H H1) : xPs G A S ad z q pa N n mi sh re mach cost H1 := h.off (fun z9 => h.1.2.2 r i b e hb hi he z9.symm) (fun k hk z9 => (h.2.1 k hk).2.2.1 r i b e hb hi he z9.symm) ho
/-- a part has changed -/
theorem xPs.set (h : xPs G A S ad z q pa N n mi sh re mach cost H) (hk : k < n) (ho : xOff (pa k) H H1) {mi1 sh1 re1 : Nat → Int32} (hat : xat G (pa k) (xO 9 [.int (mi1 k), .int (sh1 k), .int (re1 k), .int mach, .int cost, .ref (ad (0, 0))]) H1) (hs : ∀ j, j ≠ k → mi1 j = mi j ∧ sh1 j = sh j ∧ re1 j = re j) : xPs G A S ad z q pa N n mi1 sh1 re1 mach cost H1 := by
  refine ⟨⟨h.1.1.kept (ho.2 q (Ne.symm (h.2.1 k hk).2.2.2)), h.1.2⟩, fun j hj => ⟨?_, (h.2.1 j hj).2⟩, h.2.2⟩
  by_cases e : j = k
  · subst e; exact hat
  · obtain ⟨e1, e2, e3⟩ := hs j e
    rw [e1, e2, e3]
    exact (h.2.1 j hj).1.kept (ho.2 _ (fun z9 => e (h.2.2 j k hj hk z9)))
theorem xPs.setSh (h : xPs G A S ad z q pa N n mi sh re mach cost H) (hk : k < n) {v : Int32} (hat : xat G (pa k) (xO 9 ([.int (mi k), .int (sh k), .int (re k), .int mach, .int cost, .ref (ad (0, 0))].set 1 (.int v))) H1) (ho : xOff (pa k) H H1) : xPs G A S ad z q pa N n mi (upd sh k v) re mach cost H1 := h.set hk ho (by simpa [upd] using hat) fun j hj => ⟨rfl, by simp [upd, hj], rfl⟩
theorem xPs.setRe (h : xPs G A S ad z q pa N n mi sh re mach cost H) (hk : k < n) {v : Int32} (hat : xat G (pa k) (xO 9 ([.int (mi k), .int (sh k), .int (re k), .int mach, .int cost, .ref (ad (0, 0))].set 2 (.int v))) H1) (ho : xOff (pa k) H H1) : xPs G A S ad z q pa N n mi sh (upd re k v) mach cost H1 := h.set hk ho (by simpa [upd] using hat) fun j hj => ⟨rfl, rfl, by simp [upd, hj]⟩
/-- a part more -/
theorem xPs.more (h : xPs G A S ad z q pa N n mi sh re mach cost H) {x : Nat} (hx : A x) (hf : xFree G S ad z x) (hxq : x ≠ q) (hnew : ∀ k, k < n → pa k ≠ x) {v : Int32} (hat : xat G x (xO 9 [.int v, .int 0, .int 0, .int mach, .int cost, .ref (ad (0, 0))]) H1) (harr : xat G q (xA 9 N (updV (fun k => if k < n then .ref (pa k) else .null) n (.ref x))) H1) (hk : ∀ k, k < n → H1[pa k]? = H[pa k]?) : xPs G A S ad z q (fun k => if k = n then x else pa k) N (n + 1) (upd mi n v) (upd sh n 0) (upd re n 0) mach cost H1 := by
  refine ⟨⟨harr.arrTo fun k _ => ?_, h.1.2⟩, fun k hk9 => ?_, fun i j hi hj he => ?_⟩
  · show updV _ n (.ref x) k = if k < n + 1 then Value.ref (if k = n then x else pa k) else .null
    unfold updV
    by_cases e : k = n
    · rw [if_pos e, if_pos (by omega), if_pos e]
    · rw [if_neg e, if_neg e]
      by_cases e2 : k < n
      · rw [if_pos (by omega)]; exact if_pos e2
      · rw [if_neg (by omega)]; exact if_neg e2
  · by_cases e : k = n
    · subst e
      simp only [if_pos]
      refine ⟨by simpa [upd] using hat, hx, hf, hxq⟩
    · simp only [if_neg e]
      have hk2 : k < n := by omega
      obtain ⟨h1, h2, h3, h4⟩ := h.2.1 k hk2
      refine ⟨?_, h2, h3, h4⟩
      have h5 := h1.kept (hk k hk2)
      simpa [upd, e] using h5
  · dsimp only at he
    by_cases e1 : i = n <;> by_cases e2 : j = n
    · omega
    · rw [if_pos e1, if_neg e2] at he
      exact absurd he.symm (hnew j (by omega))
    · rw [if_neg e1, if_pos e2] at he
      exact absurd he (hnew i (by omega))
    · rw [if_neg e1, if_neg e2] at he
      exact h.2.2 i j (by omega) (by omega) he
end XPS
theorem xOG.off {q : Nat} {H0 H : Heap} (h : xOG q 0 H0 H) : xOff q H0 H := ⟨h.1, fun c hc => by
  by_cases hlt : c < H0.size
  · exact h.2 c hlt hc
  · have h1 : H.size ≤ c := by rw [h.1]; omega
    rw [Array.getElem?_eq_none h1, Array.getElem?_eq_none (by omega)]⟩
theorem xTopN_c {re re1 : Nat → Int32} {n : Nat} (h : ∀ k, k < n → re k = re1 k) : ∀ {k : Nat}, k ≤ n → 0 < n → xTopN re k = xTopN re1 k
  | 0, _, _ => rfl
  | k + 1, hk, hn => by
    have ih := xTopN_c h (k := k) (by omega) hn
    have h1 : xTopN re1 k < n := by
      rcases Nat.eq_zero_or_pos k with e | e
      · subst e; exact hn
      · have := xTopN_lt re1 e; omega
    unfold xTopN
    rw [ih, h _ h1, h k (by omega)]
theorem xDist_c {n : Nat} (hn : 0 < n) : ∀ (r : Nat) {sh sh1 re re1 : Nat → Int32}, (∀ k, k < n → sh k = sh1 k) → (∀ k, k < n → re k = re1 k) → ∀ k, k < n → xDist n r sh re k = xDist n r sh1 re1 k
  | 0, sh, sh1, re, re1, h1, _, k, hk => h1 k hk
  | r + 1, sh, sh1, re, re1, h1, h2, k, hk => by
    have e := xTopN_c h2 (Nat.le_refl n) hn
    have ht := xTopN_lt re1 hn
    show xDist n r (upd sh (xTopN re n) (sh (xTopN re n) + 1)) (upd re (xTopN re n) (-1)) k = xDist n r (upd sh1 (xTopN re1 n) (sh1 (xTopN re1 n) + 1)) (upd re1 (xTopN re1 n) (-1)) k
    rw [e, h1 _ ht]
    refine xDist_c hn r (fun j hj => ?_) (fun j hj => ?_) k hk
    · unfold upd; split
      · rfl
      · exact h1 j hj
    · unfold upd; split
      · rfl
      · exact h2 j hj
theorem xPayN_1 (S : xS) (b : Nat) (sh : Nat → Int32) : ∀ k, (xPayN S b sh k).1 = S.1
  | 0 => rfl
  | k + 1 => xPayN_1 S b sh k
theorem xPayN_c {S : xS} {b n : Nat} {sh sh1 : Nat → Int32} (h : ∀ k, k < n → sh k = sh1 k) : ∀ {k : Nat}, k ≤ n → xPayN S b sh k = xPayN S b sh1 k
  | 0, _ => rfl
  | k + 1, hk => by
    show sF (sF (xPayN S b sh k) 25 b k (sh k)) 4 k 0 ((xPayN S b sh k).2.1 4 k 0 + sh k) = sF (sF (xPayN S b sh1 k) 25 b k (sh1 k)) 4 k 0 ((xPayN S b sh1 k).2.1 4 k 0 + sh1 k)
    rw [xPayN_c h (by omega), h k (by omega)]
theorem xPs.z {G : xG} {A : Nat → Prop} {S T : xS} {ad : Nat × Nat → Nat} {z : xZ} {q : Nat} {pa : Nat → Nat} {N n : Nat} {mi sh re : Nat → Int32} {mach cost : Int32} {H : Heap} (h : xPs G A S ad z q pa N n mi sh re mach cost H) (hb : xbd T = xbd S) : xPs G A T ad z q pa N n mi sh re mach cost H := ⟨⟨h.1.1, h.1.2.1, xfr h.1.2.2 hb⟩, fun k hk => ⟨(h.2.1 k hk).1, (h.2.1 k hk).2.1, xfr (h.2.1 k hk).2.2.1 hb, (h.2.1 k hk).2.2.2⟩, h.2.2⟩
theorem xLeft_c {cost t : Int32} {u v : Nat → Int32} {n : Nat} (h : ∀ k, k < n → u k = v k) : ∀ {k : Nat}, k ≤ n → xLeft cost t u k = xLeft cost t v k
  | 0, _ => rfl
  | k + 1, hk => by
    show xLeft cost t u k - xSh cost t (u k) = xLeft cost t v k - xSh cost t (v k)
    rw [xLeft_c h (by omega), h k (by omega)]
