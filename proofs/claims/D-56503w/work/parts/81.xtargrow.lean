/-! A TARIFF MORE (printed by gen/grow.py) -/
set_option maxRecDepth 100000
theorem xtr_ad {ad : Nat × Nat → Nat} {n q u : Nat} (h : u ≤ n) : xtr (xAd ad (xN1 27 n q)) u = xtr ad u := by
  unfold xtr
  by_cases hu : u = 0
  · rw [if_pos hu, if_pos hu]; rfl
  · rw [if_neg hu, if_neg hu]
    have hne : u - 1 ≠ n := by omega
    simp [xAd, xN1, hne]
theorem xtr_new {ad : Nat × Nat → Nat} {n q : Nat} : xtr (xAd ad (xN1 27 n q)) (n + 1) = q := by
  unfold xtr
  rw [if_neg (by omega)]
  simp [xAd, xN1]
/-- the store with a tariff more -/
def xTarS (S : xS) (c below : Nat) (v : Int32) : xS := sN (sN (sN (sF S 23 (S.1 8 0) 0 v) 9 (S.1 8 0) c) 10 (S.1 8 0) below) 8 0 (S.1 8 0 + 1)
section GROWT
variable {G : xG} {A : Nat → Prop} {S : xS} {ad : Nat × Nat → Nat} {z : xZ} {H H1 : Heap}
theorem xg_tar (hR : xRX G A S ad z H) {q c below : Nat} {v : Int32} (hp : xPt S) (htop : ∀ k, k < 4 → S.1 11 k ≤ S.1 8 0) (hbl : below ≤ S.1 8 0) (hf27 : xFree G S ad z q) (hA27 : A q) (h27 : xat G q (xR ({ cls := G.2.2.2 (3 + c), slots := xcap c (xtr ad below) v, vm := .none } : Cell)) H1) (ho : ∀ c : Nat, c < H.size → H1[c]? = H[c]?) : xRX G A (xTarS S c below v) (xAd ad (xN1 27 (S.1 8 0) q)) z H1 := by
  have keep : ∀ (k i b : Nat) (e : xE), (xbd S)[k]? = some b → i < b → (xce G S ad z i)[k]? = some e → H1[ad (k, i)]? = H[ad (k, i)]? := fun k i b e hb hi he => ho _ (hR.1 k i b e hb hi he).1.lt
  refine xRW.ext hR (xN1 27 (S.1 8 0) q) (fun r a hr => ?_) (fun r r1 a hr hr1 => ?_) (fun k i b e hb hi he => ?_) (fun k i b hb _ => xhex _ _ k i b hb)
  · obtain ⟨-, rfl⟩ := xN1_some hr; exact hf27
  · exact (xN1_some hr).1.trans (xN1_some hr1).1.symm
  · match k, hb, he with
    | 0, hb, he => cases hb; cases he; obtain rfl : i = 0 := (by omega); exact Or.inl ⟨rfl, ⟨_, _, rfl, Nat.zero_lt_one, rfl⟩, (xw_0 hR).kept (keep 0 0 1 _ rfl (Nat.zero_lt_one) rfl)⟩
    | 1, hb, he =>
      cases hb; cases he; obtain rfl : i = 0 := (by omega)
      refine Or.inl ⟨rfl, ⟨_, _, rfl, Nat.zero_lt_one, rfl⟩, ((xw_1 hR).kept (keep 1 0 1 _ rfl (Nat.zero_lt_one) rfl)).arrTo fun k hk => ?_⟩
      show _ = Value.ref (xtr (xAd ad (xN1 27 (S.1 8 0) q)) (S.1 11 k))
      rw [xtr_ad (htop k hk)]
    | 2, hb, he => cases hb; cases he; obtain rfl : i = 0 := (by omega); exact Or.inl ⟨rfl, ⟨_, _, rfl, Nat.zero_lt_one, rfl⟩, (xw_2 hR).kept (keep 2 0 1 _ rfl (Nat.zero_lt_one) rfl)⟩
    | 3, hb, he => cases hb; cases he; obtain rfl : i = 0 := (by omega); exact Or.inl ⟨rfl, ⟨_, _, rfl, Nat.zero_lt_one, rfl⟩, (xw_3 hR).kept (keep 3 0 1 _ rfl (Nat.zero_lt_one) rfl)⟩
    | 4, hb, he => cases hb; cases he; obtain rfl : i = 0 := (by omega); exact Or.inl ⟨rfl, ⟨_, _, rfl, Nat.zero_lt_one, rfl⟩, (xw_4 hR).kept (keep 4 0 1 _ rfl (Nat.zero_lt_one) rfl)⟩
    | 5, hb, he => cases hb; cases he; obtain rfl : i = 0 := (by omega); exact Or.inl ⟨rfl, ⟨_, _, rfl, Nat.zero_lt_one, rfl⟩, (xw_5 hR).kept (keep 5 0 1 _ rfl (Nat.zero_lt_one) rfl)⟩
    | 6, hb, he => cases hb; cases he; obtain rfl : i = 0 := (by omega); exact Or.inl ⟨rfl, ⟨_, _, rfl, Nat.zero_lt_one, rfl⟩, (xw_6 hR).kept (keep 6 0 1 _ rfl (Nat.zero_lt_one) rfl)⟩
    | 7, hb, he => cases hb; cases he; obtain rfl : i = 0 := (by omega); exact Or.inl ⟨rfl, ⟨_, _, rfl, Nat.zero_lt_one, rfl⟩, (xw_7 hR).kept (keep 7 0 1 _ rfl (Nat.zero_lt_one) rfl)⟩
    | 8, hb, he =>
      cases hb; cases he
      have hi9 : i < 4 := hi
      exact Or.inl ⟨rfl, ⟨_, _, rfl, hi9, rfl⟩, (xw_8 hR hi9).kept (keep 8 i _ _ rfl hi9 rfl)⟩
    | 9, hb, he => cases hb; cases he; obtain rfl : i = 0 := (by omega); exact Or.inl ⟨rfl, ⟨_, _, rfl, Nat.zero_lt_one, rfl⟩, (xw_9 hR).kept (keep 9 0 1 _ rfl (Nat.zero_lt_one) rfl)⟩
    | 10, hb, he => cases hb; cases he; obtain rfl : i = 0 := (by omega); exact Or.inl ⟨rfl, ⟨_, _, rfl, Nat.zero_lt_one, rfl⟩, (xw_10 hR).kept (keep 10 0 1 _ rfl (Nat.zero_lt_one) rfl)⟩
    | 11, hb, he => cases hb; cases he; obtain rfl : i = 0 := (by omega); exact Or.inl ⟨rfl, ⟨_, _, rfl, Nat.zero_lt_one, rfl⟩, (xw_11 hR).kept (keep 11 0 1 _ rfl (Nat.zero_lt_one) rfl)⟩
    | 12, hb, he =>
      cases hb; cases he
      have hi9 : i < 3 := hi
      exact Or.inl ⟨rfl, ⟨_, _, rfl, hi9, rfl⟩, (xw_12 hR hi9).kept (keep 12 i _ _ rfl hi9 rfl)⟩
    | 13, hb, he => cases hb; cases he; obtain rfl : i = 0 := (by omega); exact Or.inl ⟨rfl, ⟨_, _, rfl, Nat.zero_lt_one, rfl⟩, (xw_13 hR).kept (keep 13 0 1 _ rfl (Nat.zero_lt_one) rfl)⟩
    | 14, hb, he =>
      cases hb; cases he
      have hi9 : i < 20 := hi
      exact Or.inl ⟨rfl, ⟨_, _, rfl, hi9, rfl⟩, (xw_14 hR hi9).kept (keep 14 i _ _ rfl hi9 rfl)⟩
    | 15, hb, he => cases hb; cases he; obtain rfl : i = 0 := (by omega); exact Or.inl ⟨rfl, ⟨_, _, rfl, Nat.zero_lt_one, rfl⟩, (xw_15 hR).kept (keep 15 0 1 _ rfl (Nat.zero_lt_one) rfl)⟩
    | 16, hb, he => cases hb; cases he; obtain rfl : i = 0 := (by omega); exact Or.inl ⟨rfl, ⟨_, _, rfl, Nat.zero_lt_one, rfl⟩, (xw_16 hR).kept (keep 16 0 1 _ rfl (Nat.zero_lt_one) rfl)⟩
    | 17, hb, he => cases hb; cases he; obtain rfl : i = 0 := (by omega); exact Or.inl ⟨rfl, ⟨_, _, rfl, Nat.zero_lt_one, rfl⟩, (xw_17 hR).kept (keep 17 0 1 _ rfl (Nat.zero_lt_one) rfl)⟩
    | 18, hb, he => cases hb; cases he; obtain rfl : i = 0 := (by omega); exact Or.inl ⟨rfl, ⟨_, _, rfl, Nat.zero_lt_one, rfl⟩, (xw_18 hR).kept (keep 18 0 1 _ rfl (Nat.zero_lt_one) rfl)⟩
    | 19, hb, he => cases hb; exact absurd hi (Nat.not_lt_zero _)
    | 20, hb, he =>
      cases hb; cases he
      have hi9 : i < S.1 0 0 := hi
      exact Or.inl ⟨rfl, ⟨_, _, rfl, hi9, rfl⟩, (xw_20 hR hi9).kept (keep 20 i _ _ rfl hi9 rfl)⟩
    | 21, hb, he =>
      cases hb; cases he
      have hi9 : i < S.1 1 0 := hi
      exact Or.inl ⟨rfl, ⟨_, _, rfl, hi9, rfl⟩, (xw_21 hR hi9).kept (keep 21 i _ _ rfl hi9 rfl)⟩
    | 22, hb, he =>
      cases hb; cases he
      have hi9 : i < S.1 1 0 := hi
      exact Or.inl ⟨rfl, ⟨_, _, rfl, hi9, rfl⟩, (xw_22 hR hi9).kept (keep 22 i _ _ rfl hi9 rfl)⟩
    | 23, hb, he =>
      cases hb; cases he
      have hi9 : i < S.1 2 0 := hi
      exact Or.inl ⟨rfl, ⟨_, _, rfl, hi9, rfl⟩, (xw_23 hR hi9).kept (keep 23 i _ _ rfl hi9 rfl)⟩
    | 24, hb, he =>
      cases hb; cases he
      have hi9 : i < S.1 2 0 := hi
      exact Or.inl ⟨rfl, ⟨_, _, rfl, hi9, rfl⟩, (xw_24 hR hi9).kept (keep 24 i _ _ rfl hi9 rfl)⟩
    | 25, hb, he =>
      cases hb; cases he
      have hi9 : i < S.1 2 0 := hi
      exact Or.inl ⟨rfl, ⟨_, _, rfl, hi9, rfl⟩, (xw_25 hR hi9).kept (keep 25 i _ _ rfl hi9 rfl)⟩
    | 26, hb, he =>
      cases hb; cases he
      have hi9 : i < S.1 3 0 := hi
      exact Or.inl ⟨rfl, ⟨_, _, rfl, hi9, rfl⟩, (xw_26 hR hi9).kept (keep 26 i _ _ rfl hi9 rfl)⟩
    | 27, hb, he =>
      cases hb; cases he
      by_cases hin : i = S.1 8 0
      · subst hin
        refine Or.inr ⟨q, by simp [xN1], hA27, ?_⟩
        have h9 := h27
        rw [← xtr_ad (q := q) hbl] at h9
        simpa [xTarS, sF, sN, fset, nset] using h9
      · have hi2 : i < S.1 8 0 := by have hi9 : i < S.1 8 0 + 1 := hi; omega
        refine Or.inl ⟨by simp [xN1, hin], ⟨_, _, rfl, hi2, rfl⟩, ?_⟩
        have h9 := (xw_27 hR hi2).kept (keep 27 i _ _ rfl hi2 rfl)
        rw [← xtr_ad (q := q) (hp i hi2)] at h9
        simpa [xTarS, sF, sN, fset, nset, hin] using h9
    | 28, hb, he => cases hb; cases he; obtain rfl : i = 0 := (by omega); exact Or.inl ⟨rfl, ⟨_, _, rfl, Nat.zero_lt_one, rfl⟩, (xw_28 hR).kept (keep 28 0 1 _ rfl (Nat.zero_lt_one) rfl)⟩
    | 29, hb, he => cases hb; cases he; obtain rfl : i = 0 := (by omega); exact Or.inl ⟨rfl, ⟨_, _, rfl, Nat.zero_lt_one, rfl⟩, (xw_29 hR).kept (keep 29 0 1 _ rfl (Nat.zero_lt_one) rfl)⟩
    | q + 30, hb, he => cases hb
/-- the top of a kind -/
theorem xs_1_a (h : xRX G A S ad z H) {j u : Nat} (ho : xOff (ad (1, 0)) H H1) (hat : xat G (ad (1, 0)) (xA 6 4 (updV (fun k => .ref (xtr ad (S.1 11 k))) j (.ref (xtr ad u)))) H1) : xRX G A (sN S 11 j u) ad z H1 := by
  have e : (xA 6 4 (updV (fun k => .ref (xtr ad (S.1 11 k))) j (.ref (xtr ad u)))) = xA 6 4 (fun k => .ref (xtr ad ((sN S 11 j u).1 11 k))) := by
    congr 1; congr 1; congr 1; funext k; by_cases hk : k = j <;> simp [updV, fset, nset, lset, hk]
  rw [e] at hat
  refine xRW.put (ce1 := xce G (sN S 11 j u) ad z) h 1 0 rfl (Nat.zero_lt_one) ho rfl hat rfl (fun k1 i1 b1 hb1 hlt hne => ?_)
  by_cases hk : k1 = 1
  · subst hk
    have hb2 : b1 = 1 := (Option.some.inj hb1).symm
    omega
  · match k1, hk with
    | 0, _ => rfl
    | 1, hk => exact absurd rfl hk
    | q + 2, _ => rfl
end GROWT
theorem xMk.cls {vm : Vm} {cK : ClassId} {fw : ByteArray} {nl mi ci : Nat} {fi : List Nat} {tn td : String} {rt : FieldType} {ts : Array FieldType} (h : xMk vm cK fw nl mi ci fi tn td rt ts) : ∃ kc : Class, vm.classes[cK]? = some kc ∧ kc.kind = .ordinary ∧ kc.instanceTypes = ts := by
  obtain ⟨k, tk, file, methk, ck, toy, t, nt, ⟨h1, h2, h3, h4, h5⟩, -⟩ := h
  exact ⟨k, h1, h4, h5⟩
theorem xfit1 (v : Int32) : ∀ (i : Nat) (w : Value), ([Value.int v] : List Value)[i]? = some w → ∃ t, ([FieldType.int] : List FieldType)[i]? = some t ∧ fits t w = true
  | 0, w, h => by cases h; exact ⟨_, rfl, rfl⟩
  | i + 1, w, h => by cases h
theorem xfit2 (q : Nat) (v : Int32) : ∀ (i : Nat) (w : Value), ([Value.ref q, Value.int v] : List Value)[i]? = some w → ∃ t, ([FieldType.object "Lendlathe$Tariff", FieldType.int] : List FieldType)[i]? = some t ∧ fits t w = true
  | 0, w, h => by cases h; exact ⟨_, rfl, rfl⟩
  | 1, w, h => by cases h; exact ⟨_, rfl, rfl⟩
  | i + 2, w, h => by cases h
