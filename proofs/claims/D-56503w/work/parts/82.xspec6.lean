/-! WHAT CHANGING A TARIFF COMPUTES -/
set_option maxRecDepth 100000
section TOPR
variable {p : Program} {l : Launch} {e : Env} {R : Room} {s : State} {m : MethodId} {args : Array Value} {below : List Frame} {meth : Method} {c : Code} {H : Heap} {locs : List Loc} {cells slots : Nat} {Q : State → Prop} {pc : Nat} {ls : Array Slot} {rest : List Value}
theorem x_topr {x y : Nat} (h : x = y) (k : W p l e R s m args below meth c H locs cells slots Q (F0 m pc ls (.ref y :: rest))) : W p l e R s m args below meth c H locs cells slots Q (F0 m pc ls (.ref x :: rest)) := h ▸ k
end TOPR
theorem xTsite {l : Launch} {G : xG} {s0 s : State} {b0 : Nat} {A : Nat → Prop} (g1 : xG1 l G s0 b0) (h : xWK s0 A s) : ∀ {c : Nat}, c < 5 → ∃ (sg : Lambda.Shape) (xs : MethodName) (pc0 index0 : Nat), s.lambdaAt? xs pc0 index0 sg = some (G.2.2.2 (3 + c), none) ∧ sg.iface = "Lendlathe$Tariff" ∧ ∃ kc : Class, s.vm.classes[G.2.2.2 (3 + c)]? = some kc
  | 0, _ => ⟨_, _, _, _, (xmk3 g1 h).1, rfl, (xMk.cls ((xmk3 g1 h).2 s.vm (State.WarmedH.refl s))).imp fun _ q => q.1⟩
  | 1, _ => ⟨_, _, _, _, (xmk4 g1 h).1, rfl, (xMk.cls ((xmk4 g1 h).2 s.vm (State.WarmedH.refl s))).imp fun _ q => q.1⟩
  | 2, _ => ⟨_, _, _, _, (xmk5 g1 h).1, rfl, (xMk.cls ((xmk5 g1 h).2 s.vm (State.WarmedH.refl s))).imp fun _ q => q.1⟩
  | 3, _ => ⟨_, _, _, _, (xmk6 g1 h).1, rfl, (xMk.cls ((xmk6 g1 h).2 s.vm (State.WarmedH.refl s))).imp fun _ q => q.1⟩
  | 4, _ => ⟨_, _, _, _, (xmk7 g1 h).1, rfl, (xMk.cls ((xmk7 g1 h).2 s.vm (State.WarmedH.refl s))).imp fun _ q => q.1⟩
  | _ + 5, hc => by omega
theorem xDp_top {S : xS} {d u : Nat} (h : xDp S d u) : u ≤ S.1 8 0 := by
  cases u with
  | zero => exact Nat.zero_le _
  | succ t =>
    cases d with
    | zero => exact h.elim
    | succ d => exact h.1
theorem xTd.top {S : xS} (h : xTd S) : ∀ k, k < 4 → S.1 11 k ≤ S.1 8 0 := fun k hk => xDp_top (h k hk)
def xTopS (S : xS) (ki sort below : Nat) (v : Int32) (n : Nat) : xS := sN (sN (xTarS S sort below v) 11 ki (S.1 8 0 + 1)) 5 ki n
def xSetRate (S : xS) (kind rate : Int32) : Nat × (Int32 × xS) :=
  if inI kind 0 3 = false then (1, 0, S) else if inI rate 0 99 = false then (1, 0, S) else (0, nI (S.1 5 kind.toNatClampNeg), xTopS S kind.toNatClampNeg 0 0 rate 1)
def xAddT (sort : Nat) (most : Int32) (S : xS) (kind v : Int32) : Nat × (Int32 × xS) :=
  if ¬ xMayAdd S kind v most = 0 then (xMayAdd S kind v most, 0, S) else (0, nI (S.1 5 kind.toNatClampNeg + 1), xTopS S kind.toNatClampNeg sort (S.1 11 kind.toNatClampNeg) v (S.1 5 kind.toNatClampNeg + 1))
theorem xMayAdd_in {S : xS} {kind v most : Int32} (h : xMayAdd S kind v most = 0) : inI kind 0 3 = true := by
  unfold xMayAdd at h
  cases hq : inI kind 0 3
  · rw [hq, if_pos rfl] at h
    exact absurd h (by decide)
  · rfl
theorem xW_tar {S : xS} (h : xW S) (c below : Nat) (v : Int32) : xW (xTarS S c below v) := xW_F h 23 (S.1 8 0) 0 v (by decide)
