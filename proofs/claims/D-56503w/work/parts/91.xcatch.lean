/-! CATCHING, in the law's own methods: a table of rows, told by their places -/
def xNcOK (s0 : State) : Prop := ∀ i j : Nat, 1 ≤ i → i < 7 → 1 ≤ j → j < 7 → i ≠ j → va_Nc (xExn i) (xExn j) s0
def xG2 (l : Launch) (G : xG) (s0 : State) (b : Nat) : Prop := xG1 l G s0 b ∧ xNcOK s0
theorem xNcAt {s0 s : State} {A : Nat → Prop} (h : xWK s0 A s) (hz : xNcOK s0) {i j : Nat} (h1 : 1 ≤ i) (h2 : i < 7) (h3 : 1 ≤ j) (h4 : j < 7) (h5 : i ≠ j) : va_Nc (xExn i) (xExn j) s := (hz i j h1 h2 h3 h4 h5).moved h.1.alike
section CATCH
variable {p : Program} {l : Launch} {e : Env} {R : Room} {s : State} {m : MethodId} {args : Array Value} {below : List Frame} {meth : Method} {c : Code} {H : Heap} {locs : List Loc} {cells slots : Nat} {Q : State → Prop}
variable {pc : Nat} {ls : Array Slot} {rest : List Value}
/-- the row k of the table takes what is thrown; the rows ahead name others -/
theorem xw_catch {own name E : String} {ce : Cell} {q : Addr} (hown : s.vm.findClass own = some m.cls) (tb : List (Nat × Nat × Nat × Nat)) (htb : c.exceptionTable.toList.map (fun h => (h.startPc, h.endPc, h.handlerPc, h.catchType)) = tb) (k : Nat) {st en hd ct : Nat} (hk : tb[k]? = some (st, en, hd, ct))
    (hpass : ∀ i, i < k → ∀ r, tb[i]? = some r → r.2.2.2 ≠ 0 ∧ ∃ nm : String, (Cond.classLink own r.2.2.2 nm).before args s = true ∧ va_Nc E nm s) (h1 : st ≤ pc) (h2 : pc < en) (h0 : ct ≠ 0)
    (hlink : (Cond.classLink own ct name).before args s = true) (hcast : (Cond.castable E name).before args s = true) (hcell : H[q]? = some ce) (hv : ce.vm = .none) (hcl : s.vm.findClass E = some ce.cls)
    (kk : W p l e R s m args below meth c H locs cells slots Q (F0 m hd ls [.ref q])) : vx_W p l e R s m args below meth c H locs cells slots Q (F0 m pc ls rest) q := by
  subst htb
  rw [List.getElem?_map] at hk
  obtain ⟨x, hx, hx2⟩ := Option.map_eq_some_iff.1 hk
  have e1 : x.startPc = st := congrArg (fun r => r.1) hx2
  have e2 : x.endPc = en := congrArg (fun r => r.2.1) hx2
  have e3 : x.handlerPc = hd := congrArg (fun r => r.2.2.1) hx2
  have e4 : x.catchType = ct := congrArg (fun r => r.2.2.2) hx2
  obtain ⟨hlt, hxe⟩ := List.getElem?_eq_some_iff.1 hx
  refine vx_catch (name := name) hown (c.exceptionTable.toList.take k) x (c.exceptionTable.toList.drop (k + 1)) ?_ ?_ ?_ (by rw [e4]; exact h0) (by rw [e4]; exact hlink) hcast hcell hv hcl (by rw [e3]; exact kk)
  · rw [← hxe, List.getElem_cons_drop, List.take_append_drop]
  · intro z hz
    obtain ⟨i, hi, hzi⟩ := List.mem_iff_getElem.1 hz
    rw [List.length_take] at hi
    rw [List.getElem_take] at hzi
    have hik : i < k := by omega
    exact Or.inr (hpass i hik (z.startPc, z.endPc, z.handlerPc, z.catchType) (by rw [List.getElem?_map, List.getElem?_eq_getElem (by omega), hzi]; rfl))
  · subst e1; subst e2
    simp [covers, h1, h2]
end CATCH
