/-! new grids -/
set_option maxRecDepth 100000
def xAO2 (ty : FieldType) (U : State) : Prop := (Cond.arrayOver (.array ty)).before #[] U = true
theorem xAO2.of {ty : FieldType} {A : Array Value} {U : State} (h : (Cond.arrayOver (.array ty)).before A U = true) : xAO2 ty U := h
theorem xAO2.use {ty : FieldType} {A : Array Value} {U : State} (h : xAO2 ty U) : (Cond.arrayOver (.array ty)).before A U = true := h
theorem xAO2.moved {ty : FieldType} {u U : State} (hvm : u.vm.Alike U.vm) (h : xAO2 ty u) : xAO2 ty U := by
  unfold xAO2 Cond.before Cond.holds at h ⊢
  simp only [Cond.value, beq_iff_eq, Option.bind_eq_some_iff, Option.map_eq_some_iff] at h ⊢
  obtain ⟨comp, h1, c, h2, k, h3, h4⟩ := h
  obtain ⟨k', hk', he⟩ := hvm.2.2 _ _ h3
  have hbe : U.vm.bare = u.vm.bare := by first | exact hvm.bare_eq | exact hvm.bare_eq.symm
  have h9 := va_idx_bare U.vm comp
  rw [hbe] at h9
  have hi := h9.symm.trans ((va_idx_bare u.vm comp).trans h2)
  refine ⟨comp, by rw [hvm.findClass]; exact h1, c, ?_, k', hk', ?_⟩
  · exact hi
  · rw [he, hvm.findClass]
    exact h4
theorem xnO2 {G : xG} {s0 s : State} {A : Nat → Prop} {b : Nat} (h : xWK s0 A s) (g : xG0 G s0 b) {ty : FieldType} (q : Cond.arrayOver (.array ty) ∈ lw_tbl) : xAO2 ty s := (xAO2.of (g.1 _ q)).moved h.1.alike
theorem outer_arrV (c : ClassId) (N h0 : Nat) : ∀ i, Jvm.Free.Multi.outerC c N h0 i = arrV c N (fun j => if j < i then .ref (h0 + 1 + j) else .null)
  | 0 => by
    show ({ cls := c, slots := Array.replicate N .null, vm := .none } : Cell) = _
    rw [arrV_new]
    congr 1
  | i + 1 => by
    show (Jvm.Free.Multi.outerC c N h0 i).setSlot i (.ref (h0 + 1 + i)) = _
    rw [outer_arrV c N h0 i, arrV_store]
    congr 1
    funext j
    show updV (fun j => if j < i then .ref (h0 + 1 + j) else .null) i (.ref (h0 + 1 + i)) j = if j < i + 1 then .ref (h0 + 1 + j) else .null
    unfold updV
    dsimp only
    by_cases e : j = i
    · subst e
      rw [if_pos rfl, if_pos (by omega)]
    · rw [if_neg e]
      by_cases hj : j < i
      · rw [if_pos hj, if_pos (by omega)]
      · rw [if_neg hj, if_neg (by omega)]
section MROW
variable {p : Program} {l : Launch} {e : Env} {R : Room} {s : State} {m : MethodId} {args : Array Value} {below : List Frame} {meth : Method} {c : Code} {H : Heap} {locs : List Loc} {cells slots : Nat} {Q : State → Prop}
variable {cc : ByteArray} {nL pc : Nat} {ls : Array Slot} {rest : List Value} {G : xG} {own : String}
theorem x_multi (F : CallFix p m c cc nL s args lw_all own) (hK : xK G s) {ty : FieldType} {t1 t2 index : Nat} {dv : Value} (h1 : xtl[t1]? = some (.array ty)) (h2 : xtl[t2]? = some ty) (hcl : (Cond.classLink own index ("[" ++ (FieldType.array ty).toString)).before args s = true) (hov : xAO2 ty s) (harr : (Cond.arrayClass ty).before args s = true) {n k : Int32} {N M : Nat} (hn : ¬ n < 0) (hk : ¬ k < 0) (hN : n.toNatClampNeg = N) (hM : k.toNatClampNeg = M) (hdv : defaultValue ty = dv)
    (hb1 : N * 4 ≤ 536870912) (hb2 : M * componentBytes ty ≤ 536870912) (hb3 : M ≤ 536870912) (hdf : fits ty dv = true) (hdd : dv.isDefault = true) (hcells : cells + (1 + N) ≤ R.cells) (hslots : slots + (N + N * M) ≤ R.slots) (hdg : decode cc pc = .ok (.multianewarray index 2, 4))
    (kk : ∀ (H1 : Heap), H1.size = H.size + 1 + N → xGrow H H1 → xat G H.size (xA t1 N (fun j => .ref (H.size + 1 + j))) H1 → (∀ j, j < N → xat G (H.size + 1 + j) (xA t2 M (fun _ => dv)) H1) → W p l e R s m args below meth c H1 locs (cells + 1 + N) (slots + N + N * M) Q (F0 m (pc + 4) ls (.ref H.size :: rest))) : W p l e R s m args below meth c H locs cells slots Q (F0 m pc ls (.int k :: .int n :: rest)) := by
  obtain ⟨hx, hb, -, hown, hts⟩ := F
  subst hN hM hdv
  intro T hT X
  subst hT
  obtain ⟨vm₁, cA, comp, hW, hfA, hfC, -, -, X1, step⟩ := X.multianewarray2F hx hown hcl hov.use harr (g := F0 m pc ls (.int k :: .int n :: rest)) rfl (by rw [hb]; exact hdg) (n := n) (k := k) (rest := rest) rfl hn hk hb1 hb2 hb3 hdf hdd hcells hslots
  obtain ⟨f1, f2, f3, f4⟩ := Jvm.Free.Multi.fill_facts (T.setVm vm₁) cA comp n.toNatClampNeg k.toNatClampNeg (defaultValue ty) n.toNatClampNeg
  obtain ⟨kA, cm, -, -, k3, -⟩ := hK.2 t1 _ h1
  have hcA : cA = G.2.2.1 t1 := Option.some.inj (hfA.symm.trans k3)
  obtain ⟨kA2, cm2, -, -, q3, -⟩ := hK.2 t2 _ h2
  have hcB : comp = G.2.2.1 t2 := Option.some.inj (hfC.symm.trans q3)
  subst hcA hcB
  obtain ⟨t, a, b⟩ := kk _ f1 ⟨by rw [f1]; show T.heap.size ≤ T.heap.size + 1 + n.toNatClampNeg; omega, fun q hq => Jvm.Free.Multi.fill_old (T.setVm vm₁) _ _ _ _ _ hq _⟩
    (by
      show _ = some (arrV (G.2.2.1 t1) n.toNatClampNeg fun j => .ref (T.heap.size + 1 + j))
      refine f2.trans ?_
      rw [outer_arrV]
      congr 1
      unfold arrV
      congr 1
      congr 1
      funext j
      dsimp only
      rw [if_pos j.isLt]
      rfl)
    (fun j hj => by
      show _ = some (arrV (G.2.2.1 t2) k.toNatClampNeg fun _ => defaultValue ty)
      refine (Jvm.Free.Multi.fill_inner (T.setVm vm₁) _ _ _ _ _ _ j hj).trans ?_
      unfold Jvm.Free.Multi.innerC
      rw [← arrV_new]) _ rfl X1
  exact ⟨t, step _ a, b⟩
end MROW
/-! a world that is being built: the roles up to m lie in a row behind h0 -/
def xPW (G : xG) (bd : List Nat) (ce : Nat → List xE) (ad : Nat × Nat → Nat) (h0 : Nat) (ps : Nat → Nat) (m : Nat) (H : Heap) : Prop := H.size = h0 + ps (m + 1) ∧ ∀ (k i b : Nat) (e : xE), 1 ≤ k → k ≤ m → bd[k]? = some b → i < b → (ce i)[k]? = some e → xat G (ad (k, i)) e H
abbrev xHad (ad : Nat × Nat → Nat) (h0 : Nat) (ps : Nat → Nat) : Prop := ∀ k i : Nat, 1 ≤ k → ad (k, i) = h0 + ps k + i
section PWS
variable {G : xG} {A : Nat → Prop} {bd : List Nat} {ce : Nat → List xE} {ad : Nat × Nat → Nat} {h0 m : Nat} {ps : Nat → Nat} {H H1 : Heap}
theorem xPW.ez (h : xPW G bd ce ad h0 ps m H) (hd : xHad ad h0 ps) : H.size = ad (m + 1, 0) := by
  rw [hd _ _ (by omega)]
  exact h.1
theorem xPW.one (h : xPW G bd ce ad h0 ps m H) (hd : xHad ad h0 ps) (hb : bd[m + 1]? = some 1) (hp : ps (m + 2) = ps (m + 1) + 1) {t n : Nat} {dv : Value} (hat : xat G H.size (xA t n (fun _ => dv)) H1) (hz : H1.size = H.size + 1) (hg : xGrow H H1) (he : (ce 0)[m + 1]? = some (xA t n (fun _ => dv))) : xPW G bd ce ad h0 ps (m + 1) H1 := by
  refine ⟨by rw [hz, h.1, hp]; omega, fun k i b e h1 h2 h3 h4 h5 => ?_⟩
  rcases Nat.lt_or_ge m k with hk | hk
  · have e1 : k = m + 1 := by omega
    subst e1
    rw [hb] at h3
    cases h3
    have e2 : i = 0 := by omega
    subst e2
    rw [he] at h5
    cases h5
    rw [← h.ez hd]
    exact hat
  · exact hg.at (h.2 k i b e h1 hk h3 h4 h5)
theorem xPW.grid (h : xPW G bd ce ad h0 ps m H) (hd : xHad ad h0 ps) {N : Nat} (hb : bd[m + 1]? = some 1) (hb2 : bd[m + 2]? = some N) (hp : ps (m + 2) = ps (m + 1) + 1) (hp2 : ps (m + 3) = ps (m + 1) + 1 + N) {t1 t2 M : Nat} {dv : Value} (hat : xat G H.size (xA t1 N (fun j => .ref (H.size + 1 + j))) H1) (hin : ∀ j, j < N → xat G (H.size + 1 + j) (xA t2 M (fun _ => dv)) H1) (hz : H1.size = H.size + 1 + N) (hg : xGrow H H1)
    (he : (ce 0)[m + 1]? = some (xA t1 N (fun j => .ref (ad (m + 2, j))))) (he2 : ∀ i, (ce i)[m + 2]? = some (xA t2 M (fun _ => dv))) : xPW G bd ce ad h0 ps (m + 2) H1 := by
  have ea : ∀ j, ad (m + 2, j) = H.size + 1 + j := fun j => by rw [hd _ _ (by omega), hp, h.1]; omega
  refine ⟨by rw [hz, h.1, hp2]; omega, fun k i b e h1 h2 h3 h4 h5 => ?_⟩
  rcases Nat.lt_or_ge m k with hk | hk
  · rcases (show k = m + 1 ∨ k = m + 2 by omega) with e1 | e1
    · subst e1
      rw [hb] at h3
      cases h3
      have e2 : i = 0 := by omega
      subst e2
      rw [he] at h5
      cases h5
      rw [← h.ez hd]
      exact hat.arrTo fun j _ => by rw [ea j]
    · subst e1
      rw [hb2] at h3
      cases h3
      rw [he2] at h5
      cases h5
      rw [ea i]
      exact hin i h4
  · exact hg.at (h.2 k i b e h1 hk h3 h4 h5)
theorem xPW.off (h : xPW G bd ce ad h0 ps m H) (hd : xHad ad h0 ps) {a : Nat} (hl : a < h0) (ho : xOff a H H1) : xPW G bd ce ad h0 ps m H1 := ⟨ho.1.trans h.1, fun k i b e h1 h2 h3 h4 h5 => ho.at (h.2 k i b e h1 h2 h3 h4 h5) (by rw [hd k i h1]; omega)⟩
theorem xPW.full (h : xPW G bd ce ad h0 ps m H) (hd : xHad ad h0 ps) (hm : bd.length = m + 1) (hb0 : bd[0]? = some 1) (hmo : ∀ k, k < m + 1 → ∀ k1, k1 < m + 1 → 1 ≤ k → k < k1 → ps k + bd.getD k 0 ≤ ps k1) {e0 : xE} (he0 : (ce 0)[0]? = some e0) (hO : xat G (ad (0, 0)) e0 H) (hl : ad (0, 0) < h0) (hA : A (ad (0, 0))) (hA1 : ∀ q, h0 ≤ q → A q) : xRW G A bd ce ad H := by
  have hbd : ∀ k b : Nat, bd[k]? = some b → k < m + 1 ∧ bd.getD k 0 = b := fun k b hb => ⟨hm ▸ (List.getElem?_eq_some_iff.mp hb).1, by rw [List.getD_eq_getElem?_getD, hb]; rfl⟩
  refine ⟨fun k i b e h1 h2 h3 => ?_, fun k i b k1 i1 b1 h1 h2 h3 h4 h5 => ?_⟩
  · cases k with
    | zero =>
      rw [hb0] at h1
      cases h1
      have e2 : i = 0 := by omega
      subst e2
      rw [he0] at h3
      cases h3
      exact ⟨hO, hA⟩
    | succ k => exact ⟨h.2 (k + 1) i b e (by omega) (by have := (hbd _ _ h1).1; omega) h1 h2 h3, hA1 _ (by rw [hd _ _ (by omega)]; omega)⟩
  · obtain ⟨hk, hb⟩ := hbd _ _ h1
    obtain ⟨hk1, hb1⟩ := hbd _ _ h3
    rcases Nat.eq_zero_or_pos k with e | e <;> rcases Nat.eq_zero_or_pos k1 with e1 | e1
    · subst e e1
      rw [hb0] at h1 h3
      cases h1
      cases h3
      exact ⟨rfl, by omega⟩
    · subst e
      rw [hb0] at h1
      cases h1
      have e2 : i = 0 := by omega
      subst e2
      rw [hd k1 i1 e1] at h5
      omega
    · subst e1
      rw [hb0] at h3
      cases h3
      have e2 : i1 = 0 := by omega
      subst e2
      rw [hd k i e] at h5
      omega
    · rw [hd k i e, hd k1 i1 e1] at h5
      rcases Nat.lt_trichotomy k k1 with q | q | q
      · have := hmo k hk k1 hk1 e q
        rw [hb] at this
        omega
      · subst q
        exact ⟨rfl, by omega⟩
      · have := hmo k1 hk1 k hk e1 q
        rw [hb1] at this
        omega
end PWS
theorem xcI {R : Room} {s : State} {args : Array Value} {own : String} {idx : Nat} {y : MethodName} {b : ByteArray} {L : Nat} (n : Nat) (hts : ∀ w ∈ lw_all, w.before args s = true) (h1 : Cond.methodLink own idx y ∈ lw_all) (h2 : Cond.instanceMethod y ∈ lw_all) (h3 : Cond.initialized y.cls ∈ lw_all) (h4 : Cond.code y b L none ∈ lw_all) (hn : y.name = "<init>") {rm : Room} (hd : y.cls ≠ "java/lang/invoke/MethodHandle" ∧ y.cls ≠ "java/lang/invoke/VarHandle" ∧ (parseMethodDescriptor y.desc).map (fun d => d.parameters.length) = some n) (hR : rm.frames + 1 ≤ R.frames ∧ 8 + (L + 11) + rm.locals ≤ R.locals) :
    CallB R s args own idx y b L none (ws_ y b L none) rm rm.cells rm.slots n ∧ y.name = "<init>" ∧ (Cond.instanceMethod y).before args s = true := ⟨callB_of n hts (lw_meth h4) rfl rfl rfl (hts _ h3) (hts _ h1) hd hR, hn, hts _ h2⟩
def xS0 : xS := (fun _ _ => 0, fun _ _ _ => 0, fun _ => 0)
def mInit : Nat → xS
  | 0 => xS0
  | k + 1 => sN (sF (mInit k) 24 k 0 114) 5 k 1
def mps (k : Nat) : Nat := [0, 0, 1, 2, 3, 13, 14, 15, 19, 20, 21, 22, 23, 24, 25, 26, 27, 28, 29, 179, 180, 330, 331, 332, 333, 334, 338, 339, 343, 344, 345, 365].getD k 0
def adI (a h : Nat) (ps : Nat → Nat) (q : Nat × Nat) : Nat := if q.1 = 0 then a else h + ps q.1 + q.2
theorem adI_had (a h : Nat) (ps : Nat → Nat) : xHad (adI a h ps) h ps := fun k i hk => by
  unfold adI
  rw [if_neg (by dsimp only; omega)]
theorem mps_mono : ∀ k, k < 30 + 1 → ∀ k1, k1 < 30 + 1 → 1 ≤ k → k < k1 → mps k + (mbd xS0).getD k 0 ≤ mps k1 := by decide +kernel
