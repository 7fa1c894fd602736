/-! FOUNDATION: what a cell holds, rows for fields and arrays that say exactly what changed, contracts and calls -/
set_option maxRecDepth 100000
abbrev xE : Type := (Nat × Nat × (Nat → Value)) ⊕ ((Nat × List Value) ⊕ Cell)
abbrev xG : Type := (Nat → ClassId) × (Nat → Nat → Nat) × (Nat → ClassId) × (Nat → ClassId)
abbrev xA (t n : Nat) (f : Nat → Value) : xE := Sum.inl (t, n, f)
abbrev xO (ci : Nat) (fs : List Value) : xE := Sum.inr (Sum.inl (ci, fs))
abbrev xR (c : Cell) : xE := Sum.inr (Sum.inr c)
/-- classes by number: 0 Lendlathe, 1 Lendlathe$1, 2 ArrayList, 3 Walk, 4 Model, 5 Machine, 6 Member, 7 Entry, 8 Bar, 9 Part -/
abbrev xcl : List vw_C := [(RX1, TX1, 13), (RX2, TX2, 1), (RJ2, TJ2, 3), (RX3, TX3, 4), (RX4, TX4, 30), (RX5, TX5, 2), (RX6, TX6, 4), (RX8, TX8, 12), (RX9, TX9, 3), (RX10, TX10, 6)]
/-- array types by number: 0 int, 1 long, 2 double, 3 boolean, 4 char, 5 Object, 6 Tariff, 7 Check, 8 Entry, 9 Part, 10 int[], 11 boolean[], 12 char[] -/
abbrev xtl : List FieldType := [.int, .long, .double, .boolean, .char, .object "java/lang/Object", .object "Lendlathe$Tariff", .object "Lendlathe$Check", .object "Lendlathe$Entry", .object "Lendlathe$1Part", .array .int, .array .boolean, .array .char]
/-- an array class of the tables -/
def xRA (U : State) (cA : ClassId) (ty : FieldType) : Prop := ∃ (kA : Class) (comp : ClassId), U.vm.classes[cA]? = some kA ∧ kA.kind = .array comp ty ∧ U.vm.findClass ("[" ++ ty.toString) = some cA ∧ (∀ C : String, ty = .object C → U.vm.findClass C = some comp) ∧ (∀ t : FieldType, ty = .array t → U.vm.findClass (FieldType.array t).toString = some comp)
theorem xRA.moved {u U : State} (hvm : u.vm.Alike U.vm) {cA : ClassId} {ty : FieldType} (h : xRA u cA ty) : xRA U cA ty := by
  obtain ⟨kA, comp, h1, h2, h3, h4, h5⟩ := h
  obtain ⟨k', hk', he⟩ := hvm.2.2 _ _ h1
  exact ⟨k', comp, hk', by rw [he]; exact h2, by rw [hvm.findClass]; exact h3, fun C e => by rw [hvm.findClass]; exact h4 C e, fun t e => by rw [hvm.findClass]; exact h5 t e⟩
theorem xRA.arr {U : State} {cA : ClassId} {ty : FieldType} (h : xRA U cA ty) (n : Nat) (f : Nat → Value) : U.isArrayOf (arrV cA n f) ty := by
  obtain ⟨kA, comp, h1, h2, -⟩ := h
  exact ⟨(fun k h => by cases h), kA, h1, comp, h2⟩
def xK (G : xG) (U : State) : Prop := (∀ (c : Nat) (q : vw_C), xcl[c]? = some q → u_Kn U q.1 q.2.1 q.2.2 (G.1 c) (G.2.1 c)) ∧ ∀ (t : Nat) (ty : FieldType), xtl[t]? = some ty → xRA U (G.2.2.1 t) ty
theorem xK.moved {G : xG} {u U : State} (hvm : u.vm.Alike U.vm) (h : xK G u) : xK G U := ⟨fun c q hq => u_Kn_moved hvm (h.1 c q hq), fun t ty ht => (h.2 t ty ht).moved hvm⟩
/-- the cell a holds e -/
def xat (G : xG) (a : Nat) (e : xE) (H : Heap) : Prop := match e with
  | .inl x => H[a]? = some (arrV (G.2.2.1 x.1) x.2.1 x.2.2)
  | .inr (.inl o) => ∃ r : vw_C, xcl[o.1]? = some r ∧ t_OB a (G.1 o.1) r.2.2 (G.2.1 o.1) H (vp_V o.2)
  | .inr (.inr c) => H[a]? = some c
theorem xat.kept {G : xG} {a : Nat} {e : xE} {H H1 : Heap} (h : xat G a e H) (hq : H1[a]? = H[a]?) : xat G a e H1 := by
  match e, h with
  | .inl x, h => exact hq.trans h
  | .inr (.inl o), h =>
    obtain ⟨r, h1, h2⟩ := h
    exact ⟨r, h1, h2.kept hq⟩
  | .inr (.inr c), h => exact hq.trans h
theorem xat.lt {G : xG} {a : Nat} {e : xE} {H : Heap} (h : xat G a e H) : a < H.size := by
  match e, h with
  | .inl x, h => exact (Array.getElem?_eq_some_iff.mp h).1
  | .inr (.inl o), h =>
    obtain ⟨r, h1, cell, h2, -⟩ := h
    exact (Array.getElem?_eq_some_iff.mp h2).1
  | .inr (.inr c), h => exact (Array.getElem?_eq_some_iff.mp h).1
theorem xat.arrTo {G : xG} {a t n : Nat} {f f' : Nat → Value} {H : Heap} (h : xat G a (xA t n f) H) (hf : ∀ j, j < n → f j = f' j) : xat G a (xA t n f') H := by
  have e : arrV (G.2.2.1 t) n f = arrV (G.2.2.1 t) n f' := by
    unfold arrV
    congr 1
    congr 1
    funext j
    exact hf j.val j.isLt
  show H[a]? = some (arrV (G.2.2.1 t) n f')
  rw [← e]
  exact h
theorem xat.setI {G : xG} {a n j : Nat} {f : Nat → Int32} {x : Int32} {H : Heap} (h : xat G a (xA 0 n (updV (fun k => .int (f k)) j (.int x))) H) : xat G a (xA 0 n (fun k => .int (upd f j x k))) H := h.arrTo fun k _ => by unfold updV upd; split <;> rfl
theorem xat.setL {G : xG} {a n j : Nat} {f : Nat → Int64} {x : Int64} {H : Heap} (h : xat G a (xA 1 n (updV (fun k => .long (f k)) j (.long x))) H) : xat G a (xA 1 n (fun k => .long (vp_updL f j x k))) H := h.arrTo fun k _ => by unfold updV vp_updL; split <;> rfl
theorem xrecv {G : xG} {s : State} {H : Heap} {a ci : Nat} {q : vw_C} {fs : List Value} (hK : xK G s) (h : xat G a (xO ci fs) H) (hc : xcl[ci]? = some q) : ∃ cell : Cell, H[a]? = some cell ∧ cell.vm.isStatics = false ∧ s.vm.findClass q.1 = some cell.cls := by
  obtain ⟨q', h1, cell, g1, g2, g3, -⟩ := h
  exact ⟨cell, g1, by rw [g3]; rfl, by rw [g2]; exact (hK.1 ci q hc).2.1⟩
/-- an index: within, and its number -/
def xi (i : Int32) (j n : Nat) : Prop := vp_in i n ∧ i.toNatClampNeg = j
theorem xi.lt {i : Int32} {j n : Nat} (h : xi i j n) : j < n := by
  obtain ⟨h1, rfl⟩ := h
  exact Nat.not_le.mp fun q => h1 (Or.inr q)
theorem xi_nI {j n : Nat} (h : j < n) (hn : n < 2 ^ 31) : xi (nI j) j n := ⟨vp_in_nI h hn, nI_clamp (by omega)⟩
theorem xi_of {i : Int32} {n : Nat} (h : vp_in i n) : xi i i.toNatClampNeg n := ⟨h, rfl⟩
theorem xi.up {i : Int32} {j n n' : Nat} (h : xi i j n) (hn : n ≤ n') : xi i j n' := ⟨fun q => h.1 (q.imp id (fun z => Nat.le_trans hn z)), h.2⟩
/-- the world of a run: the tables warmed since the law's start, the old heap untouched, what may change -/
def xWK (s0 : State) (A : Nat → Prop) (U : State) : Prop := s0.WarmedH U.vm ∧ s0.heap.size ≤ U.heap.size ∧ (∀ q : Nat, q < s0.heap.size → U.heap[q]? = s0.heap[q]?) ∧ (∀ q : Nat, U.heap.size ≤ q → A q) ∧ (∀ q : Nat, A q → s0.heap.size ≤ q)
/-- what is known of the law's start -/
def xG0 (G : xG) (s0 : State) (b : Nat) : Prop := (∀ w ∈ lw_tbl, w.before #[Value.ref b] s0 = true) ∧ xK G s0 ∧ (Jvm.Cond.and given_1 narrow_1).before #[Value.ref b] s0 = true
theorem xWK.at {s0 s U : State} {A : Nat → Prop} {H : Heap} {locs : List Loc} (h : xWK s0 A s) (hS : va_S A s.heap H locs) (hU : U.heap = H) (hW : s.WarmedH U.vm) : xWK s0 A U := by
  obtain ⟨h1, h2, h3, h4, h5⟩ := h
  subst hU
  refine ⟨State.WarmedH.trans h1 hW, Nat.le_trans h2 hS.1, fun q hq => ?_, fun q hq => h4 q (Nat.le_trans hS.1 hq), h5⟩
  rw [hS.2.1 q (Nat.lt_of_lt_of_le hq h2) (fun z => by have := h5 q z; omega)]
  exact h3 q hq
theorem xWK.K {G : xG} {s0 s : State} {A : Nat → Prop} {b : Nat} (h : xWK s0 A s) (g : xG0 G s0 b) : xK G s := g.2.1.moved h.1.alike
theorem xnF {G : xG} {s0 s : State} {A : Nat → Prop} {b : Nat} {args : Array Value} (h : xWK s0 A s) (g : xG0 G s0 b) {a : String} {i : Nat} {c n d k : String} (q : Cond.fieldLinkNest a i c n d k ∈ lw_tbl) : (Cond.fieldLinkNest a i c n d k).before args s = true := va_Nw.use rfl (va_Nw.warmF h.1 (va_Nw.of rfl (g.1 _ q)))
theorem xnM {G : xG} {s0 s : State} {A : Nat → Prop} {b : Nat} {args : Array Value} (h : xWK s0 A s) (g : xG0 G s0 b) {a : String} {i : Nat} {x : MethodName} {k : String} (q : Cond.methodLinkNest a i x k ∈ lw_tbl) : (Cond.methodLinkNest a i x k).before args s = true := va_Nw.use rfl (va_Nw.warmM h.1 (va_Nw.of rfl (g.1 _ q)))
theorem xnC {G : xG} {s0 s : State} {A : Nat → Prop} {b : Nat} (h : xWK s0 A s) (g : xG0 G s0 b) {c t : String} (q : Cond.castable c t ∈ lw_tbl) : va_Nw (.castable c t) s := va_Nw.warmC h.1 (va_Nw.of rfl (g.1 _ q))
theorem xnO {G : xG} {s0 s : State} {A : Nat → Prop} {b : Nat} (h : xWK s0 A s) (g : xG0 G s0 b) {C : String} (q : Cond.arrayOver (.object C) ∈ lw_tbl) : va_AO C s := (va_AO.of (g.1 _ q)).moved h.1.alike
/-- starts and ends of contracts -/
abbrev xP (s0 : State) (A : Nat → Prop) (av : List Value) (Pre : Heap → Prop) : Array Value → State → Prop := va_Pc av (fun U => xWK s0 A U ∧ Pre U.heap)
abbrev xQp (v : Option Value) : Array Value → State → Outcome → State → Prop := fun _ st oc t => oc = .returned v ∧ t.heap = st.heap
abbrev xQc (v : Option Value) (P : Heap → Heap → Prop) (A : Nat → Prop) : Array Value → State → Outcome → State → Prop := fun _ st oc t => oc = .returned v ∧ P st.heap t.heap ∧ va_F A st t
abbrev xQn : Array Value → State → Outcome → State → Prop := fun _ _ _ _ => False
abbrev xXc (X : String → Heap → Heap → Prop) (A : Nat → Prop) : String → State → State → Prop := fun E st t => X E st.heap t.heap ∧ va_F A st t
theorem xblind {s0 : State} {A : Nat → Prop} {av : List Value} {Pre : Heap → Prop} : FrameBlind (xP s0 A av Pre) := fun _ _ _ _ q => ⟨q.1, q.2.1, q.2.2⟩
theorem xpre {s0 s : State} {A : Nat → Prop} {H : Heap} {locs : List Loc} {Pre : Heap → Prop} {As : List Value} (hW : xWK s0 A s) (hS : va_S A s.heap H locs) (hp : Pre H) : PreS s H (xP s0 A As Pre) As := ⟨xblind, fun _ hU hw => ⟨rfl, hW.at hS hU hw, by rw [hU]; exact hp⟩⟩
theorem xpreV {s0 s : State} {A : Nat → Prop} {H : Heap} {locs : List Loc} {Pre : Heap → Prop} {As : List Value} {C : String} {a : Nat} (hr : ∃ cell : Cell, H[a]? = some cell ∧ cell.vm.isStatics = false ∧ s.vm.findClass C = some cell.cls) (hW : xWK s0 A s) (hS : va_S A s.heap H locs) (hp : Pre H) : PreV s H C a (xP s0 A (.ref a :: As) Pre) As := ⟨xblind, hr, fun _ hU hw => ⟨rfl, hW.at hS hU hw, by rw [hU]; exact hp⟩⟩
/-- since H the cells but a are the same -/
def xOff (a : Nat) (H H1 : Heap) : Prop := H1.size = H.size ∧ ∀ q : Nat, q ≠ a → H1[q]? = H[q]?
theorem xOff.at {G : xG} {a b : Nat} {e : xE} {H H1 : Heap} (h : xOff a H H1) (hb : xat G b e H) (hn : b ≠ a) : xat G b e H1 := hb.kept (h.2 b hn)
/-- since H all old cells are the same -/
def xGrow (H H1 : Heap) : Prop := H.size ≤ H1.size ∧ ∀ q : Nat, q < H.size → H1[q]? = H[q]?
theorem xGrow.rf {H : Heap} : xGrow H H := ⟨Nat.le_refl _, fun _ _ => rfl⟩
theorem xGrow.tr {H H1 H2 : Heap} (h : xGrow H H1) (h2 : xGrow H1 H2) : xGrow H H2 := ⟨Nat.le_trans h.1 h2.1, fun q hq => (h2.2 q (Nat.lt_of_lt_of_le hq h.1)).trans (h.2 q hq)⟩
theorem xGrow.at {G : xG} {b : Nat} {e : xE} {H H1 : Heap} (h : xGrow H H1) (hb : xat G b e H) : xat G b e H1 := hb.kept (h.2 b hb.lt)
theorem xGrow.S {A : Nat → Prop} {H0 H H1 : Heap} {locs : List Loc} (h : xGrow H H1) (hS : va_S A H0 H locs) : va_S A H0 H1 locs := ⟨Nat.le_trans hS.1 h.1, fun q h1 h2 => (h.2 q (Nat.lt_of_lt_of_le h1 hS.1)).trans (hS.2.1 q h1 h2), hS.2.2⟩
section XROWS
variable {p : Program} {l : Launch} {e : Env} {R : Room} {s : State} {m : MethodId} {args : Array Value} {below : List Frame} {meth : Method} {c : Code} {H : Heap} {locs : List Loc} {cells slots : Nat} {Q : State → Prop}
variable {cc : ByteArray} {nL pc : Nat} {ls : Array Slot} {rest : List Value} {G : xG} {A : Nat → Prop} {a : Nat} {own : String} {H0 : Heap}
theorem x_get {ref C : String} {T : u_T} {N ci index : Nat} (F : CallFix p m c cc nL s args lw_all own) (hK : xK G s) {fs : List Value} (h : xat G a (xO ci fs) H) (hin : ∀ w ∈ u_ws C T N, w ∈ lw_all) (hc : xcl[ci]? = some (C, T, N)) (k : Nat) (hk : k < N) (hlink : (Cond.fieldLink own index ref (T k).2.1 (T k).2.2.1).before args s = true) (hsame : ∀ x, s.fieldFound? (T k).1 (T k).2.1 (T k).2.2.1 = some x → s.fieldFound? ref (T k).2.1 (T k).2.2.1 = some x) {v : Value} (hv : fs[k]? = some v) (hdg : decode cc pc = .ok (.getfield index, 3))
    (kk : W p l e R s m args below meth c H locs cells slots Q (F0 m (pc + 3) ls (v :: rest))) : W p l e R s m args below meth c H locs cells slots Q (F0 m pc ls (.ref a :: rest)) := by
  obtain ⟨hx, hb, -, hown, hts⟩ := F
  obtain ⟨r, h1, cell, q1, q2, q3, q4⟩ := h
  have hr : r = (C, T, N) := Option.some.inj (h1.symm.trans hc)
  subst hr
  obtain ⟨hS, hfc, kC, hkC, hkind⟩ := hK.1 ci _ hc
  obtain ⟨cf, kf, fi, f, hi, hsl⟩ := hS k hk
  refine W.getf hx hb hown hlink (hsame _ hi) (u_facts hfc hkC (u_lays hts hin hk) hi).1 q1 (by rw [q3]; exact fun h => by cases h) (v := v) ?_ rfl rfl hdg kk
  rw [hsl, q4 k hk]
  simp [vp_V, hv]
theorem x_getN {ref C host : String} {T : u_T} {N ci index : Nat} (F : CallFix p m c cc nL s args lw_all own) (hK : xK G s) {fs : List Value} (h : xat G a (xO ci fs) H) (hin : ∀ w ∈ u_ws C T N, w ∈ lw_all) (hc : xcl[ci]? = some (C, T, N)) (k : Nat) (hk : k < N) (hlink : (Cond.fieldLinkNest own index ref (T k).2.1 (T k).2.2.1 host).before args s = true) (hsame : ∀ x, s.fieldFound? (T k).1 (T k).2.1 (T k).2.2.1 = some x → s.fieldFound? ref (T k).2.1 (T k).2.2.1 = some x) {v : Value} (hv : fs[k]? = some v) (hdg : decode cc pc = .ok (.getfield index, 3))
    (kk : W p l e R s m args below meth c H locs cells slots Q (F0 m (pc + 3) ls (v :: rest))) : W p l e R s m args below meth c H locs cells slots Q (F0 m pc ls (.ref a :: rest)) := by
  obtain ⟨hx, hb, -, hown, hts⟩ := F
  obtain ⟨r, h1, cell, q1, q2, q3, q4⟩ := h
  have hr : r = (C, T, N) := Option.some.inj (h1.symm.trans hc)
  subst hr
  obtain ⟨hS, hfc, kC, hkC, hkind⟩ := hK.1 ci _ hc
  obtain ⟨cf, kf, fi, f, hi, hsl⟩ := hS k hk
  refine va_Wgetf hx hb hown hlink (hsame _ hi) (u_facts hfc hkC (u_lays hts hin hk) hi).1 q1 (by rw [q3]; exact fun h => by cases h) (v := v) ?_ rfl rfl hdg kk
  rw [hsl, q4 k hk]
  simp [vp_V, hv]
theorem x_apart {C : String} {T : u_T} {N ci : Nat} (hts : ∀ w ∈ lw_all, w.before args s = true) (hin : ∀ w ∈ u_ws C T N, w ∈ lw_all) (ty : Nat → FieldType) (hty : ∀ k, k < N → parseFieldDescriptor (T k).2.2.1 = some (ty k)) (hnm : ∀ a, a < N → ∀ b, b < N → a ≠ b → (T a).2.1 ≠ (T b).2.1) (hK : xK G s) (hc : xcl[ci]? = some (C, T, N)) : ∀ x y, x < N → y < N → x ≠ y → (G.2.1 ci) x ≠ (G.2.1 ci) y := by
  intro x y hx hy hne
  obtain ⟨hS, -⟩ := hK.1 ci _ hc
  obtain ⟨_, _, _, fa, hia, ea⟩ := hS x hx
  obtain ⟨_, _, _, fb, hib, eb⟩ := hS y hy
  rw [← ea, ← eb]
  refine u_apart (u_lays hts hin hx) (u_lays hts hin hy) hia hib ?_
  rw [(State.fieldFound?_type hia (hty x hx)).1, (State.fieldFound?_type hib (hty y hy)).1]
  exact hnm x hx y hy hne
theorem x_put {ref C : String} {T : u_T} {N ci index : Nat} (F : CallFix p m c cc nL s args lw_all own) (hK : xK G s) (hS0 : va_S A H0 H locs) {fs : List Value} (h : xat G a (xO ci fs) H) (hA : A a) (hin : ∀ w ∈ u_ws C T N, w ∈ lw_all) (ty0 : Nat → FieldType) (hty : ∀ k, k < N → parseFieldDescriptor (T k).2.2.1 = some (ty0 k)) (hnm : ∀ a, a < N → ∀ b, b < N → a ≠ b → (T a).2.1 ≠ (T b).2.1) (hc : xcl[ci]? = some (C, T, N)) (k : Nat) (hk : k < N) (hlink : (Cond.fieldLink own index ref (T k).2.1 (T k).2.2.1).before args s = true) (hsame : ∀ x, s.fieldFound? (T k).1 (T k).2.1 (T k).2.2.1 = some x → s.fieldFound? ref (T k).2.1 (T k).2.2.1 = some x) (hfin : (T k).2.2.2 = false) {v : Value} (hn : narrow (ty0 k) v = v) (hfit : fits (ty0 k) v = true) (hl : k < fs.length) (hdg : decode cc pc = .ok (.putfield index, 3))
    (kk : ∀ (H1 : Heap) (locs1 : List Loc), xat G a (xO ci (fs.set k v)) H1 → xOff a H H1 → va_S A H0 H1 locs1 → W p l e R s m args below meth c H1 locs1 cells slots Q (F0 m (pc + 3) ls rest)) : W p l e R s m args below meth c H locs cells slots Q (F0 m pc ls (v :: .ref a :: rest)) := by
  obtain ⟨hx, hb, -, hown, hts⟩ := F
  have hap := x_apart hts hin ty0 hty hnm hK hc
  obtain ⟨r, h1, cell, q1, q2, q3, q4⟩ := h
  have hr : r = (C, T, N) := Option.some.inj (h1.symm.trans hc)
  subst hr
  obtain ⟨hS, hfc, kC, hkC, hkind⟩ := hK.1 ci _ hc
  obtain ⟨cf, kf, fi, f, hi, hsl⟩ := hS k hk
  have hlay := hts _ (hin _ (u_in_lay hk))
  unfold u_lay at hlay
  rw [if_neg (by rw [hfin]; decide)] at hlay
  have hst := (u_facts hfc hkC (u_lays hts hin hk) hi).1
  have h6 := u_store hfc hkC hkind hlay hi (hty k hk) hn hfit
  refine W.putK hx hb (f := f) ⟨hown, hlink, ⟨_, _, _, hsame _ hi⟩, hst⟩ (by rw [q2]; exact h6) q1 q3 (by rw [hsl]; exact k2_hasslot (q4 k hk)) rfl rfl hdg fun H' e1 e2 e3 => ?_
  rw [hsl] at e1 ⊢
  exact kk H' _ ⟨_, hc, t_OB.to (V := updV (vp_V fs) k v) ⟨_, e1, q2, q3, t_set q4 hap hk v⟩ (fun j _ => vp_updV_set hl v j)⟩ ⟨e2, e3⟩ (hS0.put e2 e3 hA)
theorem x_putN {ref C host : String} {T : u_T} {N ci index : Nat} (F : CallFix p m c cc nL s args lw_all own) (hK : xK G s) (hS0 : va_S A H0 H locs) {fs : List Value} (h : xat G a (xO ci fs) H) (hA : A a) (hin : ∀ w ∈ u_ws C T N, w ∈ lw_all) (ty0 : Nat → FieldType) (hty : ∀ k, k < N → parseFieldDescriptor (T k).2.2.1 = some (ty0 k)) (hnm : ∀ a, a < N → ∀ b, b < N → a ≠ b → (T a).2.1 ≠ (T b).2.1) (hc : xcl[ci]? = some (C, T, N)) (k : Nat) (hk : k < N) (hlink : (Cond.fieldLinkNest own index ref (T k).2.1 (T k).2.2.1 host).before args s = true) (hsame : ∀ x, s.fieldFound? (T k).1 (T k).2.1 (T k).2.2.1 = some x → s.fieldFound? ref (T k).2.1 (T k).2.2.1 = some x) (hfin : (T k).2.2.2 = false) {v : Value} (hn : narrow (ty0 k) v = v) (hfit : fits (ty0 k) v = true) (hl : k < fs.length) (hdg : decode cc pc = .ok (.putfield index, 3))
    (kk : ∀ (H1 : Heap) (locs1 : List Loc), xat G a (xO ci (fs.set k v)) H1 → xOff a H H1 → va_S A H0 H1 locs1 → W p l e R s m args below meth c H1 locs1 cells slots Q (F0 m (pc + 3) ls rest)) : W p l e R s m args below meth c H locs cells slots Q (F0 m pc ls (v :: .ref a :: rest)) := by
  obtain ⟨hx, hb, -, hown, hts⟩ := F
  have hap := x_apart hts hin ty0 hty hnm hK hc
  obtain ⟨r, h1, cell, q1, q2, q3, q4⟩ := h
  have hr : r = (C, T, N) := Option.some.inj (h1.symm.trans hc)
  subst hr
  obtain ⟨hS, hfc, kC, hkC, hkind⟩ := hK.1 ci _ hc
  obtain ⟨cf, kf, fi, f, hi, hsl⟩ := hS k hk
  have hlay := hts _ (hin _ (u_in_lay hk))
  unfold u_lay at hlay
  rw [if_neg (by rw [hfin]; decide)] at hlay
  have hst := (u_facts hfc hkC (u_lays hts hin hk) hi).1
  have h6 := u_store hfc hkC hkind hlay hi (hty k hk) hn hfit
  refine va_WputK hx hb (f := f) hown hlink (hsame _ hi) hst (by rw [q2]; exact h6) q1 q3 (by rw [hsl]; exact k2_hasslot (q4 k hk)) rfl rfl hdg fun H' e1 e2 e3 => ?_
  rw [hsl] at e1 ⊢
  exact kk H' _ ⟨_, hc, t_OB.to (V := updV (vp_V fs) k v) ⟨_, e1, q2, q3, t_set q4 hap hk v⟩ (fun j _ => vp_updV_set hl v j)⟩ ⟨e2, e3⟩ (hS0.put e2 e3 hA)
theorem x_putF {ref C : String} {T : u_T} {N ci index : Nat} (F : CallFix p m c cc nL s args lw_all own) (hK : xK G s) (hS0 : va_S A H0 H locs) {fs : List Value} (h : xat G a (xO ci fs) H) (hA : A a) (hin : ∀ w ∈ u_ws C T N, w ∈ lw_all) (ty0 : Nat → FieldType) (hty : ∀ k, k < N → parseFieldDescriptor (T k).2.2.1 = some (ty0 k)) (hnm : ∀ a, a < N → ∀ b, b < N → a ≠ b → (T a).2.1 ≠ (T b).2.1) (hc : xcl[ci]? = some (C, T, N)) (k : Nat) (hk : k < N) (hlink : (Cond.fieldLink own index ref (T k).2.1 (T k).2.2.1).before args s = true) (hsame : ∀ x, s.fieldFound? (T k).1 (T k).2.1 (T k).2.2.1 = some x → s.fieldFound? ref (T k).2.1 (T k).2.2.1 = some x) (hfin : (T k).2.2.2 = true) (hin2 : meth.name = "<init>") (hdecl : (T k).1 = own) {v : Value} (hn : narrow (ty0 k) v = v) (hfit : fits (ty0 k) v = true) (hl : k < fs.length) (hdg : decode cc pc = .ok (.putfield index, 3))
    (kk : ∀ (H1 : Heap) (locs1 : List Loc), xat G a (xO ci (fs.set k v)) H1 → xOff a H H1 → va_S A H0 H1 locs1 → W p l e R s m args below meth c H1 locs1 cells slots Q (F0 m (pc + 3) ls rest)) : W p l e R s m args below meth c H locs cells slots Q (F0 m pc ls (v :: .ref a :: rest)) := by
  obtain ⟨hx, hb, -, hown, hts⟩ := F
  have hap := x_apart hts hin ty0 hty hnm hK hc
  obtain ⟨r, h1, cell, q1, q2, q3, q4⟩ := h
  have hr : r = (C, T, N) := Option.some.inj (h1.symm.trans hc)
  subst hr
  obtain ⟨hS, hfc, kC, hkC, hkind⟩ := hK.1 ci _ hc
  obtain ⟨cf, kf, fi, f, hi, hsl⟩ := hS k hk
  have hlay := hts _ (hin _ (u_in_lay hk))
  unfold u_lay at hlay
  rw [if_pos hfin] at hlay
  have hst := (u_facts hfc hkC (u_lays hts hin hk) hi).1
  have hcf : m.cls = cf := by
    obtain ⟨_, _, c', _, _, _, -, -, hf', -, -, -, hown2, -⟩ := Cond.laysFinal_spec hlay
    have e1 : c' = cf := by have := hi.symm.trans hf'; simp at this; exact this.1.symm
    rw [hdecl] at hown2
    rw [← e1]; exact Option.some.inj (hown.symm.trans hown2)
  have h6 := u_fits hfc hkC hkind (Or.inr hlay) hi (hty k hk) hn hfit
  refine W.putFinK hx hb hown hlink (hsame _ hi) hst hcf hin2 (by rw [q2]; exact h6) q1 q3 (by rw [hsl]; exact k2_hasslot (q4 k hk)) rfl rfl hdg fun H' e1 e2 e3 => ?_
  rw [hsl] at e1 ⊢
  exact kk H' _ ⟨_, hc, t_OB.to (V := updV (vp_V fs) k v) ⟨_, e1, q2, q3, t_set q4 hap hk v⟩ (fun j _ => vp_updV_set hl v j)⟩ ⟨e2, e3⟩ (hS0.put e2 e3 hA)
theorem xin {t n : Nat} {f : Nat → Value} {i : Int32} {j : Nat} (hi : xi i j n) : ¬ (i < 0 ∨ (arrV (G.2.2.1 t) n f).slots.size ≤ i.toNatClampNeg) := by rw [arrV_size]; exact hi.1
theorem xrd {t n : Nat} {f : Nat → Value} {i : Int32} {j : Nat} {v : Value} (hi : xi i j n) (hv : f j = v) : (arrV (G.2.2.1 t) n f).slots[i.toNatClampNeg]? = some v := by rw [hi.2, arrV_read _ _ hi.lt, hv]
theorem x_iald (hx : p.tables.exec = Jvm.exec) (hb : c.code = cc) (hK : xK G s) {n : Nat} {f : Nat → Value} (h : xat G a (xA 0 n f) H) {i : Int32} {j : Nat} {v : Value} (hi : xi i j n) (hv : f j = v) (hdg : decode cc pc = .ok (.iaload, 1))
    (kk : W p l e R s m args below meth c H locs cells slots Q (F0 m (pc + 1) ls (v :: rest))) : W p l e R s m args below meth c H locs cells slots Q (F0 m pc ls (.int i :: .ref a :: rest)) :=
  W.iald hx hb h ((hK.2 0 _ rfl).arr n f) (fun q => by cases q) (xin hi) (xrd hi hv) rfl rfl hdg kk
theorem x_lald (hx : p.tables.exec = Jvm.exec) (hb : c.code = cc) (hK : xK G s) {n : Nat} {f : Nat → Value} (h : xat G a (xA 1 n f) H) {i : Int32} {j : Nat} {v : Value} (hi : xi i j n) (hv : f j = v) (hdg : decode cc pc = .ok (.laload, 1))
    (kk : W p l e R s m args below meth c H locs cells slots Q (F0 m (pc + 1) ls (v :: rest))) : W p l e R s m args below meth c H locs cells slots Q (F0 m pc ls (.int i :: .ref a :: rest)) :=
  W.lald hx hb h ((hK.2 1 _ rfl).arr n f) (fun q => by cases q) (xin hi) (xrd hi hv) rfl rfl hdg kk
theorem x_dald (hx : p.tables.exec = Jvm.exec) (hb : c.code = cc) (hK : xK G s) {n : Nat} {f : Nat → Value} (h : xat G a (xA 2 n f) H) {i : Int32} {j : Nat} {v : Value} (hi : xi i j n) (hv : f j = v) (hdg : decode cc pc = .ok (.daload, 1))
    (kk : W p l e R s m args below meth c H locs cells slots Q (F0 m (pc + 1) ls (v :: rest))) : W p l e R s m args below meth c H locs cells slots Q (F0 m pc ls (.int i :: .ref a :: rest)) :=
  W.dald hx hb h ((hK.2 2 _ rfl).arr n f) (fun q => by cases q) (xin hi) (xrd hi hv) rfl rfl hdg kk
theorem x_zald (hx : p.tables.exec = Jvm.exec) (hb : c.code = cc) (hK : xK G s) {n : Nat} {f : Nat → Value} (h : xat G a (xA 3 n f) H) {i : Int32} {j : Nat} {v : Value} (hi : xi i j n) (hv : f j = v) (hdg : decode cc pc = .ok (.baload, 1))
    (kk : W p l e R s m args below meth c H locs cells slots Q (F0 m (pc + 1) ls (v :: rest))) : W p l e R s m args below meth c H locs cells slots Q (F0 m pc ls (.int i :: .ref a :: rest)) :=
  W.zald hx hb h ((hK.2 3 _ rfl).arr n f) (fun q => by cases q) (xin hi) (xrd hi hv) rfl rfl hdg kk
theorem x_cald (hx : p.tables.exec = Jvm.exec) (hb : c.code = cc) (hK : xK G s) {n : Nat} {f : Nat → Value} (h : xat G a (xA 4 n f) H) {i : Int32} {j : Nat} {v : Value} (hi : xi i j n) (hv : f j = v) (hdg : decode cc pc = .ok (.caload, 1))
    (kk : W p l e R s m args below meth c H locs cells slots Q (F0 m (pc + 1) ls (v :: rest))) : W p l e R s m args below meth c H locs cells slots Q (F0 m pc ls (.int i :: .ref a :: rest)) :=
  W.cald hx hb h ((hK.2 4 _ rfl).arr n f) (fun q => by cases q) (xin hi) (xrd hi hv) rfl rfl hdg kk
theorem x_aald (hx : p.tables.exec = Jvm.exec) (hb : c.code = cc) (hK : xK G s) {t n : Nat} {f : Nat → Value} (h : xat G a (xA t n f) H) {ty : FieldType} (ht : xtl[t]? = some ty) (hr : ty.isReference = true) {i : Int32} {j : Nat} {v : Value} (hi : xi i j n) (hv : f j = v) (hdg : decode cc pc = .ok (.aaload, 1))
    (kk : W p l e R s m args below meth c H locs cells slots Q (F0 m (pc + 1) ls (v :: rest))) : W p l e R s m args below meth c H locs cells slots Q (F0 m pc ls (.int i :: .ref a :: rest)) :=
  W.aald (ty := ty) hx hb h ((hK.2 t _ ht).arr n f) hr (fun q => by cases q) (xin hi) (xrd hi hv) rfl rfl hdg kk
theorem x_alen (hx : p.tables.exec = Jvm.exec) (hb : c.code = cc) (hK : xK G s) {t n : Nat} {f : Nat → Value} (h : xat G a (xA t n f) H) {ty : FieldType} (ht : xtl[t]? = some ty) {v : Int32} (hv : nI n = v) (hdg : decode cc pc = .ok (.arraylength, 1))
    (kk : W p l e R s m args below meth c H locs cells slots Q (F0 m (pc + 1) ls (.int v :: rest))) : W p l e R s m args below meth c H locs cells slots Q (F0 m pc ls (.ref a :: rest)) :=
  W.alen (n := v) hx hb h ((hK.2 t _ ht).arr n f) (by rw [arrV_size, ← hv]; rfl) rfl rfl hdg kk
theorem x_set {t n : Nat} {f : Nat → Value} {H' : Heap} {i : Int32} {j : Nat} {v : Value} (hi : xi i j n) (h : H'[a]? = some ((arrV (G.2.2.1 t) n f).setSlot i.toNatClampNeg v)) : xat G a (xA t n (updV f j v)) H' := by
  rw [hi.2, arrV_store] at h
  exact h
theorem x_iast (hx : p.tables.exec = Jvm.exec) (hb : c.code = cc) (hK : xK G s) (hS0 : va_S A H0 H locs) {n : Nat} {f : Nat → Value} (h : xat G a (xA 0 n f) H) (hA : A a) {i x : Int32} {j : Nat} (hi : xi i j n) (hdg : decode cc pc = .ok (.iastore, 1))
    (kk : ∀ (H1 : Heap) (locs1 : List Loc), xat G a (xA 0 n (updV f j (.int x))) H1 → xOff a H H1 → va_S A H0 H1 locs1 → W p l e R s m args below meth c H1 locs1 cells slots Q (F0 m (pc + 1) ls rest)) : W p l e R s m args below meth c H locs cells slots Q (F0 m pc ls (.int x :: .int i :: .ref a :: rest)) :=
  W.iast hx hb h ((hK.2 0 _ rfl).arr n f) (fun q => by cases q) (xin hi) rfl rfl hdg fun H1 e1 e2 e3 => kk H1 _ (x_set hi e1) ⟨e2, e3⟩ (hS0.put e2 e3 hA)
theorem x_last (hx : p.tables.exec = Jvm.exec) (hb : c.code = cc) (hK : xK G s) (hS0 : va_S A H0 H locs) {n : Nat} {f : Nat → Value} (h : xat G a (xA 1 n f) H) (hA : A a) {i : Int32} {x : Int64} {j : Nat} (hi : xi i j n) (hdg : decode cc pc = .ok (.lastore, 1))
    (kk : ∀ (H1 : Heap) (locs1 : List Loc), xat G a (xA 1 n (updV f j (.long x))) H1 → xOff a H H1 → va_S A H0 H1 locs1 → W p l e R s m args below meth c H1 locs1 cells slots Q (F0 m (pc + 1) ls rest)) : W p l e R s m args below meth c H locs cells slots Q (F0 m pc ls (.long x :: .int i :: .ref a :: rest)) :=
  W.last hx hb h ((hK.2 1 _ rfl).arr n f) (fun q => by cases q) (xin hi) rfl rfl hdg fun H1 e1 e2 e3 => kk H1 _ (x_set hi e1) ⟨e2, e3⟩ (hS0.put e2 e3 hA)
theorem x_dast (hx : p.tables.exec = Jvm.exec) (hb : c.code = cc) (hK : xK G s) (hS0 : va_S A H0 H locs) {n : Nat} {f : Nat → Value} (h : xat G a (xA 2 n f) H) (hA : A a) {i : Int32} {x : UInt64} {j : Nat} (hi : xi i j n) (hdg : decode cc pc = .ok (.dastore, 1))
    (kk : ∀ (H1 : Heap) (locs1 : List Loc), xat G a (xA 2 n (updV f j (.double x))) H1 → xOff a H H1 → va_S A H0 H1 locs1 → W p l e R s m args below meth c H1 locs1 cells slots Q (F0 m (pc + 1) ls rest)) : W p l e R s m args below meth c H locs cells slots Q (F0 m pc ls (.double x :: .int i :: .ref a :: rest)) :=
  W.dast hx hb h ((hK.2 2 _ rfl).arr n f) (fun q => by cases q) (xin hi) rfl rfl hdg fun H1 e1 e2 e3 => kk H1 _ (x_set hi e1) ⟨e2, e3⟩ (hS0.put e2 e3 hA)
theorem x_zast (hx : p.tables.exec = Jvm.exec) (hb : c.code = cc) (hK : xK G s) (hS0 : va_S A H0 H locs) {n : Nat} {f : Nat → Value} (h : xat G a (xA 3 n f) H) (hA : A a) {i x : Int32} {j : Nat} (hi : xi i j n) (hn : narrow .boolean (.int x) = .int x) (hdg : decode cc pc = .ok (.bastore, 1))
    (kk : ∀ (H1 : Heap) (locs1 : List Loc), xat G a (xA 3 n (updV f j (.int x))) H1 → xOff a H H1 → va_S A H0 H1 locs1 → W p l e R s m args below meth c H1 locs1 cells slots Q (F0 m (pc + 1) ls rest)) : W p l e R s m args below meth c H locs cells slots Q (F0 m pc ls (.int x :: .int i :: .ref a :: rest)) :=
  W.zast hx hb h ((hK.2 3 _ rfl).arr n f) (fun q => by cases q) (xin hi) rfl rfl hdg fun H1 e1 e2 e3 => kk H1 _ (x_set hi (by rw [hn] at e1; exact e1)) ⟨e2, e3⟩ (hS0.put e2 e3 hA)
theorem x_cast (hx : p.tables.exec = Jvm.exec) (hb : c.code = cc) (hK : xK G s) (hS0 : va_S A H0 H locs) {n : Nat} {f : Nat → Value} (h : xat G a (xA 4 n f) H) (hA : A a) {i x : Int32} {j : Nat} (hi : xi i j n) (hn : narrow .char (.int x) = .int x) (hdg : decode cc pc = .ok (.castore, 1))
    (kk : ∀ (H1 : Heap) (locs1 : List Loc), xat G a (xA 4 n (updV f j (.int x))) H1 → xOff a H H1 → va_S A H0 H1 locs1 → W p l e R s m args below meth c H1 locs1 cells slots Q (F0 m (pc + 1) ls rest)) : W p l e R s m args below meth c H locs cells slots Q (F0 m pc ls (.int x :: .int i :: .ref a :: rest)) :=
  W.cast hx hb h ((hK.2 4 _ rfl).arr n f) (fun q => by cases q) (xin hi) rfl rfl hdg fun H1 e1 e2 e3 => kk H1 _ (x_set hi (by rw [hn] at e1; exact e1)) ⟨e2, e3⟩ (hS0.put e2 e3 hA)
/-- a reference into an array of objects: cv the cell that is put -/
theorem x_aast (hx : p.tables.exec = Jvm.exec) (hb : c.code = cc) (hK : xK G s) (hS0 : va_S A H0 H locs) {t n : Nat} {f : Nat → Value} (h : xat G a (xA t n f) H) (hA : A a) {C : String} (ht : xtl[t]? = some (.object C)) {kcomp : Class} {cmp : ClassId} (hcm : s.vm.findClass C = some cmp) (hkc : s.vm.classes[cmp]? = some kcomp) {i : Int32} {j v : Nat} (hi : xi i j n) {cv : Cell} {kv : Class} (hv : H[v]? = some cv) (hvo : ∀ q, cv.vm ≠ .statics q) (hkv : s.vm.classes[cv.cls]? = some kv) (has : s.vm.assignable cv.cls cmp = true) (hdg : decode cc pc = .ok (.aastore, 1))
    (kk : ∀ (H1 : Heap) (locs1 : List Loc), xat G a (xA t n (updV f j (.ref v))) H1 → xOff a H H1 → va_S A H0 H1 locs1 → W p l e R s m args below meth c H1 locs1 cells slots Q (F0 m (pc + 1) ls rest)) : W p l e R s m args below meth c H locs cells slots Q (F0 m pc ls (.ref v :: .int i :: .ref a :: rest)) := by
  obtain ⟨kA, comp, k1, k2, -, k3, -⟩ := hK.2 t _ ht
  have hcomp : comp = cmp := Option.some.inj ((k3 C rfl).symm.trans hcm)
  subst hcomp
  exact W.aast hx hb h (fun q h => by cases h) (fun h => by cases h) k1 k2 rfl hkc ⟨fun q => hi.1 (Or.inl q), by rw [arrV_size, hi.2]; exact hi.lt⟩ hv hvo hkv has rfl rfl hdg fun H1 e1 e2 e3 => kk H1 _ (x_set hi e1) ⟨e2, e3⟩ (hS0.put e2 e3 hA)
/-- an object of a class of the list, into an array over that class -/
theorem x_aastO (hx : p.tables.exec = Jvm.exec) (hb : c.code = cc) (hK : xK G s) (hS0 : va_S A H0 H locs) {t n ci : Nat} {f : Nat → Value} (h : xat G a (xA t n f) H) (hA : A a) {r : vw_C} (hc : xcl[ci]? = some r) (ht : xtl[t]? = some (.object r.1)) {i : Int32} {j v : Nat} (hi : xi i j n) {fs : List Value} (hv : xat G v (xO ci fs) H) (hdg : decode cc pc = .ok (.aastore, 1))
    (kk : ∀ (H1 : Heap) (locs1 : List Loc), xat G a (xA t n (updV f j (.ref v))) H1 → xOff a H H1 → va_S A H0 H1 locs1 → W p l e R s m args below meth c H1 locs1 cells slots Q (F0 m (pc + 1) ls rest)) : W p l e R s m args below meth c H locs cells slots Q (F0 m pc ls (.ref v :: .int i :: .ref a :: rest)) := by
  obtain ⟨r', hr', cellV, g1, g2, g3, -⟩ := hv
  have hcls := (hK.1 ci r hc).2
  have has := va_assign hcls
  obtain ⟨hf, kC, hkC, -⟩ := hcls
  exact x_aast hx hb hK hS0 h hA ht hf hkC hi g1 (fun q h => by rw [g3] at h; cases h) (by rw [g2]; exact hkC) (by rw [g2]; exact has) hdg kk
/-- an object of a class of the list, into an array over a wider class -/
theorem x_aastC (hx : p.tables.exec = Jvm.exec) (hb : c.code = cc) (hK : xK G s) (hS0 : va_S A H0 H locs) {t n ci : Nat} {f : Nat → Value} (h : xat G a (xA t n f) H) (hA : A a) {r : vw_C} (hc : xcl[ci]? = some r) {C : String} (ht : xtl[t]? = some (.object C)) (hca : va_Nw (.castable r.1 C) s) {i : Int32} {j v : Nat} (hi : xi i j n) {fs : List Value} (hv : xat G v (xO ci fs) H) (hdg : decode cc pc = .ok (.aastore, 1))
    (kk : ∀ (H1 : Heap) (locs1 : List Loc), xat G a (xA t n (updV f j (.ref v))) H1 → xOff a H H1 → va_S A H0 H1 locs1 → W p l e R s m args below meth c H1 locs1 cells slots Q (F0 m (pc + 1) ls rest)) : W p l e R s m args below meth c H locs cells slots Q (F0 m pc ls (.ref v :: .int i :: .ref a :: rest)) := by
  obtain ⟨r', hr', cellV, g1, g2, g3, -⟩ := hv
  obtain ⟨hf, kC, hkC, -⟩ := (hK.1 ci r hc).2
  obtain ⟨c0, t0, f1, f2, f3⟩ := Cond.castable_spec (va_Nw.use (A := args) rfl hca)
  have e0 : c0 = G.1 ci := Option.some.inj (f1.symm.trans hf)
  subst e0
  obtain ⟨kt, hkt, -⟩ := Vm.findClass_spec f2
  exact x_aast hx hb hK hS0 h hA ht f2 hkt hi g1 (fun q h => by rw [g3] at h; cases h) (by rw [g2]; exact hkC) (by rw [g2]; exact f3) hdg kk
/-- a new array of numbers -/
theorem x_newa (hx : p.tables.exec = Jvm.exec) (hb : c.code = cc) (hK : xK G s) {atype : ArrayType} {ty : FieldType} {t : Nat} (hty : newarray.typeOf atype = ty) (ht : xtl[t]? = some ty) (harr : (Cond.arrayClass ty).before args s = true) {i : Int32} {n : Nat} {dv : Value} (hn : ¬ i < 0) (hN : i.toNatClampNeg = n) (hdv : defaultValue ty = dv) (hbytes : n * componentBytes ty ≤ 536870912) (hcells : cells + 1 ≤ R.cells) (hslots : slots + n ≤ R.slots) (hdg : decode cc pc = .ok (.newarray atype, 2))
    (kk : ∀ (H1 : Heap), xat G H.size (xA t n (fun _ => dv)) H1 → H1.size = H.size + 1 → xGrow H H1 → W p l e R s m args below meth c H1 locs (cells + 1) (slots + n) Q (F0 m (pc + 2) ls (.ref H.size :: rest))) : W p l e R s m args below meth c H locs cells slots Q (F0 m pc ls (.int i :: rest)) := by
  subst hty
  refine va_newaK hx hb harr rfl hdg rfl hn hN hbytes hcells hslots rfl fun H1 cA e1 z1 o1 hAr hNm => ?_
  obtain ⟨kA, comp, -, -, k3, -⟩ := hK.2 t _ ht
  have hcA : cA = G.2.2.1 t := Option.some.inj (hNm.symm.trans k3)
  subst hcA
  subst hdv
  exact kk H1 e1 z1 ⟨by omega, o1⟩
/-- a new array of references -/
theorem x_newq (F : CallFix p m c cc nL s args lw_all own) (hK : xK G s) {C : String} {index t : Nat} (ht : xtl[t]? = some (.object C)) (hclink : (Cond.classLink own index C).before args s = true) (hover : va_AO C s) {i : Int32} {n : Nat} (hn : ¬ i < 0) (hN : i.toNatClampNeg = n) (hbytes : n * 4 ≤ 536870912) (hcells : cells + 1 ≤ R.cells) (hslots : slots + n ≤ R.slots) (hdg : decode cc pc = .ok (.anewarray index, 3))
    (kk : ∀ (H1 : Heap), xat G H.size (xA t n (fun _ => .null)) H1 → H1.size = H.size + 1 → xGrow H H1 → W p l e R s m args below meth c H1 locs (cells + 1) (slots + n) Q (F0 m (pc + 3) ls (.ref H.size :: rest))) : W p l e R s m args below meth c H locs cells slots Q (F0 m pc ls (.int i :: rest)) := by
  obtain ⟨hx, hb, -, hown, hts⟩ := F
  subst hN
  refine W.anew hx hb hown hclink (va_AO.use hover) rfl hdg rfl hn hbytes hcells hslots fun cA kA comp f1 f2 f3 f4 => ?_
  obtain ⟨kA', comp', -, -, k3, -⟩ := hK.2 t _ ht
  have hcA : cA = G.2.2.1 t := Option.some.inj (f1.symm.trans k3)
  subst hcA
  refine kk _ ?_ (by rw [Array.size_push]) ⟨by rw [Array.size_push]; omega, fun q hq => by rw [Array.getElem?_push, if_neg (Nat.ne_of_lt hq)]⟩
  show (H.push _)[H.size]? = some _
  rw [Array.getElem?_push_size, ← arrV_new]
/-- a new object -/
theorem x_new {C : String} {T : u_T} {N ci index : Nat} (F : CallFix p m c cc nL s args lw_all own) (hK : xK G s) (hin : ∀ w ∈ u_ws C T N, w ∈ lw_all) (ty : Nat → FieldType) (hty : ∀ k, k < N → parseFieldDescriptor (T k).2.2.1 = some (ty k)) (hc : xcl[ci]? = some (C, T, N)) (hcl : (Cond.classLink own index C).before args s = true) (hinst : (Cond.instantiable C N).before args s = true) (hini : (Cond.initialized C).before args s = true) {fs : List Value} (hfs : ∀ j, j < N → defaultValue (ty j) = vp_V fs j) (hcells : cells + 1 ≤ R.cells) (hslots : slots + N ≤ R.slots) (hdg : decode cc pc = .ok (.new index, 3))
    (kk : ∀ (H1 : Heap), xat G H.size (xO ci fs) H1 → H1.size = H.size + 1 → xGrow H H1 → W p l e R s m args below meth c H1 locs (cells + 1) (slots + N) Q (F0 m (pc + 3) ls (.ref H.size :: rest))) : W p l e R s m args below meth c H locs cells slots Q (F0 m pc ls rest) := by
  obtain ⟨hx, hb, -, hown, hts⟩ := F
  have hKn := hK.1 ci _ hc
  refine W.newcK hx hb hown hcl hinst hini rfl hdg hcells hslots hKn.2.1 rfl fun H1 kC hkC e1 z1 o1 => ?_
  exact kk H1 ⟨_, hc, (u_born ty hts hin hKn hkC e1 hty).to hfs⟩ z1 ⟨by omega, o1⟩
/-- a cast that holds -/
theorem x_castO (F : CallFix p m c cc nL s args lw_all own) (hK : xK G s) {ci index : Nat} {r : vw_C} (hc : xcl[ci]? = some r) {fs : List Value} (h : xat G a (xO ci fs) H) (hlink : (Cond.classLink own index r.1).before args s = true) (hdg : decode cc pc = .ok (.checkcast index, 3))
    (kk : W p l e R s m args below meth c H locs cells slots Q (F0 m (pc + 3) ls (.ref a :: rest))) : W p l e R s m args below meth c H locs cells slots Q (F0 m pc ls (.ref a :: rest)) := by
  obtain ⟨hx, hb, -, hown, hts⟩ := F
  exact va_castS hx hb hown hlink (hK.1 ci r hc).2 (xrecv hK h hc) hdg kk
/-- a call that changes nothing -/
theorem xc_P {v : Value} {st0 : List Value} {av : Array Value} (hr : va_Run p l e R s m args below meth c H locs cells slots 0 0 (F0 m pc ls st0) rest (xQp (some v) av) (fun _ => False))
    (kk : W p l e R s m args below meth c H locs cells slots Q (F0 m (pc + 3) ls (v :: rest))) : W p l e R s m args below meth c H locs cells slots Q (F0 m pc ls st0) := by
  intro T hT X
  obtain ⟨v', st₀, t, T', L, h0, X', hL, e1, e2, ⟨hv, hh⟩, st⟩ := hr T hT X
  cases hv
  have hL0 : L = [] := by
    cases L with
    | nil => rfl
    | cons z L => exact absurd (hL z List.mem_cons_self) (fun h => h)
  subst hL0
  rw [List.append_nil] at X'
  obtain ⟨t2, a1, b1⟩ := kk T' (by rw [e1, hh, h0]) X'
  exact ⟨t2, st t2 a1, b1⟩
/-- a call that changes what A allows -/
theorem xc_C {v : Value} {P : Heap → Heap → Prop} {st0 : List Value} {av : Array Value} {mc ms : Nat} (hr : va_Run p l e R s m args below meth c H locs cells slots mc ms (F0 m pc ls st0) rest (xQc (some v) P A av) A) (hS : va_S A H0 H locs)
    (kk : ∀ (H1 : Heap) (locs1 : List Loc), P H H1 → H.size ≤ H1.size → (∀ q : Nat, q < H.size → ¬ A q → H1[q]? = H[q]?) → va_S A H0 H1 locs1 → W p l e R s m args below meth c H1 locs1 (cells + mc) (slots + ms) Q (F0 m (pc + 3) ls (v :: rest))) : W p l e R s m args below meth c H locs cells slots Q (F0 m pc ls st0) := by
  intro T hT X
  obtain ⟨v', st₀, t, T', L, h0, X', hL, e1, e2, ⟨hv, hp, hz, hk⟩, st⟩ := hr T hT X
  cases hv
  rw [h0] at hz hk hp
  obtain ⟨t2, a1, b1⟩ := kk T'.heap (locs ++ L) (by rw [e1]; exact hp) (by rw [e1]; exact hz) (fun q h1 h2 => by rw [e1]; exact hk q h1 h2)
    ⟨Nat.le_trans hS.1 (by rw [e1]; exact hz), fun q h1 h2 => by rw [e1, hk q (Nat.lt_of_lt_of_le h1 hS.1) h2]; exact hS.2.1 q h1 h2, fun q hq => by
      rcases List.mem_append.mp hq with h | h
      · exact hS.2.2 q h
      · exact hL q h⟩ T' rfl X'
  exact ⟨t2, st t2 a1, b1⟩
/-- a call that returns or throws -/
theorem xc_X {v : Value} {P : Heap → Heap → Prop} {X9 : String → Heap → Heap → Prop} {st0 : List Value} {av : Array Value} {mc ms : Nat} (hr : vx_Run p l e R s m args below meth c H locs cells slots mc ms (F0 m pc ls st0) rest (xQc (some v) P A av) (xXc X9 A) A) (hS : va_S A H0 H locs)
    (kx : ∀ (E : String) (ce : Cell) (q9 : Addr) (H1 : Heap) (locs1 : List Loc), X9 E H H1 → H.size ≤ H1.size → (∀ q : Nat, q < H.size → ¬ A q → H1[q]? = H[q]?) → va_S A H0 H1 locs1 → H1[q9]? = some ce → ce.vm = .none → s.vm.findClass E = some ce.cls → vx_W p l e R s m args below meth c H1 locs1 (cells + mc) (slots + ms) Q (F0 m pc ls rest) q9)
    (kk : ∀ (H1 : Heap) (locs1 : List Loc), P H H1 → H.size ≤ H1.size → (∀ q : Nat, q < H.size → ¬ A q → H1[q]? = H[q]?) → va_S A H0 H1 locs1 → W p l e R s m args below meth c H1 locs1 (cells + mc) (slots + ms) Q (F0 m (pc + 3) ls (v :: rest))) : W p l e R s m args below meth c H locs cells slots Q (F0 m pc ls st0) := by
  intro T hT X
  rcases hr T hT X with ⟨v', st₀, t, T', L, h0, X', hL, e1, e2, ⟨hv, hp, hF⟩, st⟩ | ⟨q, st₀, t, T', L, E, ce, h0, X', hL, e1, e2, ⟨hp, hF⟩, hce, hcv, hcl, st⟩
  · cases hv
    rw [h0] at hp
    obtain ⟨k1, k2, k3⟩ := vx_keep h0 e1 hS (fun q _ h => h) (fun q h => h) hL hF
    obtain ⟨t2, a1, b1⟩ := kk T'.heap (locs ++ L) (by rw [e1]; exact hp) k1 k2 k3 T' rfl X'
    exact ⟨t2, st t2 a1, b1⟩
  · rw [h0] at hp
    obtain ⟨k1, k2, k3⟩ := vx_keep h0 e1 hS (fun q _ h => h) (fun q h => h) hL hF
    obtain ⟨t2, a1, b1⟩ := kx E ce q T'.heap (locs ++ L) (by rw [e1]; exact hp) k1 k2 k3 (by rw [e1]; exact hce) hcv hcl T' rfl X'
    exact ⟨t2, st.trans a1, b1⟩
/-- a call that changes nothing -/
theorem xc_P0 {st0 : List Value} {av : Array Value} (hr : va_Run p l e R s m args below meth c H locs cells slots 0 0 (F0 m pc ls st0) rest (xQp none av) (fun _ => False))
    (kk : W p l e R s m args below meth c H locs cells slots Q (F0 m (pc + 3) ls (rest))) : W p l e R s m args below meth c H locs cells slots Q (F0 m pc ls st0) := by
  intro T hT X
  obtain ⟨v', st₀, t, T', L, h0, X', hL, e1, e2, ⟨hv, hh⟩, st⟩ := hr T hT X
  cases hv
  have hL0 : L = [] := by
    cases L with
    | nil => rfl
    | cons z L => exact absurd (hL z List.mem_cons_self) (fun h => h)
  subst hL0
  rw [List.append_nil] at X'
  obtain ⟨t2, a1, b1⟩ := kk T' (by rw [e1, hh, h0]) X'
  exact ⟨t2, st t2 a1, b1⟩
/-- a call that changes what A allows -/
theorem xc_C0 {P : Heap → Heap → Prop} {st0 : List Value} {av : Array Value} {mc ms : Nat} (hr : va_Run p l e R s m args below meth c H locs cells slots mc ms (F0 m pc ls st0) rest (xQc none P A av) A) (hS : va_S A H0 H locs)
    (kk : ∀ (H1 : Heap) (locs1 : List Loc), P H H1 → H.size ≤ H1.size → (∀ q : Nat, q < H.size → ¬ A q → H1[q]? = H[q]?) → va_S A H0 H1 locs1 → W p l e R s m args below meth c H1 locs1 (cells + mc) (slots + ms) Q (F0 m (pc + 3) ls (rest))) : W p l e R s m args below meth c H locs cells slots Q (F0 m pc ls st0) := by
  intro T hT X
  obtain ⟨v', st₀, t, T', L, h0, X', hL, e1, e2, ⟨hv, hp, hz, hk⟩, st⟩ := hr T hT X
  cases hv
  rw [h0] at hz hk hp
  obtain ⟨t2, a1, b1⟩ := kk T'.heap (locs ++ L) (by rw [e1]; exact hp) (by rw [e1]; exact hz) (fun q h1 h2 => by rw [e1]; exact hk q h1 h2)
    ⟨Nat.le_trans hS.1 (by rw [e1]; exact hz), fun q h1 h2 => by rw [e1, hk q (Nat.lt_of_lt_of_le h1 hS.1) h2]; exact hS.2.1 q h1 h2, fun q hq => by
      rcases List.mem_append.mp hq with h | h
      · exact hS.2.2 q h
      · exact hL q h⟩ T' rfl X'
  exact ⟨t2, st t2 a1, b1⟩
/-- a call that returns or throws -/
theorem xc_X0 {P : Heap → Heap → Prop} {X9 : String → Heap → Heap → Prop} {st0 : List Value} {av : Array Value} {mc ms : Nat} (hr : vx_Run p l e R s m args below meth c H locs cells slots mc ms (F0 m pc ls st0) rest (xQc none P A av) (xXc X9 A) A) (hS : va_S A H0 H locs)
    (kx : ∀ (E : String) (ce : Cell) (q9 : Addr) (H1 : Heap) (locs1 : List Loc), X9 E H H1 → H.size ≤ H1.size → (∀ q : Nat, q < H.size → ¬ A q → H1[q]? = H[q]?) → va_S A H0 H1 locs1 → H1[q9]? = some ce → ce.vm = .none → s.vm.findClass E = some ce.cls → vx_W p l e R s m args below meth c H1 locs1 (cells + mc) (slots + ms) Q (F0 m pc ls rest) q9)
    (kk : ∀ (H1 : Heap) (locs1 : List Loc), P H H1 → H.size ≤ H1.size → (∀ q : Nat, q < H.size → ¬ A q → H1[q]? = H[q]?) → va_S A H0 H1 locs1 → W p l e R s m args below meth c H1 locs1 (cells + mc) (slots + ms) Q (F0 m (pc + 3) ls (rest))) : W p l e R s m args below meth c H locs cells slots Q (F0 m pc ls st0) := by
  intro T hT X
  rcases hr T hT X with ⟨v', st₀, t, T', L, h0, X', hL, e1, e2, ⟨hv, hp, hF⟩, st⟩ | ⟨q, st₀, t, T', L, E, ce, h0, X', hL, e1, e2, ⟨hp, hF⟩, hce, hcv, hcl, st⟩
  · cases hv
    rw [h0] at hp
    obtain ⟨k1, k2, k3⟩ := vx_keep h0 e1 hS (fun q _ h => h) (fun q h => h) hL hF
    obtain ⟨t2, a1, b1⟩ := kk T'.heap (locs ++ L) (by rw [e1]; exact hp) k1 k2 k3 T' rfl X'
    exact ⟨t2, st t2 a1, b1⟩
  · rw [h0] at hp
    obtain ⟨k1, k2, k3⟩ := vx_keep h0 e1 hS (fun q _ h => h) (fun q h => h) hL hF
    obtain ⟨t2, a1, b1⟩ := kx E ce q T'.heap (locs ++ L) (by rw [e1]; exact hp) k1 k2 k3 (by rw [e1]; exact hce) hcv hcl T' rfl X'
    exact ⟨t2, st.trans a1, b1⟩
/-- a call that only throws -/
theorem xc_T {X9 : String → Heap → Heap → Prop} {st0 : List Value} {av : Array Value} {mc ms : Nat} (hr : vx_Run p l e R s m args below meth c H locs cells slots mc ms (F0 m pc ls st0) rest (xQn av) (xXc X9 A) A) (hS : va_S A H0 H locs)
    (kx : ∀ (E : String) (ce : Cell) (q9 : Addr) (H1 : Heap) (locs1 : List Loc), X9 E H H1 → H.size ≤ H1.size → (∀ q : Nat, q < H.size → ¬ A q → H1[q]? = H[q]?) → va_S A H0 H1 locs1 → H1[q9]? = some ce → ce.vm = .none → s.vm.findClass E = some ce.cls → vx_W p l e R s m args below meth c H1 locs1 (cells + mc) (slots + ms) Q (F0 m pc ls rest) q9) : W p l e R s m args below meth c H locs cells slots Q (F0 m pc ls st0) := by
  intro T hT X
  rcases hr T hT X with ⟨v', st₀, t, T', L, h0, X', hL, e1, e2, hv, st⟩ | ⟨q, st₀, t, T', L, E, ce, h0, X', hL, e1, e2, ⟨hp, hF⟩, hce, hcv, hcl, st⟩
  · exact hv.elim
  · rw [h0] at hp
    obtain ⟨k1, k2, k3⟩ := vx_keep h0 e1 hS (fun q _ h => h) (fun q h => h) hL hF
    obtain ⟨t2, a1, b1⟩ := kx E ce q T'.heap (locs ++ L) (by rw [e1]; exact hp) k1 k2 k3 (by rw [e1]; exact hce) hcv hcl T' rfl X'
    exact ⟨t2, st.trans a1, b1⟩
/-- a branch on a boolean -/
def bI (b : Bool) : Int32 := if b then 1 else 0
theorem bI_ne {b : Bool} (h : bI b = 0) : b = false := by cases b; rfl; exact absurd h (by decide)
theorem bI_eq {b : Bool} (h : ¬ bI b = 0) : b = true := by cases b; exact absurd rfl h; rfl
theorem bI_t {b : Bool} (h : b = true) : bI b = 1 := by rw [h]; rfl
theorem bI_f {b : Bool} (h : b = false) : bI b = 0 := by rw [h]; rfl
theorem bI_narrow (b : Bool) : narrow .boolean (.int (bI b)) = .int (bI b) := by cases b <;> rfl
theorem x_ifeq (hx : p.tables.exec = Jvm.exec) (hb : c.code = cc) {b : Bool} {off : Int} {tgt : Nat} (hdg : decode cc pc = .ok (.ifCond .eq off, 3)) (ht : (pc : Int) + off = (tgt : Int))
    (k1 : b = false → W p l e R s m args below meth c H locs cells slots Q (F0 m tgt ls rest)) (k2 : b = true → W p l e R s m args below meth c H locs cells slots Q (F0 m (pc + 3) ls rest)) : W p l e R s m args below meth c H locs cells slots Q (F0 m pc ls (.int (bI b) :: rest)) :=
  lv_if_eq (tgt := tgt) hx hb hdg ht (fun h => k1 (bI_ne h)) (fun h => k2 (bI_eq h))
theorem x_ifne (hx : p.tables.exec = Jvm.exec) (hb : c.code = cc) {b : Bool} {off : Int} {tgt : Nat} (hdg : decode cc pc = .ok (.ifCond .ne off, 3)) (ht : (pc : Int) + off = (tgt : Int))
    (k1 : b = true → W p l e R s m args below meth c H locs cells slots Q (F0 m tgt ls rest)) (k2 : b = false → W p l e R s m args below meth c H locs cells slots Q (F0 m (pc + 3) ls rest)) : W p l e R s m args below meth c H locs cells slots Q (F0 m pc ls (.int (bI b) :: rest)) :=
  lv_if_ne (tgt := tgt) hx hb hdg ht (fun h => k1 (bI_eq h)) (fun h => k2 (bI_ne h))
end XROWS
