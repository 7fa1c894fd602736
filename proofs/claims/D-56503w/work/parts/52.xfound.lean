/-! LENDLATHE's SIDE: what is known at the start, throwing, calls -/
set_option maxRecDepth 100000
def xExn (n : Nat) : String := match n with
  | 1 => "java/lang/IllegalArgumentException"
  | 2 => "java/lang/IllegalStateException"
  | 3 => "java/util/NoSuchElementException"
  | 4 => "java/lang/IndexOutOfBoundsException"
  | 5 => "java/lang/UnsupportedOperationException"
  | _ => "java/lang/ArithmeticException"
abbrev xSix : List FieldType := [.int, .int, .int, .int, .int, .char]
abbrev xCkS (nm : String) : Lambda.Shape := { iface := "Lendlathe$Check", name := "fails", sam := ⟨xSix, some .boolean⟩, captured := [.object "Lendlathe"], kind := 5, implClass := "Lendlathe", implName := nm, implDesc := ⟨xSix, some .boolean⟩, implItf := false, inst := ⟨xSix, some .boolean⟩ }
abbrev xRaS : Lambda.Shape := { iface := "Lendlathe$Tariff", name := "of", sam := ⟨[.int], some .int⟩, captured := [.int], kind := 6, implClass := "Lendlathe", implName := "lambda$setRate$0", implDesc := ⟨[.int, .int], some .int⟩, implItf := false, inst := ⟨[.int], some .int⟩ }
abbrev xTaS (nm : String) : Lambda.Shape := { iface := "Lendlathe$Tariff", name := "of", sam := ⟨[.int], some .int⟩, captured := [.object "Lendlathe$Tariff", .int], kind := 6, implClass := "Lendlathe", implName := nm, implDesc := ⟨[.object "Lendlathe$Tariff", .int, .int], some .int⟩, implItf := false, inst := ⟨[.int], some .int⟩ }
/-- the lambdas' sites: three checks, a rate, a fee, a cap, a double, a discount -/
def xsites : List (MethodName × Nat × Nat × Lambda.Shape) := [(yX1_init, 145, 59, xCkS "lacksInduction"), (yX1_init, 154, 63, xCkS "isElsewhere"), (yX1_init, 163, 64, xCkS "isBusy"), (yX1_setRate, 38, 101, xRaS), (yX1_addFee, 20, 109, xTaS "lambda$addFee$1"), (yX1_addCap, 20, 116, xTaS "lambda$addCap$2"), (yX1_addDouble, 20, 117, xTaS "lambda$addDouble$3"), (yX1_addDiscount, 19, 118, xTaS "lambda$addDiscount$4")]
def xSiteOK (G : xG) (s0 : State) : Prop := ∀ (i : Nat) (q : MethodName × Nat × Nat × Lambda.Shape), xsites[i]? = some q → s0.lambdaAt? q.1 q.2.1 q.2.2.1 q.2.2.2 = some (G.2.2.2 i, none)
abbrev xOldA (s0 : State) : Nat → Prop := fun a => s0.heap.size ≤ a
def xStrOK (s0 : State) : Prop := ∃ (adK adV : Nat → Nat), vk_S 1 [3] [[105, 109, 116]] adK adV (xOldA s0) s0 s0.heap ∧ vk_R "Lendlathe" 200 "imt" (adK 0) s0
def xThrOK (s0 : State) : Prop := vx_Zq Bundle.tN "UNASSIGNED_STACK" Bundle.steD (xOldA s0) s0 s0.heap ∧ vx_Zq Bundle.tN "SUPPRESSED_SENTINEL" Bundle.listD (xOldA s0) s0 s0.heap ∧ va_Z "java/lang/String" "COMPACT_STRINGS" "Z" (.int 1) (xOldA s0) s0 s0.heap ∧ va_Zq "jdk/internal/util/Preconditions" "SIOOBE_FORMATTER" "Ljava/util/function/BiFunction;" (xOldA s0) s0 s0.heap
/-- what is known of the law's start, for Lendlathe -/
def xG1 (l : Launch) (G : xG) (s0 : State) (b : Nat) : Prop := xG0 G s0 b ∧ l.stackTraces = false ∧ xSiteOK G s0 ∧ xStrOK s0 ∧ xThrOK s0
section OLD
variable {s0 s : State} {A : Nat → Prop}
theorem xZqAt (h : xWK s0 A s) {C n d : String} (hz : vx_Zq C n d (xOldA s0) s0 s0.heap) : vx_Zq C n d A s s.heap := vx_Zq.moved h.1.alike ((hz.narrow h.2.2.2.2).kept (fun a ha _ => h.2.2.1 a ha))
theorem xVqAt (h : xWK s0 A s) {C n d : String} (hz : va_Zq C n d (xOldA s0) s0 s0.heap) : va_Zq C n d A s s.heap := va_Zq.moved h.1.alike ((va_Zq.narrow hz h.2.2.2.2).kept (fun a ha _ => h.2.2.1 a ha))
theorem xVzAt (h : xWK s0 A s) {C n d : String} {v : Value} (hz : va_Z C n d v (xOldA s0) s0 s0.heap) : va_Z C n d v A s s.heap := va_Z.moved h.1.alike ((va_Z.narrow hz h.2.2.2.2).kept (fun a ha _ => h.2.2.1 a ha))
theorem xStrAt (h : xWK s0 A s) (hz : xStrOK s0) : ∃ (adK adV : Nat → Nat), vk_S 1 [3] [[105, 109, 116]] adK adV A s s.heap ∧ vk_R "Lendlathe" 200 "imt" (adK 0) s := by
  obtain ⟨adK, adV, h1, h2⟩ := hz
  exact ⟨adK, adV, vk_S.moved h.1.alike ((vk_S.narrow h1 h.2.2.2.2).kept (fun a ha _ => h.2.2.1 a ha)), vk_R.warm h.1 h2⟩
end OLD
/-! calls by a name that is declared above, by an interface -/
theorem lw_U {own C owner : String} {idx : Nat} {x y : MethodName} {b : ByteArray} {L : Nat} {r : Option FieldType} (h1 : Cond.methodLink own idx x ∈ lw_all) (h2 : Cond.sameMethod x.cls owner x.name x.desc ∈ lw_all) (h3 : Cond.selects C x y ∈ lw_all) (h4 : Cond.instanceMethod y ∈ lw_all) (h5 : Cond.initialized y.cls ∈ lw_all) (h6 : Cond.code y b L r ∈ lw_all) : GoodIn lw_all (va_wsU own idx C owner x y (ws_ y b L r)) := by
  refine lw_app ?_ (lw_meth h6)
  intro w hw
  simp only [List.mem_cons, List.not_mem_nil, or_false] at hw
  rcases hw with e | e | e | e | e
  · rw [e]; exact h1
  · rw [e]; exact h2
  · rw [e]; exact h3
  · rw [e]; exact h4
  · rw [e]; exact h5
theorem lw_F {own C : String} {idx : Nat} {x y : MethodName} {b : ByteArray} {L : Nat} {r : Option FieldType} (h1 : Cond.methodLink own idx x ∈ lw_all) (h2 : Cond.selects C x y ∈ lw_all) (h3 : Cond.instanceMethod y ∈ lw_all) (h4 : Cond.initialized y.cls ∈ lw_all) (h5 : Cond.code y b L r ∈ lw_all) : GoodIn lw_all (va_wsF own idx C x y (ws_ y b L r)) := by
  refine lw_app ?_ (lw_meth h5)
  intro w hw
  simp only [List.mem_cons, List.not_mem_nil, or_false] at hw
  rcases hw with e | e | e | e
  · rw [e]; exact h1
  · rw [e]; exact h2
  · rw [e]; exact h3
  · rw [e]; exact h4
theorem xnMw {G : xG} {s0 s : State} {A : Nat → Prop} {b : Nat} (h : xWK s0 A s) (g : xG0 G s0 b) {a : String} {i : Nat} {x : MethodName} {k : String} (q : Cond.methodLinkNest a i x k ∈ lw_tbl) : va_Nw (.methodLinkNest a i x k) s := va_Nw.warmM h.1 (va_Nw.of rfl (g.1 _ q))
theorem xnD {G : xG} {s0 s : State} {A : Nat → Prop} {b : Nat} (h : xWK s0 A s) (g : xG0 G s0 b) {x : MethodName} (q : Cond.declares x ∈ lw_tbl) : va_Nw (.declares x) s := va_Nw.warmD h.1 (va_Nw.of rfl (g.1 _ q))
theorem xnW {G : xG} {s0 s : State} {A : Nat → Prop} {b : Nat} (h : xWK s0 A s) (g : xG0 G s0 b) {C : String} {x y : MethodName} (hx : x.cls ≠ "java/lang/invoke/MethodHandle" ∧ x.cls ≠ "java/lang/invoke/VarHandle") (h1 : Cond.declares x ∈ lw_tbl) (h2 : Cond.interfaceMethod x.cls x.cls x.name x.desc ∈ lw_tbl) (h3 : Cond.publicMethod y ∈ lw_tbl) (h4 : Cond.unhidden C x.name x.desc ∈ lw_tbl) (h5 : Cond.castable C x.cls ∈ lw_tbl) : va_Fw C x y s := va_Fw.moved hx h.1.alike (va_Fw.of (g.1 _ h1) (g.1 _ h2) (g.1 _ h3) (g.1 _ h4) (g.1 _ h5))
theorem xClassAt {G : xG} {s : State} (hK : xK G s) {ci : Nat} {q : vw_C} (hc : xcl[ci]? = some q) : ClassAt s q.1 (G.1 ci) := (hK.1 ci q hc).2
section CALL5
variable {p : Program} {l : Launch} {e : Env} {R : Room} {s : State} {m : MethodId} {args : Array Value} {below : List Frame} {meth : Method} {c : Code} {H : Heap} {locs : List Loc} {cells slots : Nat} {Q : State → Prop}
variable {cc : ByteArray} {pc : Nat} {ls : Array Slot} {rest : List Value} {A : Nat → Prop} {H0 : Heap}
/-- .. by an interface: a call that changes nothing -/
theorem xc5_P {v : Value} {st0 : List Value} {av : Array Value} (hr : va_Run5 p l e R s m args below meth c H locs cells slots 0 0 (F0 m pc ls st0) rest (xQp (some v) av) (fun _ => False))
    (kk : W p l e R s m args below meth c H locs cells slots Q (F0 m (pc + 5) ls (v :: rest))) : W p l e R s m args below meth c H locs cells slots Q (F0 m pc ls st0) := by
  intro T hT X
  obtain ⟨v', st₀, t, T', L, h0, X', hL, e1, e2, ⟨hv, hh⟩, st⟩ := hr T hT X
  cases hv
  have hL0 : L = [] := by
    cases L with
    | nil => rfl
    | cons z L => exact absurd (hL z List.mem_cons_self) (fun h => h)
  subst hL0
  rw [List.append_nil] at X'
  obtain ⟨t2, a1, b1⟩ := kk T' (by rw [e1, hh, h0]) X'
  exact ⟨t2, st t2 a1, b1⟩
/-- .. a call that changes what A allows -/
theorem xc5_C {v : Value} {P : Heap → Heap → Prop} {st0 : List Value} {av : Array Value} {mc ms : Nat} (hr : va_Run5 p l e R s m args below meth c H locs cells slots mc ms (F0 m pc ls st0) rest (xQc (some v) P A av) A) (hS : va_S A H0 H locs)
    (kk : ∀ (H1 : Heap) (locs1 : List Loc), P H H1 → H.size ≤ H1.size → (∀ q : Nat, q < H.size → ¬ A q → H1[q]? = H[q]?) → va_S A H0 H1 locs1 → W p l e R s m args below meth c H1 locs1 (cells + mc) (slots + ms) Q (F0 m (pc + 5) ls (v :: rest))) : W p l e R s m args below meth c H locs cells slots Q (F0 m pc ls st0) := by
  intro T hT X
  obtain ⟨v', st₀, t, T', L, h0, X', hL, e1, e2, ⟨hv, hp, hz, hk⟩, st⟩ := hr T hT X
  cases hv
  rw [h0] at hz hk hp
  obtain ⟨t2, a1, b1⟩ := kk T'.heap (locs ++ L) (by rw [e1]; exact hp) (by rw [e1]; exact hz) (fun q h1 h2 => by rw [e1]; exact hk q h1 h2)
    ⟨Nat.le_trans hS.1 (by rw [e1]; exact hz), fun q h1 h2 => by rw [e1, hk q (Nat.lt_of_lt_of_le h1 hS.1) h2]; exact hS.2.1 q h1 h2, fun q hq => by
      rcases List.mem_append.mp hq with h | h
      · exact hS.2.2 q h
      · exact hL q h⟩ T' rfl X'
  exact ⟨t2, st t2 a1, b1⟩
/-- text and old cells: getfield of an old object, its array's elements -/
theorem x_getOF (hx : p.tables.exec = Jvm.exec) (hb : c.code = cc) {own ref o n d : String} {index q : Nat} {v : Value} (hF : va_OF o n d v q A s s.heap) (hS : va_S A s.heap H locs) (hown : s.vm.findClass own = some m.cls) (hlink : (Cond.fieldLink own index ref n d).before args s = true) (hsame : ∀ x, s.fieldFound? o n d = some x → s.fieldFound? ref n d = some x) (hdg : decode cc pc = .ok (.getfield index, 3))
    (kk : W p l e R s m args below meth c H locs cells slots Q (F0 m (pc + 3) ls (v :: rest))) : W p l e R s m args below meth c H locs cells slots Q (F0 m pc ls (.ref q :: rest)) := by
  obtain ⟨cf, k, i, f, cell, h1, h2, h3, h4, h5, h6⟩ := hF
  exact W.getf hx hb hown hlink (hsame _ h1) h2 (by rw [hS.2.1 q (Array.getElem?_eq_some_iff.mp h3).1 h6]; exact h3) h4 (v := v) h5 rfl rfl hdg kk
variable {mc ms : Nat} {P : Heap → Heap → Prop}
theorem xr_Ca (hx : p.tables.exec = Jvm.exec) (hb : c.code = cc) {v : Value} {rt : FieldType} (hr : meth.sig.returnType = some rt) (hlocks : meth.locks = false) (hrt : (∃ n, rt = .object n) ∨ ∃ t, rt = .array t) (hv : v = .null ∨ ∃ a, v = .ref a) (hP : P s.heap H) (hS : va_S A s.heap H locs) (hc : cells ≤ mc) (hs : slots ≤ ms) (hdg : decode cc pc = .ok (.areturn, 1)) : W p l e R s m args below meth c H locs cells slots (MQ below (xQc (some v) P A) args s mc ms A) (F0 m pc ls [v]) :=
  W.widen hc hs (W.aret hx hb hr hrt hv (fun t ht _ => ⟨rfl, by rw [ht]; exact hP, hS.F ht⟩) hS.2.2 hdg hlocks)
end CALL5
/-! throwing -/
theorem x_hat {args : Array Value} {s : State} (hts : ∀ w ∈ lw_all, w.before args s = true) {L : List Cond} (hL : ∀ w ∈ L, w ∈ lw_tbl) : ∀ w ∈ L.filter goodWord, w.before args s = true := fun w hw => hts w (List.mem_filter.mpr ⟨hL w (List.mem_filter.mp hw).1, (List.mem_filter.mp hw).2⟩)
abbrev xRE : List String := ["java/lang/RuntimeException", "java/lang/Exception"]
