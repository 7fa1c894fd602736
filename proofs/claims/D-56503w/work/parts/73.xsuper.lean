/-! super.extra(): the default of the interface -/
set_option maxRecDepth 100000
theorem x_pigeon : ∀ (N : Nat) (g : Nat → Nat), (∀ i, i ≤ N → g i < N) → ∃ i j, i < j ∧ j ≤ N ∧ g i = g j
  | 0, g, h => absurd (h 0 (Nat.le_refl _)) (Nat.not_lt_zero _)
  | N + 1, g, h => by
    by_cases hq : ∃ i, i ≤ N ∧ g i = g (N + 1)
    · obtain ⟨i, hi, he⟩ := hq
      exact ⟨i, N + 1, by omega, Nat.le_refl _, he⟩
    · have hne : ∀ i, i ≤ N → g i ≠ g (N + 1) := fun i hi he => hq ⟨i, hi, he⟩
      obtain ⟨i, j, h1, h2, h3⟩ := x_pigeon N (fun i => if g i = N then g (N + 1) else g i) (fun i hi => by
        have h1 := h i (by omega)
        have h2 := h (N + 1) (Nat.le_refl _)
        have h3 := hne i hi
        show (if g i = N then g (N + 1) else g i) < N
        split <;> omega)
      refine ⟨i, j, h1, by omega, ?_⟩
      have a1 := hne i (by omega)
      have a2 := hne j h2

      split at h3 <;> split at h3 <;> omega
/-- the classes from c upward -/
def xChain (vm : Vm) : Nat → ClassId → Option ClassId
  | 0, c => some c
  | n + 1, c => (vm.classes[c]?.bind (·.super)).bind (xChain vm n)
theorem xChain_add (vm : Vm) (k : Nat) : ∀ (n : Nat) (c : ClassId), xChain vm (n + k) c = (xChain vm n c).bind (xChain vm k)
  | 0, c => by rw [Nat.zero_add]; rfl
  | n + 1, c => by
    rw [show n + 1 + k = (n + k) + 1 by omega]
    show (vm.classes[c]?.bind (·.super)).bind (xChain vm (n + k)) = ((vm.classes[c]?.bind (·.super)).bind (xChain vm n)).bind (xChain vm k)
    cases vm.classes[c]?.bind (·.super) with
    | none => rfl
    | some q => exact xChain_add vm k n q
theorem xChain_look {vm : Vm} {name desc : String} : ∀ {fuel : Nat} {c : ClassId}, lookupInSuperclasses vm name desc fuel c = none → ∀ {t : Nat} {x : ClassId}, t < fuel → xChain vm t c = some x → ownMethod vm name desc x = none
  | 0, c, _, t, x, ht, _ => absurd ht (Nat.not_lt_zero _)
  | fuel + 1, c, h, t, x, ht, hx => by
    unfold lookupInSuperclasses at h
    cases hk : vm.classes[c]? with
    | none =>
      cases t with
      | zero => cases hx; simp [ownMethod, hk]
      | succ t => simp [xChain, hk] at hx
    | some k =>
      simp only [hk, Option.bind_eq_bind, Option.bind_some] at h
      cases hf : k.findMethod name desc with
      | some i => simp [hf] at h
      | none =>
        simp only [hf] at h
        cases t with
        | zero => cases hx; simp [ownMethod, hk, hf]
        | succ t =>
          simp only [xChain, hk, Option.bind_some] at hx
          cases hs : k.super with
          | none => simp [hs] at hx
          | some q =>
            simp only [hs, Option.bind_some] at hx h
            exact xChain_look h (by omega) hx
theorem xChain_all {vm : Vm} {name desc : String} {c : ClassId} (h : lookupInSuperclasses vm name desc (vm.classes.size + 1) c = none) : ∀ (n t : Nat), t < n → ∀ x, xChain vm t c = some x → ownMethod vm name desc x = none := by
  intro n
  induction n with
  | zero => intro t ht; exact absurd ht (Nat.not_lt_zero _)
  | succ n ih =>
    intro t ht x hx
    by_cases hle : t < vm.classes.size + 1
    · exact xChain_look h hle hx
    · have hdef : ∀ i, i ≤ t → ∃ y, xChain vm i c = some y := fun i hi => by
        have e := xChain_add vm (t - i) i c
        rw [show i + (t - i) = t by omega, hx] at e
        cases hy : xChain vm i c with
        | none => rw [hy] at e; cases e
        | some y => exact ⟨y, rfl⟩
      have hlt : ∀ i, i < t → ∀ y, xChain vm i c = some y → y < vm.classes.size := fun i hi y hy => by
        obtain ⟨w, hw⟩ := hdef (i + 1) (by omega)
        rw [xChain_add vm 1 i c, hy] at hw
        cases hk : vm.classes[y]? with
        | none => simp [xChain, hk] at hw
        | some k => exact (Array.getElem?_eq_some_iff.mp hk).1
      obtain ⟨i, j, h1, h2, h3⟩ := x_pigeon vm.classes.size (fun i => (xChain vm i c).getD 0) (fun i hi => by
        obtain ⟨y, hy⟩ := hdef i (by omega)
        show (xChain vm i c).getD 0 < _
        rw [hy]
        exact hlt i (by omega) y hy)
      obtain ⟨y, hy⟩ := hdef i (by omega)
      obtain ⟨w, hw⟩ := hdef j (by omega)

      rw [hy, hw] at h3
      have h3 : y = w := h3
      subst h3
      have e1 := xChain_add vm (t - j) j c
      have e2 := xChain_add vm (t - j) i c
      rw [show j + (t - j) = t by omega, hw, hx] at e1
      rw [hy, ← e1] at e2
      exact ih (i + (t - j)) (by omega) x e2
theorem xChain_mem {vm : Vm} : ∀ {fuel : Nat} {c x : ClassId}, x ∈ vm.superclassesAux fuel c → ∃ t, xChain vm t c = some x
  | 0, c, x, h => by cases h
  | fuel + 1, c, x, h => by
    unfold Vm.superclassesAux at h
    cases hs : vm.classes[c]?.bind (·.super) with
    | none => rw [hs] at h; cases h
    | some q =>
      rw [hs] at h
      rcases List.mem_cons.mp h with e | e
      · subst e; exact ⟨1, by simp [xChain, hs]⟩
      · obtain ⟨t, ht⟩ := xChain_mem e
        exact ⟨t + 1, by simp [xChain, hs, ht]⟩
theorem xChain_none {vm : Vm} {name desc : String} {c : ClassId} (h : lookupInSuperclasses vm name desc (vm.classes.size + 1) c = none) : ownMethod vm name desc c = none ∧ superclassMethods vm c name desc = [] := by
  refine ⟨xChain_all h 1 0 (by omega) c rfl, ?_⟩
  unfold superclassMethods Vm.superclasses
  rw [List.filterMap_eq_nil_iff]
  intro x hx
  obtain ⟨t, ht⟩ := xChain_mem hx
  exact xChain_all h (t + 1) t (by omega) x ht
theorem selNone {vm : Vm} {mR : MethodId} {name desc : String} : ∀ {fuel : Nat} {c : ClassId}, lookupInSuperclasses vm name desc fuel c = none → selectInSuperclasses vm mR name desc fuel c = none
  | 0, c, _ => rfl
  | fuel + 1, c, h => by
    unfold lookupInSuperclasses at h
    unfold selectInSuperclasses
    cases hk : vm.classes[c]? with
    | none => rfl
    | some k =>
      simp only [hk, Option.bind_eq_bind, Option.bind_some] at h ⊢
      cases hf : k.findMethod name desc with
      | some i => simp [hf] at h
      | none =>
        simp only [hf] at h
        cases hs : k.super with
        | none => rfl
        | some q =>
          simp only [hs, Option.bind_some] at h ⊢
          exact selNone h
abbrev xStayN : MethodName := ⟨"Lendlathe$Stay", "extra", "()I"⟩
abbrev xCostN : MethodName := ⟨"Lendlathe$Costing", "extra", "()I"⟩
/-- what super.extra() finds -/
theorem x_special {s : State} {args : Array Value} (hl : (Cond.landsInDefault "Lendlathe$Stay" xStayN xCostN).before args s = true) (hsame : (Cond.sameMethod "Lendlathe$Stay" "Lendlathe$Costing" "extra" "()I").before args s = true) (hinst : (Cond.instanceMethod xCostN).before args s = true) :
    ∃ (cn : ClassId) (ck : Class) (m : MethodId), s.vm.findClass "Lendlathe$Stay" = some cn ∧ s.vm.classes[cn]? = some ck ∧ ck.isInterface = false ∧ s.methodFound? "Lendlathe$Stay" "extra" "()I" = some m ∧ s.methodNamed? xCostN = some m ∧ lookupSpecial s.vm cn "extra" "()I" = .method m := by
  obtain ⟨cn, ck, m, hcn, hck, hni, hf, hn⟩ := Cond.sameMethod_found hsame
  obtain ⟨m2, rm, hn2, hrm, hst, hab⟩ := Cond.instanceMethod_spec hinst
  cases hn.symm.trans hn2
  obtain ⟨hrn, hrd⟩ := name_of_methodNamed hn hrm
  refine ⟨cn, ck, m, hcn, hck, hni, hf, hn, ?_⟩
  have hpoly : ∀ y, signaturePolymorphic ck y = false := by
    obtain ⟨k2, hk2, hname⟩ := Vm.findClass_spec hcn
    cases hck.symm.trans hk2
    intro y
    simp [signaturePolymorphic, hname]
  have hup := ((State.methodFound?_class hcn hck hni hpoly m).mp hf).1
  cases hlk : lookupInSuperclasses s.vm "extra" "()I" (s.vm.classes.size + 1) cn with
  | some x =>
    have e : x = m := by simpa [Vm.lookupUp, hlk] using hup
    subst e
    exact lookupSpecial_of_superclasses hck hni hlk hrm hst
  | none =>
    obtain ⟨h1, h2⟩ := xChain_none hlk
    have hsel := selNone (mR := m) hlk
    obtain ⟨c, r, m3, rm3, q1, q2, q3, q4, q5, ⟨mk, hmk, hmi⟩, -, -⟩ := Cond.landsInDefault_spec hl
    cases hcn.symm.trans q1
    cases hf.symm.trans q2
    cases hn.symm.trans q3
    cases hrm.symm.trans q4
    have hpriv : rm.isPrivate = false := by
      simp only [Cond.before, Cond.holds, Cond.value, hcn, hf, hn, hrm, q5, Option.map_some, beq_iff_eq, Option.some.injEq, Bool.and_eq_true, Bool.not_eq_true'] at hl
      exact hl.1.1.2
    have hmax : (match (maximallySpecific s.vm cn rm.name rm.desc).filter fun m => (s.vm.method? m).any (!·.isAbstract) with
        | [m] => Selection.method m
        | [] => .none
        | _ => .several) = .method m := by
      unfold selectMethod at q5
      simp only [hrm, hpriv, Bool.false_eq_true, if_false] at q5
      have hin : (s.vm.classes[m.cls]?).any (·.isInterface) = true := by simp [hmk, hmi]
      rw [hin] at q5
      simp only [Bool.not_true, Bool.and_false, Bool.false_eq_true, if_false] at q5
      rw [hrn, hrd] at q5 ⊢
      have hn1 : xCostN.name = "extra" := rfl
      have hd1 : xCostN.desc = "()I" := rfl
      rw [hn1, hd1] at q5 ⊢
      rw [hsel] at q5
      split at q5
      · cases q5
      · exact q5
    have hn1 : xCostN.name = "extra" := rfl
    have hd1 : xCostN.desc = "()I" := rfl
    rw [hrn, hrd, hn1, hd1] at hmax
    unfold lookupSpecial
    have h1' : (s.vm.classes[cn]?.bind (·.findMethod "extra" "()I")).map (fun i => (⟨cn, i⟩ : MethodId)) = none := h1
    simp only [h1', h2, List.filter_nil, Option.toList_none, List.nil_append, List.find?_nil]
    exact hmax
/-- the words that the Statement gives of it, at a later state -/
theorem x_supAt {G : xG} {s0 s : State} {b : Nat} {A : Nat → Prop} {args : Array Value} (h : xWK s0 A s) (g : xG0 G s0 b) : (Cond.methodLink "Lendlathe$Entry" 29 xStayN).before args s = true ∧ (Cond.sameMethod "Lendlathe$Stay" "Lendlathe$Costing" "extra" "()I").before args s = true ∧ (Cond.landsInDefault "Lendlathe$Stay" xStayN xCostN).before args s = true := by
  have hf := flat_of_before _ g.2.2
  have h1 := hf (Cond.methodLink "Lendlathe$Entry" 29 xStayN) (by decide +kernel)
  have h2 := hf (Cond.sameMethod "Lendlathe$Stay" "Lendlathe$Costing" "extra" "()I") (by decide +kernel)
  have h3 := hf (Cond.landsInDefault "Lendlathe$Stay" xStayN xCostN) (by decide +kernel)
  refine ⟨word_at h.1 (Or.inl rfl) h1, word_at h.1 (Or.inl rfl) h2, ?_⟩
  have e : (Cond.landsInDefault "Lendlathe$Stay" xStayN xCostN).before args s = (Cond.landsInDefault "Lendlathe$Stay" xStayN xCostN).before args (s0.setVm s.vm) := rfl
  rw [e, Cond.landsInDefault_setVm (args := #[.ref b]) h.1.alike (State.methodFound?_setVm h.1.alike _ _ _)]
  exact h3
section SUP
variable {p : Program} {l : Launch} {e : Env} {R : Room} {s : State} {m : MethodId} {args : Array Value} {below : List Frame} {meth : Method} {c : Code} {H : Heap} {locs : List Loc} {cells slots : Nat}
variable {cc : ByteArray} {nL pc : Nat} {ls : Array Slot} {rest : List Value} {A : Nat → Prop} {G : xG} {s0 : State} {b0 : Nat} {S : xS} {ad : Nat × Nat → Nat} {z : xZ} {en : Nat}
theorem x_runSD (g : xG0 G s0 b0) (hWK : xWK s0 A s) (F : CallFix p m c cc nL s args lw_all "Lendlathe$Entry") (hS : va_S A s.heap H locs) (hR : xRX G A S ad z H) (he : en < S.1 2 0) {rm : Room} {Qc : Array Value → State → Outcome → State → Prop}
    (hM : Met l yX11_extra (ws_ yX11_extra cX11_extra 1 (some .int)) rm (xP s0 A [.ref (ad (23, en))] (fun H => xRX G A S ad z H)) Qc 0 0 (fun _ => False)) (hrc : rm.cells = 0) (hrs : rm.slots = 0) (hR9 : rm.frames + 1 ≤ R.frames ∧ 20 + rm.locals ≤ R.locals) (hsz : ls.size = nL) (hro : (rest.map fun v => v.category).sum ≤ 8) (hcs : cells ≤ R.cells ∧ slots ≤ R.slots) (hdg : decode cc pc = .ok (.invokespecial 29, 3)) :
    va_Run p l e R s m args below meth c H locs cells slots 0 0 (F0 m pc ls (.ref (ad (23, en)) :: rest)) rest (Qc #[.ref (ad (23, en))]) (fun _ => False) := by
  obtain ⟨hx, hb, hml, hown, hts⟩ := F
  have hall : ∀ w ∈ lw_all, ∀ (a' : Array Value) (U : State), s.WarmedH U.vm → w.before a' U = true := fun w hw a' U hU => pay_in hts lw_self w hw a' U hU
  obtain ⟨w1, w2, w3⟩ := x_supAt (args := args) hWK g
  obtain ⟨cn, ck, r0, hcn, hck, hni, hf, hn, hfound0⟩ := x_special w3 w2 (hts _ q1166)
  obtain ⟨m2, r, hn2, hrm, hst, hab⟩ := Cond.instanceMethod_spec (hts _ q1166)
  cases hn.symm.trans hn2
  obtain ⟨hrn, hrd⟩ := name_of_methodNamed hn hrm
  obtain ⟨ps, dk, kp, hps, hdk, hkp, hsuper, -, -, hnid⟩ := Cond.superclass_spec hown (hts _ q1099)
  cases hcn.symm.trans hps
  obtain ⟨kr, hkr, -⟩ := className_of_methodNamed hn
  obtain ⟨methM, cM, hmM, -, -, -, -, -, -, hsigM⟩ := Cond.code_spec hn (hts _ q1167)
  cases hrm.symm.trans hmM
  have hlen : ([] : List Value).length = r.sig.parameters.length := by
    have hq : (parseMethodDescriptor xCostN.desc).map (fun d => d.parameters.length) = some 0 := by decide +kernel
    have hsigM : parseMethodDescriptor xCostN.desc = some r.sig := hsigM
    rw [hsigM] at hq
    exact (Option.some.inj hq).symm
  have hK : Back l R p e below s args yX11_extra 3 8 (PreOf R 0 0 _) (PostOf Qc 0 0 (fun _ => False)) := back_of (bytes := cX11_extra) (maxL := 1) (ret := some .int) hM xblind hrc hrs hR9.1 hR9.2 (fun w hw => hall w (lw_meth q1167 w hw).1) List.mem_cons_self (fun a' U hU => hall _ q1846 a' U hU)
  obtain ⟨cell, hcell, hobj, hcl⟩ := xrecv (hWK.K g) (xw_23 hR he) rfl
  obtain ⟨kc, hkc, -⟩ := Vm.findClass_spec hcl
  intro T hT X
  have hpl : e.platform.magicAccessors = ({} : Platform).magicAccessors := by rw [X.admits.platform]
  obtain ⟨ci, hl, hright⟩ := Cond.methodLink_specUp hown hcn hck hni hf w1 e.platform hpl (by rw [X.admits.platform])
  obtain ⟨dk₀, cfile, nt, _, _, ck₀, _, _, hd₀, hcf, hcp, -, -, -, hc₀, -, hpoly, -⟩ := hl.here
  cases hdk.symm.trans hd₀
  cases hck.symm.trans hc₀
  have hdg' : decode c.code pc = .ok (.invokespecial 29, 3) := by rw [hb]; exact hdg
  have hn1 : xCostN.name = "extra" := rfl
  have hd1 : xCostN.desc = "()I" := rfl
  obtain ⟨vm', hW', st1⟩ := Steps.invokeSuperColdArgs (tb := p.tables) (e := e) (s₀ := s) (U := T) (f := F0 m pc ls (.ref (ad (23, en)) :: rest)) (args := []) (rest := rest) (a := ad (23, en)) (cell := cell) (m := r0) X.here hx hdg' X.warmed hl hright hdk hcf hcp hrm hck
    (by rw [hrn]; simp [hn1]) hst (by rw [hrn, hrd, hsuper, hn1, hd1]; simpa using hfound0) hnid hkr hab hlen rfl (by rw [hT]; exact hcell) (fun q h => by rw [h] at hobj; cases hobj) hkc
  have X₁ := X.noted hW'
  obtain ⟨v, ⟨U', l2, c2, s2⟩, X', ⟨g', mk, t, L, e1, e2, hq, h1, hL, h2, h3⟩, st⟩ := hK m meth c ⟨T.setVm vm', locs, cells, slots⟩ (F0 m pc ls rest) (.invokespecial 29) r0 #[.ref (ad (23, en))] X₁ rfl (hsz.trans hml.symm) hdg' (lv_room hro) (X₁.named hn) ⟨hcs.1, hcs.2, rfl, hWK.at hS (by exact hT) X₁.warmed, by show xRX G A S ad z T.heap; rw [hT]; exact hR⟩
  dsimp only [Pt.U, Pt.locs, Pt.cells, Pt.slots] at X' e1 e2 h1 h2 h3 st
  subst h1; subst h2; subst h3
  exact ⟨v, (T.setVm vm').calling g' mk #[.ref (ad (23, en))], t, U', L, hT, X', hL, e1, e2, hq, fun target htg => st1 _ (by rw [doInvoke_state]; exact st.trans htg)⟩
end SUP
