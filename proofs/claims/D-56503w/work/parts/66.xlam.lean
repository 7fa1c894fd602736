/-! THE LAMBDAS: the instruction that makes one, the steps within a made method, calls by its interface -/
set_option maxRecDepth 100000
theorem x_three {α : Type} {x : Array Nat} {f : Nat → Nat → Nat → Option α} {r : α} (h : Lambda.shapeOf?.match_15 (fun _ => Option α) x f (fun _ => none) = some r) : ∃ i j k, f i j k = some r := by
  obtain ⟨L⟩ := x
  match L, h with
  | [], h => cases h
  | [_], h => cases h
  | [_, _], h => cases h
  | _ :: _ :: _ :: _ :: _, h => cases h
  | [i, j, k], h => exact ⟨i, j, k, h⟩
theorem x_shape {cf : ClassFile} {index : Nat} {sg : Lambda.Shape} (h : Lambda.shapeOf? cf index = some sg) :
    ∃ (b nt : Nat) (desc : String) (site : MethodDescriptor), cf.constantPool[index]? = some (.invokeDynamic b nt) ∧ cf.constantPool.nameAndType? nt = some (sg.name, desc) ∧ parseMethodDescriptor desc = some site ∧ site.parameters = sg.captured := by
  unfold Lambda.shapeOf? at h
  split at h
  · rename_i b nt hc
    obtain ⟨entries, -, h⟩ := Option.bind_eq_some_iff.mp h
    obtain ⟨bm, -, h⟩ := Option.bind_eq_some_iff.mp h
    split at h
    · obtain ⟨_, -, h⟩ := Option.bind_eq_some_iff.mp h
      obtain ⟨a0, a1, a2, h⟩ := x_three h
      split at h
      · split at h
        · split at h
          · obtain ⟨⟨name, desc⟩, hnt, h⟩ := Option.bind_eq_some_iff.mp h
            obtain ⟨site, hsite, h⟩ := Option.bind_eq_some_iff.mp h
            dsimp only at h
            split at h
            · obtain ⟨⟨implClass, implName, implDesc, implItf⟩, -, h⟩ := Option.bind_eq_some_iff.mp h
              obtain ⟨x1, -, h⟩ := Option.bind_eq_some_iff.mp h
              obtain ⟨x2, -, h⟩ := Option.bind_eq_some_iff.mp h
              obtain ⟨x3, -, h⟩ := Option.bind_eq_some_iff.mp h
              obtain ⟨x4, -, h⟩ := Option.bind_eq_some_iff.mp h
              obtain ⟨x5, -, h⟩ := Option.bind_eq_some_iff.mp h
              cases h
              exact ⟨b, nt, desc, site, hc, hnt, hsite, rfl⟩
            · cases h
          · cases h
        · cases h
      · cases h
    · cases h
  · cases h
theorem xsite_at {s0 U : State} (hW : s0.WarmedH U.vm) {x : MethodName} {pc index : Nat} {sg : Lambda.Shape} {c : ClassId} (h : s0.lambdaAt? x pc index sg = some (c, none)) : U.lambdaAt? x pc index sg = some (c, none) := by
  obtain ⟨m, kc, cf, i0, p0, lk, hm, hk, hcf, hsh, hin, hfind, hmade, hcall, hl⟩ := State.lambdaAt?_spec h
  have hA := hW.alike
  have hcall' : U.lambdaCallable sg c = true := by
    simp only [State.lambdaCallable, hA.findClass, hA.assignable, hA.superclasses, hA.declaredIn] at hcall ⊢
    exact hcall
  obtain ⟨kc', hk', he⟩ := hA.2.2 _ _ hk
  have hm' : U.methodNamed? x = some m := (State.methodNamed?_setVm (s := s0) hA x).trans hm
  obtain ⟨m2, k2, hm2, hk2, hjdk, howes⟩ := State.lambdaAt?_road h
  cases hm.symm.trans hm2
  cases hk.symm.trans hk2
  have howes' : (U.vm.findClass sg.iface).bind (Lambda.owesInit U.vm) = none := by
    rw [hA.findClass]
    cases hfi : s0.vm.findClass sg.iface with
    | none => rfl
    | some i => rw [hfi] at howes; simpa [Lambda.owesInit_alike hA] using howes
  have h1 : kc'.cf = some cf := by rw [he]; exact hcf
  have h2 : ((Lambda.sitesOf kc').any fun y => decide (y = (m.idx, pc, index, sg))) = true := by
    have : (m.idx, pc, index, sg) ∈ Lambda.sitesOf kc' := by rw [he]; exact hin
    simpa using this
  have h3 : (kc'.callSites.find? fun y => y.1 == m.idx && y.2.1 == pc) = some (i0, p0, lk) := by rw [he]; exact hfind
  have h4 : jdkName kc'.name = false := by rw [he]; exact hjdk
  rcases hl with ⟨a, cell, -, h5, -⟩ | ⟨rfl, -, hcap⟩
  · cases h5
  · simp [State.lambdaAt?, guard, h4, howes', hm', hk', h1, hsh, h2, h3, hcap, Lambda.isMade_warmer hW hmade, hcall']
section MADE
variable {p : Program} {l : Launch} {e : Env} {R : Room} {s : State} {m : MethodId} {args : Array Value} {below : List Frame} {meth : Method} {c : Code} {H : Heap} {locs : List Loc} {cells slots : Nat} {Q : State → Prop}
variable {cc : ByteArray} {nL pc : Nat} {ls : Array Slot} {rest : List Value} {A : Nat → Prop} {H0 : Heap}
/-- a lambda of a linked site -/
theorem x_indy (hx : p.tables.exec = Jvm.exec) (hb : c.code = cc) (hml : c.maxLocals = nL) {x : MethodName} {index : Nat} {sg : Lambda.Shape} {cK : ClassId} {ts : List FieldType} {vals : List Value} (hnm : s.methodNamed? x = some m) (hsite : s.lambdaAt? x pc index sg = some (cK, none)) (hk : ∃ kc : Class, s.vm.classes[cK]? = some kc ∧ kc.kind = .ordinary ∧ kc.instanceTypes = ts.toArray)
    (hlen : vals.length = sg.captured.length) (hv : ((ts.zip vals).map fun (t, v) => narrow t v) = vals) (hfit : ∀ (i : Nat) (v : Value), vals[i]? = some v → ∃ t, ts[i]? = some t ∧ fits t v = true) (hsz : ls.size = nL)
    (hw : ((vals.reverse ++ rest).map fun v => v.category).sum + 3072 ≤ R.locals) (hcells : cells + 1 ≤ R.cells) (hslots : slots + vals.length ≤ R.slots) (hdg : decode cc pc = .ok (.invokedynamic index, 5))
    (kk : ∀ (H1 : Heap), H1[H.size]? = some { cls := cK, slots := vals.toArray, vm := .none } → H1.size = H.size + 1 → xGrow H H1 → W p l e R s m args below meth c H1 locs (cells + 1) (slots + vals.length) Q (F0 m (pc + 5) ls (.ref H.size :: rest))) : W p l e R s m args below meth c H locs cells slots Q (F0 m pc ls (vals.reverse ++ rest)) := by
  intro T hT X
  obtain ⟨m', kS, cfS, i0, p0, lk, hm', hkS, hcfS, hshape, -, hfind, hmade, hcan, hlk⟩ := State.lambdaAt?_spec hsite
  cases hnm.symm.trans hm'
  obtain ⟨rfl⟩ : lk = .makes cK := by
    rcases hlk with ⟨a, cell, -, h, -⟩ | ⟨h, -⟩
    · cases h
    · exact h
  obtain ⟨bsm, nt, desc, site, hc, hnt, hsig, hpar⟩ := x_shape hshape
  obtain ⟨kK, hkK, hkind, hty⟩ := hk
  have hE : ((kK.instanceTypes.toList.zip vals).map fun (t, v) => narrow t v) = vals := by rw [hty]; exact hv
  obtain ⟨X₁, st1⟩ := X.lambdaMakes hx (g := F0 m pc ls (vals.reverse ++ rest)) rfl (hsz.trans hml.symm) (by rw [hb]; exact hdg) (vals := vals) (rest := rest)
    hkS hfind hcfS hc hnt (parseLong_of_parse hsig) (by rw [hpar]; exact hlen) rfl hkK
    (by rw [X.admits.platform]; show 2 * 0 + ((vals.reverse ++ rest).map fun v => v.category).sum + 3072 ≤ R.locals; omega) hcells (by rw [hE]; exact hslots)
    (fun i v hv => by
      rw [hE] at hv
      obtain ⟨t, h1, h2⟩ := hfit i v (by simpa using hv)
      simp [State.fitsSlot, State.slotType?, hkK, hkind, hty, h1, h2])
  rw [hE] at X₁ st1
  have hsz2 : vals.toArray.size = vals.length := List.size_toArray
  rw [hsz2] at X₁
  have hnew : (T.pushCell { cls := cK, slots := vals.toArray, vm := .none }).heap[T.heap.size]? = some { cls := cK, slots := vals.toArray, vm := .none } := State.heap_pushCell_size _ _
  have hz := size_pushCell T { cls := cK, slots := vals.toArray, vm := .none }
  have hg : ∀ q : Nat, q < T.heap.size → (T.pushCell { cls := cK, slots := vals.toArray, vm := .none }).heap[q]? = T.heap[q]? := fun q hq => by
    show (T.heap.push _)[q]? = _
    rw [Array.getElem?_push, if_neg (Nat.ne_of_lt hq)]
  subst hT
  obtain ⟨t, a1, b1⟩ := kk _ hnew hz ⟨by omega, hg⟩ _ rfl X₁
  exact ⟨t, st1 _ a1, b1⟩
/-- within a made method: a captured value -/
theorem x_getRdy (hx : p.tables.exec = Jvm.exec) (hb : c.code = cc) {index i a : Nat} {v : Value} {cell : Cell} {nl mi ci : Nat} {fi : List Nat} {tn td : String} {rt : FieldType} {ts : Array FieldType} {fw : ByteArray} (hmk : ∀ vm', s.WarmedH vm' → xMk vm' m.cls fw nl mi ci fi tn td rt ts) (hi : fi[i]? = some index) (hcell : H[a]? = some cell) (hvm : cell.vm = .none) (hv : cell.slots[i]? = some v) (hdg : decode cc pc = .ok (.getfield index, 3))
    (kk : W p l e R s m args below meth c H locs cells slots Q (F0 m (pc + 3) ls (v :: rest))) : W p l e R s m args below meth c H locs cells slots Q (F0 m pc ls (.ref a :: rest)) := by
  intro T hT X
  obtain ⟨t, a1, b1⟩ := kk T hT X
  refine ⟨t, ?_, b1⟩
  obtain ⟨k, tk, file, methk, ck, toy, t', nt, -, -, -, -, hf⟩ := hmk T.vm X.warmed
  obtain ⟨g0, hr, hst, hsl⟩ := hf i index hi
  subst hb
  jvm_step X.here [X.here.top, hx, hdg, getfield.wp_ready (e := e) (s := T) (f := F0 m pc ls (.ref a :: rest)) X.here.top hr hst rfl (by rw [hT]; exact hcell) (by rw [hvm]; exact fun h => by cases h) (by rw [hsl]; exact hv)]
  exact a1
/-- the target of a made method, at a state: the named method -/
theorem xMk.target {vm : Vm} {U : State} (hU : U.vm = vm) {cK : ClassId} {fw : ByteArray} {nl mi ci : Nat} {fi : List Nat} {tn td : String} {rt : FieldType} {ts : Array FieldType} (h : xMk vm cK fw nl mi ci fi tn td rt ts) {t : MethodId} (hn : U.methodNamed? ⟨"Lendlathe", tn, td⟩ = some t) :
    ∃ (k tk : Class) (file : ClassFile) (nt : Nat), vm.classes[cK]? = some k ∧ k.cf = some file ∧ vm.classes[t.cls]? = some tk ∧ tk.isInterface = false ∧ tk.name = "Lendlathe" ∧ vm.methodReady cK mi t ∧ vm.classReady cK ci t.cls ∧ file.constantPool[mi]? = some (.methodref ci nt) ∧ file.constantPool.nameAndType? nt = some (tn, td) := by
  obtain ⟨k, tk, file, methk, ck, toy, t2, nt, ⟨hk, -, hfile, -, -⟩, -, ⟨htoy, htk, hitf, hlook⟩, ⟨hready, hcls, hpool, hntt⟩, -⟩ := h
  subst hU
  have hf : U.vm.findClass "Lendlathe" = some t.cls := findClass_of_methodNamed hn
  cases htoy.symm.trans hf
  have e1 : t2 = t := by
    have h1 : U.methodFound? "Lendlathe" tn td = some t := State.methodFound?_of_named hn ⟨(by decide : "Lendlathe" ≠ "java/lang/invoke/MethodHandle"), (by decide : "Lendlathe" ≠ "java/lang/invoke/VarHandle")⟩
    simp only [State.methodFound?, hf, htk, Option.bind_eq_bind, Option.bind_some] at h1
    rw [hlook] at h1
    exact Option.some.inj h1
  subst e1
  obtain ⟨k2, hk2, hn2⟩ := className_of_methodNamed hn
  cases htk.symm.trans hk2
  exact ⟨k, tk, file, nt, hk, hfile, htk, hitf, hn2, hready, hcls, hpool, hntt⟩
section MCALL
variable {y : MethodName} {ws ws' : List Cond} {rm R' : Room} {Pc : Array Value → State → Prop} {Qc : Array Value → State → Outcome → State → Prop} {mc ms maxL index : Nat} {free : Addr → Prop} {bytes : ByteArray} {ret : Option FieldType} {As : List Value} {g : JFrame}
variable {nl ci : Nat} {fi : List Nat} {tn td : String} {rt : FieldType} {ts : Array FieldType} {fw : ByteArray} {sA : State} {aA : Array Value}
/-- within a made method: the call of a static target -/
theorem x_runMS (hx : p.tables.exec = Jvm.exec) (hb : c.code = cc) (hml : c.maxLocals = nL) (hmk : ∀ vm', s.WarmedH vm' → xMk vm' m.cls fw nl index ci fi tn td rt ts) (hM : Met l ⟨"Lendlathe", tn, td⟩ ws rm Pc Qc mc ms free) (hsA : sA.WarmedH s.vm) (hts : ∀ w ∈ lw_all, w.before aA sA = true) (hws : GoodIn lw_all ws) (hcw : ws = Cond.code ⟨"Lendlathe", tn, td⟩ bytes maxL ret :: ws') (hst : Cond.static ⟨"Lendlathe", tn, td⟩ ∈ lw_all) (hin : Cond.initialized "Lendlathe" ∈ lw_all) (hrc : rm.cells = mc) (hrs : rm.slots = ms) (hR : rm.frames + 1 ≤ R.frames ∧ 8 + (maxL + 11) + rm.locals ≤ R.locals) (hp : PreS s H Pc As)
    (hn : (parseMethodDescriptor td).map (fun d => d.parameters.length) = some As.length) (hsz : ls.size = nL) (hW : (rest.map fun v => v.category).sum ≤ 8) (hdg : decode cc pc = .ok (.invokestatic index, 3)) (hf : cells + mc ≤ R.cells ∧ slots + ms ≤ R.slots) :
    va_Run p l e R s m args below meth c H locs cells slots mc ms (F0 m pc ls (As.reverse ++ rest)) rest (Qc As.toArray) free := by
  have hall : ∀ w ∈ lw_all, ∀ (a' : Array Value) (U : State), s.WarmedH U.vm → w.before a' U = true := fun w hw a' U hU => pay_in hts lw_self w hw a' U (State.WarmedH.trans hsA hU)
  have hmem : Cond.code ⟨"Lendlathe", tn, td⟩ bytes maxL ret ∈ ws := by rw [hcw]; exact List.mem_cons_self
  have hK : Back l R p e below s args ⟨"Lendlathe", tn, td⟩ 3 8 (PreOf R mc ms Pc) (PostOf Qc mc ms free) := back_of (bytes := bytes) (maxL := maxL) (ret := ret) hM hp.1 hrc hrs hR.1 hR.2 (fun w hw => hall w (hws w hw).1) hmem (fun a' U hU => hall _ hin a' U hU)
  intro T hT X
  have hc1 := hall _ (hws _ hmem).1 args T X.warmed
  obtain ⟨t, hnt⟩ := Cond.code_named hc1
  obtain ⟨methM, cM, hmM, -, -, -, -, -, -, hsigM⟩ := Cond.code_spec hnt hc1
  have hstM : methM.isStatic = true := Cond.static_spec hnt hmM (hall _ hst args T X.warmed)
  obtain ⟨k, tk, file, nt, hk, hfile, htk, hitf, htn, hready, hcls, hpool, hntt⟩ := (hmk T.vm X.warmed).target rfl hnt
  have hini : tk.init = .initialized := Cond.initialized_spec (findClass_of_methodNamed hnt) htk (hall _ hin args T X.warmed)
  have hnm : tk.name ≠ "java/lang/invoke/MethodHandle" ∧ tk.name ≠ "java/lang/invoke/VarHandle" := by rw [htn]; decide
  have hsp : ∀ y : Method, signaturePolymorphic tk y = false := fun y => by simp [signaturePolymorphic, hnm.1, hnm.2]
  obtain ⟨b, hmr⟩ := memberRef_ask' (e := e) (vm := T.vm) (d := m.cls) (index := index) hk hfile (Or.inl hpool) hntt
  have hlenM : As.length = methM.sig.parameters.length := by
    have hsigM : parseMethodDescriptor td = some methM.sig := hsigM
    rw [hsigM] at hn
    exact (Option.some.inj hn).symm
  obtain ⟨v, ⟨U', l2, c2, s2⟩, X', ⟨g', mk, t9, L, e1, e2, hq, h1, hL, h2, h3⟩, st⟩ := hK m meth c ⟨T, locs, cells, slots⟩ (F0 m pc ls rest) (.invokestatic index) t As.toArray X rfl (hsz.trans hml.symm) (by rw [hb]; exact hdg) (by show 2 * 0 + (rest.map fun v => v.category).sum ≤ 8; omega) hnt ⟨hf.1, hf.2, hp.2 T hT X.warmed⟩
  dsimp only [Pt.U, Pt.locs, Pt.cells, Pt.slots] at X' e1 e2 h1 h2 h3 st
  subst h1; subst h2; subst h3
  refine ⟨v, T.calling g' mk As.toArray, t9, U', L, hT, X', hL, e1, e2, hq, fun target htg => ?_⟩
  subst hb
  jvm_step X.here [X.here.top, hx, hdg, invokestatic.wp_ready (e := e) (s := T) (m := t) (k := tk) (meth := methM) (args := As) (rest := rest) (f := F0 m pc ls (As.reverse ++ rest)) X.here.top ⟨ci, tn, td, b, t.cls, tk, hmr, hcls, htk, by simp [hsp]⟩ hready htk hmM (hsp _) hstM hini hlenM rfl]
  intro acts
  rw [doInvoke_state]
  exact st.trans htg
/-- within a made method: the call of a target of an object of Lendlathe -/
theorem x_runMV (hx : p.tables.exec = Jvm.exec) (hb : c.code = cc) (hml : c.maxLocals = nL) (hmk : ∀ vm', s.WarmedH vm' → xMk vm' m.cls fw nl index ci fi tn td rt ts) (hM : Met l ⟨"Lendlathe", tn, td⟩ ws rm Pc Qc mc ms free) (hsA : sA.WarmedH s.vm) (hts : ∀ w ∈ lw_all, w.before aA sA = true) (hws : GoodIn lw_all ws) (hcw : ws = Cond.code ⟨"Lendlathe", tn, td⟩ bytes maxL ret :: ws') (hst : Cond.instanceMethod ⟨"Lendlathe", tn, td⟩ ∈ lw_all) (hsel : Cond.selects "Lendlathe" ⟨"Lendlathe", tn, td⟩ ⟨"Lendlathe", tn, td⟩ ∈ lw_all) (hin : Cond.initialized "Lendlathe" ∈ lw_all) (hrc : rm.cells = mc) (hrs : rm.slots = ms) (hR : rm.frames + 1 ≤ R.frames ∧ 8 + (maxL + 11) + rm.locals ≤ R.locals) {q : Nat} (hp : PreV s H "Lendlathe" q Pc As)
    (hn : (parseMethodDescriptor td).map (fun d => d.parameters.length) = some As.length) (hsz : ls.size = nL) (hW : (rest.map fun v => v.category).sum ≤ 8) (hdg : decode cc pc = .ok (.invokevirtual index, 3)) (hf : cells + mc ≤ R.cells ∧ slots + ms ≤ R.slots) :
    va_Run p l e R s m args below meth c H locs cells slots mc ms (F0 m pc ls (As.reverse ++ .ref q :: rest)) rest (Qc (Value.ref q :: As).toArray) free := by
  have hall : ∀ w ∈ lw_all, ∀ (a' : Array Value) (U : State), s.WarmedH U.vm → w.before a' U = true := fun w hw a' U hU => pay_in hts lw_self w hw a' U (State.WarmedH.trans hsA hU)
  have hmem : Cond.code ⟨"Lendlathe", tn, td⟩ bytes maxL ret ∈ ws := by rw [hcw]; exact List.mem_cons_self
  have hK : Back l R p e below s args ⟨"Lendlathe", tn, td⟩ 3 8 (PreOf R mc ms Pc) (PostOf Qc mc ms free) := back_of (bytes := bytes) (maxL := maxL) (ret := ret) hM hp.1 hrc hrs hR.1 hR.2 (fun w hw => hall w (hws w hw).1) hmem (fun a' U hU => hall _ hin a' U hU)
  intro T hT X
  have hc1 := hall _ (hws _ hmem).1 args T X.warmed
  obtain ⟨t, hnt⟩ := Cond.code_named hc1
  obtain ⟨methM, cM, hmM, -, -, -, -, -, -, hsigM⟩ := Cond.code_spec hnt hc1
  obtain ⟨t', methM', hnt', hmM', hstM, habM⟩ := Cond.instanceMethod_spec (hall _ hst args T X.warmed)
  cases hnt.symm.trans hnt'
  cases hmM.symm.trans hmM'
  obtain ⟨c2, r2, m2, q1, q2, q3, q4, -⟩ := Cond.selects_spec (hall _ hsel args T X.warmed)
  cases (State.methodFound?_of_named hnt ⟨(by decide : "Lendlathe" ≠ "java/lang/invoke/MethodHandle"), (by decide : "Lendlathe" ≠ "java/lang/invoke/VarHandle")⟩).symm.trans q2
  cases hnt.symm.trans q3
  obtain ⟨hbl, ⟨cell, hcell, hobj, hcl⟩, hPc⟩ := hp
  have hcl' : T.vm.findClass "Lendlathe" = some cell.cls := by rw [X.warmed.alike.findClass]; exact hcl
  cases hcl'.symm.trans q1
  have hselP : selectMethod e.platform T.vm cell.cls t = .method t := by rw [Launch.admits_selectMethod X.admits]; exact q4
  obtain ⟨k, tk, file, nt, hk, hfile, htk, hitf, htn, hready, hcls, hpool, hntt⟩ := (hmk T.vm X.warmed).target rfl hnt
  have hnm : tk.name ≠ "java/lang/invoke/MethodHandle" ∧ tk.name ≠ "java/lang/invoke/VarHandle" := by rw [htn]; decide
  have hsp : ∀ y : Method, signaturePolymorphic tk y = false := fun y => by simp [signaturePolymorphic, hnm.1, hnm.2]
  have hlenM : As.length = methM.sig.parameters.length := by
    have hsigM : parseMethodDescriptor td = some methM.sig := hsigM
    rw [hsigM] at hn
    exact (Option.some.inj hn).symm
  obtain ⟨v, ⟨U', l2, c2, s2⟩, X', ⟨g', mk, t9, L, e1, e2, hq, h1, hL, h2, h3⟩, st⟩ := hK m meth c ⟨T, locs, cells, slots⟩ (F0 m pc ls rest) (.invokevirtual index) t (Value.ref q :: As).toArray X rfl (hsz.trans hml.symm) (by rw [hb]; exact hdg) (by show 2 * 0 + (rest.map fun v => v.category).sum ≤ 8; omega) hnt ⟨hf.1, hf.2, hPc T hT X.warmed⟩
  dsimp only [Pt.U, Pt.locs, Pt.cells, Pt.slots] at X' e1 e2 h1 h2 h3 st
  subst h1; subst h2; subst h3
  refine ⟨v, T.calling g' mk (Value.ref q :: As).toArray, t9, U', L, hT, X', hL, e1, e2, hq, fun target htg => ?_⟩
  subst hb
  jvm_step X.here [X.here.top, hx, hdg, invokevirtual.wp_ready (e := e) (s := T) (r := t) (m := t) (k := tk) (mk := tk) (rmeth := methM) (meth := methM) (args := As) (rest := rest) (a := q) (cell := cell) (f := F0 m pc ls (As.reverse ++ .ref q :: rest)) X.here.top ⟨k, file, ci, nt, t.cls, tk, hk, hfile, hpool, hcls, htk, hitf⟩ hready htk hmM (hsp _) hstM hlenM rfl (by rw [hT]; exact hcell) (fun z h => by rw [h] at hobj; cases hobj) hselP hmM habM htk hitf]
  intro acts
  rw [doInvoke_state]
  exact st.trans htg
/-- a call by the interface of a lambda's object -/
theorem x_runMade {own : String} {Ts : List Cond} {x : MethodName} {pc0 index0 count : Nat} {sg : Lambda.Shape} {cK : ClassId} {xs : MethodName} {mi : Nat} (F : CallFix p m c cc nL s args Ts own) (hlink : (Cond.methodLink own index x).before args s = true) (hdecl : va_Nw (.declares x) s) (hface : (Cond.interfaceMethod x.cls x.cls x.name x.desc).before args s = true) (hxn : x = ⟨sg.iface, sg.name, sg.sam.toString⟩) (hxs : x.cls ≠ "java/lang/invoke/MethodHandle" ∧ x.cls ≠ "java/lang/invoke/VarHandle")
    (hsite : s.lambdaAt? xs pc0 index0 sg = some (cK, none)) (hmk : ∀ vm', s.WarmedH vm' → xMk vm' cK fw nl mi ci fi tn td rt ts) {q : Nat} {cell : Cell} (hcell : H[q]? = some cell) (hcls : cell.cls = cK) (hvm : cell.vm = .none)
    (hret : ∀ st o t, Qc (Value.ref q :: As).toArray st o t → ∃ v, o = .returned v) (hn : (parseMethodDescriptor x.desc).map (fun d => d.parameters.length) = some As.length) (hsz : ls.size = nL) (hR : R'.frames + 1 ≤ R.frames ∧ (rest.map fun v => v.category).sum + (nl + 11) + R'.locals ≤ R.locals) (hRc : R'.cells = mc) (hRs : R'.slots = ms) (hf : cells + mc ≤ R.cells ∧ slots + ms ≤ R.slots) (hdg : decode cc pc = .ok (.invokeinterface index count, 5))
    (inner : ∀ (s' : State) (below' : List Frame) (methk : Method) (ck : Code), s'.heap = H → s.WarmedH s'.vm → ck.code = fw → ck.maxLocals = nl → methk.locks = false → methk.sig.returnType = some rt → W p l e R' s' ⟨cK, 1⟩ (Value.ref q :: As).toArray below' methk ck H [] 0 0 (MQ below' Qc (Value.ref q :: As).toArray s' mc ms free) (entryFrame ⟨cK, 1⟩ (Value.ref q :: As).toArray nl)) :
    va_Run5 p l e R s m args below meth c H locs cells slots mc ms (F0 m pc ls (As.reverse ++ .ref q :: rest)) rest (Qc (Value.ref q :: As).toArray) free := by
  obtain ⟨hx, hb, hml, hown, -⟩ := F
  intro T hT X
  have hdecl' : (Cond.declares x).before args s = true := va_Nw.use rfl hdecl
  obtain ⟨r0, r, hnr, hrm, hstR, hsigR⟩ := Cond.declares_spec hdecl'
  obtain ⟨cL, kL, r1, hcL, hkL, hiL, hfoundL, hn1⟩ := Cond.interfaceMethod_spec hface
  cases hnr.symm.trans hn1
  have hr0cls : r0.cls = cL := Option.some.inj ((findClass_of_methodNamed hnr).symm.trans hcL)
  obtain ⟨hnameR, hdescR⟩ := name_of_methodNamed hnr hrm
  obtain ⟨mD, kD, cfD, i0, p0, lk, hmD, hkD, -, -, -, -, hmade, hcan, -⟩ := State.lambdaAt?_spec hsite
  obtain ⟨-, -, -, -, -, -, -, iface, -, -, -, -, found, -, -, -, -, -, hi', -, -, -, -, -, -, hfound', -, -, -, -, -, -, -, -, -, -, hsel⟩ := Lambda.isMade_spec hmade
  obtain ⟨i2, hi2, hasg, hway⟩ := State.lambdaCallable_spec hcan
  subst hxn
  dsimp only at hcL hfoundL hnameR hdescR
  cases hcL.symm.trans hi'
  cases hcL.symm.trans hi2
  have hfr : found = r0 := by
    have h1 : s.methodFound? sg.iface sg.name sg.sam.toString = some r0 := hfoundL
    simp only [State.methodFound?, hcL, hkL, hiL, Option.bind_eq_bind, Option.bind_some] at h1
    rw [hfound'] at h1
    exact Option.some.inj h1
  subst hfr
  obtain ⟨k, tk, file, methk0, ck0, toy, t2, nt, ⟨hk, hkn, -, -, -⟩, ⟨hmk0, hck0, hfw0, hnl0, hlk0, hfl0, hrt0⟩, -, -, -⟩ := hmk s.vm (State.WarmedH.refl s)
  subst hcls
  have hmp : As.length = r.sig.parameters.length := by
    have hsigR : parseMethodDescriptor sg.sam.toString = some r.sig := hsigR
    have hn : (parseMethodDescriptor sg.sam.toString).map (fun d => d.parameters.length) = some As.length := hn
    rw [hsigR] at hn
    exact (Option.some.inj hn).symm
  subst hT
  obtain ⟨vm₁, X₁, hstep₁⟩ := X.invokeinterface hx hown hlink hnr hrm hstR (by rw [hr0cls]; exact hkL) hiL hxs (a := q) (cell := cell) (kcell := k) hcell (fun z h => by rw [hvm] at h; cases h) hk (by rw [hr0cls]; exact hasg)
    (m' := ⟨cell.cls, 1⟩) (meth' := methk0) (by rw [Launch.admits_selectMethod X.admits]; exact hsel) hmk0 (by rw [hnameR, hdescR]; exact hway) (by rw [hfl0]; decide) (by simp [Method.isAbstract, hfl0, hasFlag, Acc.abstract])
    (g := F0 m pc ls (As.reverse ++ .ref q :: rest)) rfl (argsL := As) (rest := rest) hmp rfl (by rw [hb]; exact hdg)
  have hW₁ : s.WarmedH vm₁ := X₁.warmed
  obtain ⟨k1, tk1, file1, methk1, ck1, toy1, t21, nt1, ⟨hk1, hkn1, -, -, -⟩, ⟨hmk1, hck1, hfw1, hnl1, hlk1, hfl1, hrt1⟩, -, -, -⟩ := hmk vm₁ hW₁
  have hpk : (T.setVm vm₁).plainMethod ⟨cell.cls, 1⟩ := State.plainMethod.of_name (fun k' hk' => by cases hk1.symm.trans hk'; rw [hkn1]; decide)
  obtain ⟨Y₀, hin⟩ := X₁.into (g := F0 m pc ls rest) rfl (hsz.trans hml.symm) (by rw [hb]; exact hdg) (Value.ref q :: As).toArray (R' := R') hmk1 hck1 hlk1 hpk hR.1 (by rw [hnl1]; show 2 * 0 + (rest.map fun v => v.category).sum + (nl + 11) + R'.locals ≤ R.locals; omega) (by rw [hRc]; exact hf.1) (by rw [hRs]; exact hf.2)
  rw [hnl1] at Y₀ hin
  obtain ⟨t, st, o, hrun, hended, hq, L, hFE, hL⟩ := inner ((T.setVm vm₁).calling (F0 m pc ls rest) ⟨cell.cls, 1⟩ (Value.ref q :: As).toArray) (.java (F0 m pc ls rest) :: below) methk1 ck1 rfl hW₁ hfw1 hnl1 hlk1 hrt1 (((T.setVm vm₁).setTop (F0 m pc ls rest)).pushFrame (.java (entryFrame ⟨cell.cls, 1⟩ (Value.ref q :: As).toArray nl))) rfl Y₀
  obtain ⟨v, rfl⟩ := hret _ _ _ hq
  obtain ⟨-, hWe, hsame⟩ := hFE
  obtain ⟨T', X', hW', hsame', ht⟩ := X₁.outOf (g := F0 m pc ls rest) rfl (by rw [hb]; exact hdg) hended hWe hsame
  refine ⟨v, (T.setVm vm₁).calling (F0 m pc ls rest) ⟨cell.cls, 1⟩ (Value.ref q :: As).toArray, t, T', L, rfl, X', hL, by rw [ht]; rfl, by rw [ht]; rfl, hq, fun target htg => ?_⟩
  refine hstep₁ _ fun acts => ?_
  have e1 := hin acts
  rw [e1]
  refine (Steps.weaken (mid := [.java (F0 m pc ls rest)]) st).trans ?_
  rw [ht]
  exact htg
end MCALL
end MADE
/-! a site's class, at a later state -/
theorem xmk_of {s0 s : State} (hW : s0.WarmedH s.vm) {x : MethodName} {pc index : Nat} {sg : Lambda.Shape} {cK : ClassId} {b : Nat} (hx : x.cls = "Lendlathe") (h : s0.lambdaAt? x pc index sg = some (cK, none)) (hO : (Cond.instantiable "java/lang/Object" 0).before #[.ref b] s0 = true) {P : Vm → Prop} (hf : ∀ (vm : Vm) (d : ClassId) (dk : Class), vm.classes[d]? = some dk → dk.name = "Lendlathe" → Lambda.isMade { classPath := fun _ => none } vm d sg cK = true → (∀ o ok, vm.findClass "java/lang/Object" = some o → vm.classes[o]? = some ok → ok.instanceTypes.size = 0) → P vm) : s.lambdaAt? x pc index sg = some (cK, none) ∧ ∀ vm', s.WarmedH vm' → P vm' := by
  refine ⟨xsite_at hW h, fun vm' hv => ?_⟩
  have hW2 := State.WarmedH.trans hW hv
  obtain ⟨m, kc, cf, i0, p0, lk, hm, hk, -, -, -, -, hmade, -, -⟩ := State.lambdaAt?_spec h
  obtain ⟨k2, hk2, hn⟩ := className_of_methodNamed hm
  cases hk.symm.trans hk2
  obtain ⟨kc', hk', he⟩ := hW2.alike.2.2 _ _ hk
  refine hf vm' m.cls kc' hk' (by rw [he]; exact hn.trans hx) (Lambda.isMade_warmer hW2 hmade) (fun o ok ho hok => ?_)
  obtain ⟨cO, kO, hfO, hkO, -, -, -, hsz⟩ := Cond.instantiable_spec hO
  have ho' : s0.vm.findClass "java/lang/Object" = some o := by rw [← hW2.alike.findClass]; exact ho
  cases hfO.symm.trans ho'
  obtain ⟨k3, hk3, he3⟩ := hW2.alike.2.2 _ _ hkO
  cases hok.symm.trans hk3
  rw [he3]
  exact hsz
section XMK
variable {l : Launch} {G : xG} {s0 s : State} {b0 : Nat} {A : Nat → Prop}
theorem xmk0 (g1 : xG1 l G s0 b0) (h : xWK s0 A s) : s.lambdaAt? yX1_init 145 59 (xCkS "lacksInduction") = some (G.2.2.2 0, none) ∧ ∀ vm', s.WarmedH vm' → xMk vm' (G.2.2.2 0) fwA_c 7 22 19 [15] "lacksInduction" "(IIIIIC)Z" .boolean #[.object "Lendlathe"] := xmk_of h.1 rfl (g1.2.2.1 0 _ rfl) (g1.1.1 _ (lw_all_tbl q1887)) fun _ _ _ a b c d => ml0_facts a b c d
theorem xmk1 (g1 : xG1 l G s0 b0) (h : xWK s0 A s) : s.lambdaAt? yX1_init 154 63 (xCkS "isElsewhere") = some (G.2.2.2 1, none) ∧ ∀ vm', s.WarmedH vm' → xMk vm' (G.2.2.2 1) fwA_c 7 22 19 [15] "isElsewhere" "(IIIIIC)Z" .boolean #[.object "Lendlathe"] := xmk_of h.1 rfl (g1.2.2.1 1 _ rfl) (g1.1.1 _ (lw_all_tbl q1887)) fun _ _ _ a b c d => ml1_facts a b c d
theorem xmk2 (g1 : xG1 l G s0 b0) (h : xWK s0 A s) : s.lambdaAt? yX1_init 163 64 (xCkS "isBusy") = some (G.2.2.2 2, none) ∧ ∀ vm', s.WarmedH vm' → xMk vm' (G.2.2.2 2) fwA_c 7 22 19 [15] "isBusy" "(IIIIIC)Z" .boolean #[.object "Lendlathe"] := xmk_of h.1 rfl (g1.2.2.1 2 _ rfl) (g1.1.1 _ (lw_all_tbl q1887)) fun _ _ _ a b c d => ml2_facts a b c d
theorem xmk3 (g1 : xG1 l G s0 b0) (h : xWK s0 A s) : s.lambdaAt? yX1_setRate 38 101 xRaS = some (G.2.2.2 3, none) ∧ ∀ vm', s.WarmedH vm' → xMk vm' (G.2.2.2 3) fwB_c 2 23 19 [15] "lambda$setRate$0" "(II)I" .int #[.int] := xmk_of h.1 rfl (g1.2.2.1 3 _ rfl) (g1.1.1 _ (lw_all_tbl q1887)) fun _ _ _ a b c d => ml3_facts a b c d
theorem xmk4 (g1 : xG1 l G s0 b0) (h : xWK s0 A s) : s.lambdaAt? yX1_addFee 20 109 (xTaS "lambda$addFee$1") = some (G.2.2.2 4, none) ∧ ∀ vm', s.WarmedH vm' → xMk vm' (G.2.2.2 4) fwC_c 2 27 23 [17, 19] "lambda$addFee$1" "(LLendlathe$Tariff;II)I" .int #[.object "Lendlathe$Tariff", .int] := xmk_of h.1 rfl (g1.2.2.1 4 _ rfl) (g1.1.1 _ (lw_all_tbl q1887)) fun _ _ _ a b c d => ml4_facts a b c d
theorem xmk5 (g1 : xG1 l G s0 b0) (h : xWK s0 A s) : s.lambdaAt? yX1_addCap 20 116 (xTaS "lambda$addCap$2") = some (G.2.2.2 5, none) ∧ ∀ vm', s.WarmedH vm' → xMk vm' (G.2.2.2 5) fwC_c 2 27 23 [17, 19] "lambda$addCap$2" "(LLendlathe$Tariff;II)I" .int #[.object "Lendlathe$Tariff", .int] := xmk_of h.1 rfl (g1.2.2.1 5 _ rfl) (g1.1.1 _ (lw_all_tbl q1887)) fun _ _ _ a b c d => ml5_facts a b c d
theorem xmk6 (g1 : xG1 l G s0 b0) (h : xWK s0 A s) : s.lambdaAt? yX1_addDouble 20 117 (xTaS "lambda$addDouble$3") = some (G.2.2.2 6, none) ∧ ∀ vm', s.WarmedH vm' → xMk vm' (G.2.2.2 6) fwC_c 2 27 23 [17, 19] "lambda$addDouble$3" "(LLendlathe$Tariff;II)I" .int #[.object "Lendlathe$Tariff", .int] := xmk_of h.1 rfl (g1.2.2.1 6 _ rfl) (g1.1.1 _ (lw_all_tbl q1887)) fun _ _ _ a b c d => ml6_facts a b c d
theorem xmk7 (g1 : xG1 l G s0 b0) (h : xWK s0 A s) : s.lambdaAt? yX1_addDiscount 19 118 (xTaS "lambda$addDiscount$4") = some (G.2.2.2 7, none) ∧ ∀ vm', s.WarmedH vm' → xMk vm' (G.2.2.2 7) fwC_c 2 27 23 [17, 19] "lambda$addDiscount$4" "(LLendlathe$Tariff;II)I" .int #[.object "Lendlathe$Tariff", .int] := xmk_of h.1 rfl (g1.2.2.1 7 _ rfl) (g1.1.1 _ (lw_all_tbl q1887)) fun _ _ _ a b c d => ml7_facts a b c d
theorem xnI (h : xWK s0 A s) (g : xG0 G s0 b0) {x : MethodName} {args : Array Value} (hx : x.cls ≠ "java/lang/invoke/MethodHandle" ∧ x.cls ≠ "java/lang/invoke/VarHandle") (hd : Cond.declares x ∈ lw_tbl) (hi : Cond.interfaceMethod x.cls x.cls x.name x.desc ∈ lw_tbl) : (Cond.interfaceMethod x.cls x.cls x.name x.desc).before args s = true := by
  obtain ⟨r, meth, hn, -⟩ := Cond.declares_spec (g.1 _ hd)
  have e := Cond.onTables_vm (A := #[]) (A' := args) (U := s0) (U' := s) s.vm (Cond.interfaceMethod x.cls x.cls x.name x.desc) rfl
  have hU : s.setVm s.vm = s := rfl
  rw [hU] at e
  rw [← e, Cond.interfaceMethod_setVm h.1.alike (r := r) hn hx]
  exact va_any rfl (g.1 _ hi)
end XMK
/-! the checks, called by their interface -/
abbrev xCkN : MethodName := ⟨"Lendlathe$Check", "fails", "(IIIIIC)Z"⟩
section CHK
variable {p : Program} {l : Launch} {e : Env} {R : Room} {s : State} {m : MethodId} {args : Array Value} {below : List Frame} {meth : Method} {c : Code} {H : Heap} {locs : List Loc} {cells slots : Nat}
variable {cc : ByteArray} {nL pc : Nat} {ls : Array Slot} {rest : List Value} {A : Nat → Prop} {G : xG} {s0 : State} {b0 : Nat} {S : xS} {ad : Nat × Nat → Nat} {z : xZ}
variable {ws ws' : List Cond} {rm : Room} {maxL index count : Nat} {bytes : ByteArray} {ret : Option FieldType} {tn : String} {ts : Array FieldType} {a1 a2 a3 a4 a5 a6 : Int32} {r : Bool}
theorem x_checkC {i : Nat} (g1 : xG1 l G s0 b0) (hWK : xWK s0 A s) (F : CallFix p m c cc nL s args lw_all "Lendlathe") (hS : va_S A s.heap H locs) (hR : xRX G A S ad z H) {Pp : Heap → Heap → Prop} (hi : i < 3) {xs : MethodName} {pc0 index0 : Nat}
    (hmk : s.lambdaAt? xs pc0 index0 (xCkS tn) = some (G.2.2.2 i, none) ∧ ∀ vm', s.WarmedH vm' → xMk vm' (G.2.2.2 i) fwA_c 7 22 19 [15] tn "(IIIIIC)Z" .boolean ts)
    (hM : Met l ⟨"Lendlathe", tn, "(IIIIIC)Z"⟩ ws rm (xP s0 A [.ref (ad (0, 0)), .int a1, .int a2, .int a3, .int a4, .int a5, .int a6] (fun H => xRX G A S ad z H)) (xQc (some (.int (bI r))) Pp A) 0 0 A)
    (hws : GoodIn lw_all ws) (hcw : ws = Cond.code ⟨"Lendlathe", tn, "(IIIIIC)Z"⟩ bytes maxL ret :: ws') (hst : Cond.instanceMethod ⟨"Lendlathe", tn, "(IIIIIC)Z"⟩ ∈ lw_all) (hsel : Cond.selects "Lendlathe" ⟨"Lendlathe", tn, "(IIIIIC)Z"⟩ ⟨"Lendlathe", tn, "(IIIIIC)Z"⟩ ∈ lw_all)
    (hrc : rm.cells = 0) (hrs : rm.slots = 0) (hlink : Cond.methodLink "Lendlathe" index xCkN ∈ lw_all) (hsz : ls.size = nL) (hro : (rest.map fun v => v.category).sum ≤ 8) (hrf : rm.frames + 2 ≤ R.frames) (hrl : maxL + rm.locals + 60 ≤ R.locals) (hcs : cells ≤ R.cells ∧ slots ≤ R.slots) (hdg : decode cc pc = .ok (.invokeinterface index count, 5)) :
    va_Run5 p l e R s m args below meth c H locs cells slots 0 0 (F0 m pc ls (.int a6 :: .int a5 :: .int a4 :: .int a3 :: .int a2 :: .int a1 :: .ref (ad (12, i)) :: rest)) rest (xQc (some (.int (bI r))) Pp A #[.ref (ad (12, i)), .int a1, .int a2, .int a3, .int a4, .int a5, .int a6]) A := by
  have g := g1.1
  have hts := F.2.2.2.2
  have hcell : H[ad (12, i)]? = some ({ cls := G.2.2.2 i, slots := #[.ref (ad (0, 0))], vm := .none } : Cell) := xw_12 hR hi
  refine x_runMade (As := [.int a1, .int a2, .int a3, .int a4, .int a5, .int a6]) (R' := { frames := rm.frames + 1, locals := maxL + rm.locals + 19, cells := 0, slots := 0 }) (x := xCkN) F (hts _ hlink) (xnD hWK g q685) (xnI (x := xCkN) hWK g (by decide) q685 q684) rfl (by decide) hmk.1 hmk.2 hcell rfl rfl (fun st o t h => ⟨_, h.1⟩) rfl hsz ⟨by show rm.frames + 1 + 1 ≤ R.frames; omega, by show _ + (7 + 11) + (maxL + rm.locals + 19) ≤ R.locals; omega⟩ rfl rfl ⟨by omega, by omega⟩ hdg ?_
  intro s' below' methk ck hH hWs hfw hnl hlk hrt
  have hx := F.1
  have hWK' : xWK s0 A s' := hWK.at hS hH hWs
  subst hH
  have hK' := hWK'.K g
  have hmk' : ∀ vm', s'.WarmedH vm' → xMk vm' (G.2.2.2 i) fwA_c 7 22 19 [15] tn "(IIIIIC)Z" .boolean ts := fun vm' h => hmk.2 vm' (State.WarmedH.trans hWs h)
  have hS' : va_S A s'.heap s'.heap [] := va_S.rf
  have hl := lv_entry ([.ref (ad (12, i)), .int a1, .int a2, .int a3, .int a4, .int a5, .int a6]) (n := 7) (Nat.le_of_ble_eq_true rfl)
  rw [lg_entry_eq]
  generalize (lg_sl ([.ref (ad (12, i)), .int a1, .int a2, .int a3, .int a4, .int a5, .int a6]) ++ List.replicate (7 - (lg_sl ([.ref (ad (12, i)), .int a1, .int a2, .int a3, .int a4, .int a5, .int a6])).length) Slot.unset).toArray = ls2 at hl ⊢
  have hl : lv_has ls2 7 [(0, .ref (ad (12, i))), (1, .int a1), (2, .int a2), (3, .int a3), (4, .int a4), (5, .int a5), (6, .int a6)] := hl
  refine lv_aload_n hx hfw fwA_0 rfl (lv_at hl 0 rfl) ?_
  refine x_getRdy hx hfw hmk' (i := 0) rfl hcell rfl (v := .ref (ad (0, 0))) rfl fwA_1 ?_
  refine lv_iload_n hx hfw fwA_4 rfl (lv_at hl 1 rfl) ?_
  refine lv_iload_n hx hfw fwA_5 rfl (lv_at hl 2 rfl) ?_
  refine lv_iload_n hx hfw fwA_6 rfl (lv_at hl 3 rfl) ?_
  refine lv_iload hx hfw fwA_7 (lv_at hl 4 rfl) ?_
  refine lv_iload hx hfw fwA_9 (lv_at hl 5 rfl) ?_
  refine lv_iload hx hfw fwA_11 (lv_at hl 6 rfl) ?_
  refine xc_C (x_runMV (As := [.int a1, .int a2, .int a3, .int a4, .int a5, .int a6]) (rest := []) (nl := 7) hx hfw hnl hmk' hM hWs hts hws hcw hst hsel q56 hrc hrs ⟨by show rm.frames + 1 ≤ rm.frames + 1; omega, by show 8 + (maxL + 11) + rm.locals ≤ maxL + rm.locals + 19; omega⟩ (xpreV (xrecv hK' (xw_0 hR) rfl) hWK' hS' hR) rfl hl.1 (by decide) fwA_13 ⟨Nat.le_refl _, Nat.le_refl _⟩) hS' (fun H1 locs1 hP1 hz1 hk1 hS1 => ?_)
  exact xr_Cz hx hfw hrt hlk rfl hP1 hS1 (Nat.le_refl _) (Nat.le_refl _) fwA_16
/-- a contract that changes nothing, told as one that may change -/
theorem Met.PC {y : MethodName} {ws : List Cond} {rm : Room} {Pc : Array Value → State → Prop} {v : Option Value} (h : Met l y ws rm Pc (xQp v) 0 0 (fun _ => False)) : Met l y ws rm Pc (xQc v (fun H0 H1 => H1 = H0) A) 0 0 A := by
  intro p e ha hc hk s m args below hf happ hP hK
  obtain ⟨n, o, h1, h2, h3, ⟨h4, h5⟩, L, h6, h7⟩ := h p e ha hc hk s m args below hf happ hP hK
  exact ⟨n, o, h1, h2, h3, ⟨h4, h5, by rw [h5]; exact Nat.le_refl _, fun q _ _ => by rw [h5]⟩, L, h6, fun q hq => (h7 q hq).elim⟩
end CHK
/-! the tariffs -/
def xStep (sort : Nat) (v : Int32) (below : Int32 → Int32) (n : Int32) : Int32 := match sort with
  | 0 => v * n
  | 1 => below n + v
  | 2 => if v < below n then v else below n
  | 3 => below (n + (if 0 < n - v then n - v else 0))
  | _ => below n - below n * v / 100
/-- what the tariff u says for n minutes; d bounds its depth -/
def xOf (S : xS) : Nat → Nat → Int32 → Int32
  | _, 0, _ => 0
  | 0, _ + 1, _ => 0
  | d + 1, t + 1, n => xStep (S.1 9 t) (S.2.1 23 t 0) (xOf S d (S.1 10 t)) n
/-- the tariff u is at most d lambdas deep -/
def xDp (S : xS) : Nat → Nat → Prop
  | _, 0 => True
  | 0, _ + 1 => False
  | d + 1, t + 1 => t < S.1 8 0 ∧ S.1 9 t < 5 ∧ (S.1 9 t = 0 ∨ xDp S d (S.1 10 t))
theorem xOf_0 (S : xS) (d : Nat) (n : Int32) : xOf S d 0 n = 0 := by cases d <;> rfl
abbrev xTarN : MethodName := ⟨"Lendlathe$Tariff", "of", "(I)I"⟩
def xCallOf (l : Launch) (G : xG) (s0 : State) (A : Nat → Prop) (S : xS) (ad : Nat × Nat → Nat) (z : xZ) (d : Nat) : Prop := ∀ (u : Nat) (_ : xDp S d u) (n : Int32) (p : Program) (e : Env) (R : Room) (s : State) (m : MethodId) (args : Array Value) (below : List Frame) (meth : Method) (c : Code) (H : Heap) (locs : List Loc) (cells slots : Nat) (cc : ByteArray) (nL pc : Nat) (ls : Array Slot) (rest : List Value) (own : String) (index count : Nat), CallFix p m c cc nL s args lw_all own → xWK s0 A s → va_S A s.heap H locs → xRX G A S ad z H → Cond.methodLink own index xTarN ∈ lw_all → ls.size = nL → (rest.map fun v => v.category).sum ≤ 8 → 2 * d + 1 ≤ R.frames → 56 * d + 40 ≤ R.locals → cells ≤ R.cells ∧ slots ≤ R.slots → decode cc pc = .ok (.invokeinterface index count, 5) → va_Run5 p l e R s m args below meth c H locs cells slots 0 0 (F0 m pc ls (.int n :: .ref (xtr ad u) :: rest)) rest (xQp (some (.int (xOf S d u n))) #[.ref (xtr ad u), .int n]) (fun _ => False)
