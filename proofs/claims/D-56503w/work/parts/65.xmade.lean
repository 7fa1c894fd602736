/-! THE MADE CLASSES OF THE LAMBDAS: what the rule lays, and how it is resolved (printed by gen/lam.py) -/
set_option maxRecDepth 100000
def xMk (vm : Vm) (cK : ClassId) (fw : ByteArray) (nl mi ci : Nat) (fi : List Nat) (tn td : String) (rt : FieldType) (ts : Array FieldType) : Prop := ∃ (k tk : Class) (file : ClassFile) (methk : Method) (ck : Code) (toy : ClassId) (t : MethodId) (nt : Nat), (vm.classes[cK]? = some k ∧ k.name = "Lendlathe$$Lambda" ∧ k.cf = some file ∧ k.kind = .ordinary ∧ k.instanceTypes = ts) ∧ (vm.method? ⟨cK, 1⟩ = some methk ∧ methk.code = some ck ∧ ck.code = fw ∧ ck.maxLocals = nl ∧ methk.locks = false ∧ methk.accessFlags = 0x0001 ∧ methk.sig.returnType = some rt) ∧ (vm.findClass "Lendlathe" = some toy ∧ vm.classes[toy]? = some tk ∧ tk.isInterface = false ∧ ((methodIn toy tn td tk.isInterface none).ask { classPath := fun _ => none } vm).1 = .ok t) ∧ (vm.methodReady cK mi t ∧ vm.classReady cK ci toy ∧ file.constantPool[mi]? = some (.methodref ci nt) ∧ file.constantPool.nameAndType? nt = some (tn, td)) ∧ ∀ (i f : Nat), fi[i]? = some f → ∃ g : Field, vm.fieldReady cK f cK g ∧ g.isStatic = false ∧ g.slot = i
def fwA_c : ByteArray := ⟨#[0x2a, 0xb4, 0x00, 0x0f, 0x1b, 0x1c, 0x1d, 0x15, 0x04, 0x15, 0x05, 0x15, 0x06, 0xb6, 0x00, 0x16, 0xac]⟩
theorem fwA_0 : decode fwA_c 0 = .ok (.aload_n 0, 1) := by decide +kernel
theorem fwA_1 : decode fwA_c 1 = .ok (.getfield 15, 3) := by decide +kernel
theorem fwA_4 : decode fwA_c 4 = .ok (.iload_n 1, 1) := by decide +kernel
theorem fwA_5 : decode fwA_c 5 = .ok (.iload_n 2, 1) := by decide +kernel
theorem fwA_6 : decode fwA_c 6 = .ok (.iload_n 3, 1) := by decide +kernel
theorem fwA_7 : decode fwA_c 7 = .ok (.iload 4, 2) := by decide +kernel
theorem fwA_9 : decode fwA_c 9 = .ok (.iload 5, 2) := by decide +kernel
theorem fwA_11 : decode fwA_c 11 = .ok (.iload 6, 2) := by decide +kernel
theorem fwA_13 : decode fwA_c 13 = .ok (.invokevirtual 22, 3) := by decide +kernel
theorem fwA_16 : decode fwA_c 16 = .ok (.ireturn, 1) := by decide +kernel
def ml0_D : ClassFile := (Lambda.Shape.file (xCkS "lacksInduction") "Lendlathe").getD { minorVersion := 0, majorVersion := 0, constantPool := #[], accessFlags := 0, thisClass := 0, superClass := 0, interfaces := #[], fields := #[], methods := #[], attributes := #[] }
def ml0_F : Method := ((layoutMethods ml0_D).bind (·[1]?)).getD default
def ml0_L : Array Field × Array FieldType × Array FieldType := (layoutFields ml0_D 0).getD (#[], #[], #[])
theorem ml0_file : Lambda.Shape.file (xCkS "lacksInduction") "Lendlathe" = some ml0_D := by
  have h : (Lambda.Shape.file (xCkS "lacksInduction") "Lendlathe").isSome = true := by decide +kernel
  obtain ⟨x, hx⟩ := Option.isSome_iff_exists.mp h
  simp [ml0_D, hx]
theorem ml0_second : ∀ ms, layoutMethods ml0_D = some ms → ms[1]? = some ml0_F := by
  intro ms hms
  have h : ((layoutMethods ml0_D).bind (·[1]?)).isSome = true := by decide +kernel
  obtain ⟨x, hx⟩ := Option.isSome_iff_exists.mp h
  have hf : ml0_F = x := by simp [ml0_F, hx]
  rw [hms] at hx
  rw [hf]
  exact hx
theorem ml0_laid : layoutFields ml0_D 0 = some ml0_L := by
  have h : (layoutFields ml0_D 0).isSome = true := by decide +kernel
  obtain ⟨x, hx⟩ := Option.isSome_iff_exists.mp h
  simp [ml0_L, hx]
theorem ml0_code : (ml0_F.code.map fun c => (c.code.data, c.maxLocals)) = some (fwA_c.data, 7) := by decide +kernel
theorem ml0_flags : (ml0_F.accessFlags, ml0_F.name, ml0_F.sig.returnType) = (0x0001, "fails", (some .boolean : Option FieldType)) := by decide +kernel
theorem ml0_eM : ml0_D.constantPool[22]? = some (.methodref 19 21) ∧ ml0_D.constantPool.className? 19 = some "Lendlathe" ∧ ml0_D.constantPool.nameAndType? 21 = some ("lacksInduction", "(IIIIIC)Z") := by decide +kernel
theorem ml0_eC : ml0_D.constantPool[19]? = some (.class_ 18) ∧ ml0_D.constantPool.string? 18 = some "Lendlathe" ∧ 19 ≠ ml0_D.thisClass := by decide +kernel
theorem ml0_eF0 : ml0_D.constantPool[15]? = some (.fieldref 2 14) ∧ ml0_D.constantPool.nameAndType? 14 = some ("arg$1", "LLendlathe;") ∧ ml0_L.1.findIdx? (·.name == "arg$1") = some 0 ∧ (ml0_L.1[0]?).map (fun f => (f.isStatic, f.slot)) = some (false, 0) := by decide +kernel
theorem ml0_types : ml0_L.2.1 = #[.object "Lendlathe"] := by decide +kernel
theorem ml0_facts {vm : Vm} {d c : ClassId} {dk : Class} (hd : vm.classes[d]? = some dk) (hname : dk.name = "Lendlathe") (h : Lambda.isMade { classPath := fun _ => none } vm d (xCkS "lacksInduction") c = true)
    (hO : ∀ o ok, vm.findClass "java/lang/Object" = some o → vm.classes[o]? = some ok → ok.instanceTypes.size = 0) : xMk vm c fwA_c 7 22 19 [15] "lacksInduction" "(IIIIIC)Z" (.boolean) #[.object "Lendlathe"] := by
  obtain ⟨dk', k, ok, tk, file, cf, object, iface, toy, lay, methods, target, found, hd', hk, hfile, hcf, hobj, -, hok, hlay, hms, ht, htk, hg, -, hrec, -, -, -, hitf, hpool, hmeth, hfields, hty, hres, -⟩ := Lambda.isMade_spec h
  cases hd.symm.trans hd'
  rw [hname, ml0_file] at hcf
  cases hcf
  have hok0 : ok.instanceTypes = #[] := Array.eq_empty_of_size_eq_zero (hO object ok hobj hok)
  rw [hO object ok hobj hok, ml0_laid] at hlay
  cases hlay
  obtain ⟨b, hb, hsame⟩ := hmeth 1 ml0_F (ml0_second methods hms)
  obtain ⟨-, -, hsig, hfl, x, y, hfc, hbc, -, hml, hcd, -⟩ := Lambda.sameMethod_spec hsame
  have fc := ml0_code
  have ff := ml0_flags
  simp only [Prod.mk.injEq] at ff
  obtain ⟨g0, hg0, hp0⟩ := Option.map_eq_some_iff.mp ml0_eF0.2.2.2
  simp only [Prod.mk.injEq] at hp0
  simp only [hfc, Option.map_some, Option.some.injEq, Prod.mk.injEq] at fc
  refine ⟨k, tk, file, b, y, toy, target, 21, ⟨hk, by rw [hrec.1, hname]; rfl, hfile, hrec.2.1, by rw [hty.1, hok0, ml0_types]; rfl⟩, ⟨by simp [Vm.method?, hk, hb], hbc, by rw [hcd]; exact ByteArray.ext fc.1, by rw [hml]; exact fc.2, by simp [Method.locks, Method.isSynchronized, hfl, ff.1, hasFlag, Acc.synchronized], by rw [hfl]; exact ff.1, by rw [hsig]; exact ff.2.2⟩, ⟨ht, htk, hitf, hg⟩,
    ⟨⟨k, hk, hres 22 _ (Lambda.resolvedOf_method ml0_eM.1 ml0_eM.2.1 ht htk ml0_eM.2.2 hg)⟩, ⟨k, hk, hres 19 _ (Lambda.resolvedOf_class ml0_eC.1 ml0_eC.2.2 ml0_eC.2.1 ht)⟩, by rw [hpool.2.1]; exact ml0_eM.1, by rw [hpool.2.1]; exact ml0_eM.2.2⟩, fun i f hf => ?_⟩
  match i, hf with
  | 0, hf =>
    cases hf
    exact ⟨g0, ⟨k, 0, k, hk, hres 15 _ (Lambda.resolvedOf_field ml0_eF0.1 ml0_eF0.2.1 ml0_eF0.2.2.1), hk, hfields 0 _ hg0⟩, hp0.1, hp0.2⟩
  | j + 1, hf => cases hf
def ml1_D : ClassFile := (Lambda.Shape.file (xCkS "isElsewhere") "Lendlathe").getD { minorVersion := 0, majorVersion := 0, constantPool := #[], accessFlags := 0, thisClass := 0, superClass := 0, interfaces := #[], fields := #[], methods := #[], attributes := #[] }
def ml1_F : Method := ((layoutMethods ml1_D).bind (·[1]?)).getD default
def ml1_L : Array Field × Array FieldType × Array FieldType := (layoutFields ml1_D 0).getD (#[], #[], #[])
theorem ml1_file : Lambda.Shape.file (xCkS "isElsewhere") "Lendlathe" = some ml1_D := by
  have h : (Lambda.Shape.file (xCkS "isElsewhere") "Lendlathe").isSome = true := by decide +kernel
  obtain ⟨x, hx⟩ := Option.isSome_iff_exists.mp h
  simp [ml1_D, hx]
theorem ml1_second : ∀ ms, layoutMethods ml1_D = some ms → ms[1]? = some ml1_F := by
  intro ms hms
  have h : ((layoutMethods ml1_D).bind (·[1]?)).isSome = true := by decide +kernel
  obtain ⟨x, hx⟩ := Option.isSome_iff_exists.mp h
  have hf : ml1_F = x := by simp [ml1_F, hx]
  rw [hms] at hx
  rw [hf]
  exact hx
theorem ml1_laid : layoutFields ml1_D 0 = some ml1_L := by
  have h : (layoutFields ml1_D 0).isSome = true := by decide +kernel
  obtain ⟨x, hx⟩ := Option.isSome_iff_exists.mp h
  simp [ml1_L, hx]
theorem ml1_code : (ml1_F.code.map fun c => (c.code.data, c.maxLocals)) = some (fwA_c.data, 7) := by decide +kernel
theorem ml1_flags : (ml1_F.accessFlags, ml1_F.name, ml1_F.sig.returnType) = (0x0001, "fails", (some .boolean : Option FieldType)) := by decide +kernel
theorem ml1_eM : ml1_D.constantPool[22]? = some (.methodref 19 21) ∧ ml1_D.constantPool.className? 19 = some "Lendlathe" ∧ ml1_D.constantPool.nameAndType? 21 = some ("isElsewhere", "(IIIIIC)Z") := by decide +kernel
theorem ml1_eC : ml1_D.constantPool[19]? = some (.class_ 18) ∧ ml1_D.constantPool.string? 18 = some "Lendlathe" ∧ 19 ≠ ml1_D.thisClass := by decide +kernel
theorem ml1_eF0 : ml1_D.constantPool[15]? = some (.fieldref 2 14) ∧ ml1_D.constantPool.nameAndType? 14 = some ("arg$1", "LLendlathe;") ∧ ml1_L.1.findIdx? (·.name == "arg$1") = some 0 ∧ (ml1_L.1[0]?).map (fun f => (f.isStatic, f.slot)) = some (false, 0) := by decide +kernel
theorem ml1_types : ml1_L.2.1 = #[.object "Lendlathe"] := by decide +kernel
theorem ml1_facts {vm : Vm} {d c : ClassId} {dk : Class} (hd : vm.classes[d]? = some dk) (hname : dk.name = "Lendlathe") (h : Lambda.isMade { classPath := fun _ => none } vm d (xCkS "isElsewhere") c = true)
    (hO : ∀ o ok, vm.findClass "java/lang/Object" = some o → vm.classes[o]? = some ok → ok.instanceTypes.size = 0) : xMk vm c fwA_c 7 22 19 [15] "isElsewhere" "(IIIIIC)Z" (.boolean) #[.object "Lendlathe"] := by
  obtain ⟨dk', k, ok, tk, file, cf, object, iface, toy, lay, methods, target, found, hd', hk, hfile, hcf, hobj, -, hok, hlay, hms, ht, htk, hg, -, hrec, -, -, -, hitf, hpool, hmeth, hfields, hty, hres, -⟩ := Lambda.isMade_spec h
  cases hd.symm.trans hd'
  rw [hname, ml1_file] at hcf
  cases hcf
  have hok0 : ok.instanceTypes = #[] := Array.eq_empty_of_size_eq_zero (hO object ok hobj hok)
  rw [hO object ok hobj hok, ml1_laid] at hlay
  cases hlay
  obtain ⟨b, hb, hsame⟩ := hmeth 1 ml1_F (ml1_second methods hms)
  obtain ⟨-, -, hsig, hfl, x, y, hfc, hbc, -, hml, hcd, -⟩ := Lambda.sameMethod_spec hsame
  have fc := ml1_code
  have ff := ml1_flags
  simp only [Prod.mk.injEq] at ff
  obtain ⟨g0, hg0, hp0⟩ := Option.map_eq_some_iff.mp ml1_eF0.2.2.2
  simp only [Prod.mk.injEq] at hp0
  simp only [hfc, Option.map_some, Option.some.injEq, Prod.mk.injEq] at fc
  refine ⟨k, tk, file, b, y, toy, target, 21, ⟨hk, by rw [hrec.1, hname]; rfl, hfile, hrec.2.1, by rw [hty.1, hok0, ml1_types]; rfl⟩, ⟨by simp [Vm.method?, hk, hb], hbc, by rw [hcd]; exact ByteArray.ext fc.1, by rw [hml]; exact fc.2, by simp [Method.locks, Method.isSynchronized, hfl, ff.1, hasFlag, Acc.synchronized], by rw [hfl]; exact ff.1, by rw [hsig]; exact ff.2.2⟩, ⟨ht, htk, hitf, hg⟩,
    ⟨⟨k, hk, hres 22 _ (Lambda.resolvedOf_method ml1_eM.1 ml1_eM.2.1 ht htk ml1_eM.2.2 hg)⟩, ⟨k, hk, hres 19 _ (Lambda.resolvedOf_class ml1_eC.1 ml1_eC.2.2 ml1_eC.2.1 ht)⟩, by rw [hpool.2.1]; exact ml1_eM.1, by rw [hpool.2.1]; exact ml1_eM.2.2⟩, fun i f hf => ?_⟩
  match i, hf with
  | 0, hf =>
    cases hf
    exact ⟨g0, ⟨k, 0, k, hk, hres 15 _ (Lambda.resolvedOf_field ml1_eF0.1 ml1_eF0.2.1 ml1_eF0.2.2.1), hk, hfields 0 _ hg0⟩, hp0.1, hp0.2⟩
  | j + 1, hf => cases hf
def ml2_D : ClassFile := (Lambda.Shape.file (xCkS "isBusy") "Lendlathe").getD { minorVersion := 0, majorVersion := 0, constantPool := #[], accessFlags := 0, thisClass := 0, superClass := 0, interfaces := #[], fields := #[], methods := #[], attributes := #[] }
def ml2_F : Method := ((layoutMethods ml2_D).bind (·[1]?)).getD default
def ml2_L : Array Field × Array FieldType × Array FieldType := (layoutFields ml2_D 0).getD (#[], #[], #[])
theorem ml2_file : Lambda.Shape.file (xCkS "isBusy") "Lendlathe" = some ml2_D := by
  have h : (Lambda.Shape.file (xCkS "isBusy") "Lendlathe").isSome = true := by decide +kernel
  obtain ⟨x, hx⟩ := Option.isSome_iff_exists.mp h
  simp [ml2_D, hx]
theorem ml2_second : ∀ ms, layoutMethods ml2_D = some ms → ms[1]? = some ml2_F := by
  intro ms hms
  have h : ((layoutMethods ml2_D).bind (·[1]?)).isSome = true := by decide +kernel
  obtain ⟨x, hx⟩ := Option.isSome_iff_exists.mp h
  have hf : ml2_F = x := by simp [ml2_F, hx]
  rw [hms] at hx
  rw [hf]
  exact hx
theorem ml2_laid : layoutFields ml2_D 0 = some ml2_L := by
  have h : (layoutFields ml2_D 0).isSome = true := by decide +kernel
  obtain ⟨x, hx⟩ := Option.isSome_iff_exists.mp h
  simp [ml2_L, hx]
theorem ml2_code : (ml2_F.code.map fun c => (c.code.data, c.maxLocals)) = some (fwA_c.data, 7) := by decide +kernel
theorem ml2_flags : (ml2_F.accessFlags, ml2_F.name, ml2_F.sig.returnType) = (0x0001, "fails", (some .boolean : Option FieldType)) := by decide +kernel
theorem ml2_eM : ml2_D.constantPool[22]? = some (.methodref 19 21) ∧ ml2_D.constantPool.className? 19 = some "Lendlathe" ∧ ml2_D.constantPool.nameAndType? 21 = some ("isBusy", "(IIIIIC)Z") := by decide +kernel
theorem ml2_eC : ml2_D.constantPool[19]? = some (.class_ 18) ∧ ml2_D.constantPool.string? 18 = some "Lendlathe" ∧ 19 ≠ ml2_D.thisClass := by decide +kernel
theorem ml2_eF0 : ml2_D.constantPool[15]? = some (.fieldref 2 14) ∧ ml2_D.constantPool.nameAndType? 14 = some ("arg$1", "LLendlathe;") ∧ ml2_L.1.findIdx? (·.name == "arg$1") = some 0 ∧ (ml2_L.1[0]?).map (fun f => (f.isStatic, f.slot)) = some (false, 0) := by decide +kernel
theorem ml2_types : ml2_L.2.1 = #[.object "Lendlathe"] := by decide +kernel
theorem ml2_facts {vm : Vm} {d c : ClassId} {dk : Class} (hd : vm.classes[d]? = some dk) (hname : dk.name = "Lendlathe") (h : Lambda.isMade { classPath := fun _ => none } vm d (xCkS "isBusy") c = true)
    (hO : ∀ o ok, vm.findClass "java/lang/Object" = some o → vm.classes[o]? = some ok → ok.instanceTypes.size = 0) : xMk vm c fwA_c 7 22 19 [15] "isBusy" "(IIIIIC)Z" (.boolean) #[.object "Lendlathe"] := by
  obtain ⟨dk', k, ok, tk, file, cf, object, iface, toy, lay, methods, target, found, hd', hk, hfile, hcf, hobj, -, hok, hlay, hms, ht, htk, hg, -, hrec, -, -, -, hitf, hpool, hmeth, hfields, hty, hres, -⟩ := Lambda.isMade_spec h
  cases hd.symm.trans hd'
  rw [hname, ml2_file] at hcf
  cases hcf
  have hok0 : ok.instanceTypes = #[] := Array.eq_empty_of_size_eq_zero (hO object ok hobj hok)
  rw [hO object ok hobj hok, ml2_laid] at hlay
  cases hlay
  obtain ⟨b, hb, hsame⟩ := hmeth 1 ml2_F (ml2_second methods hms)
  obtain ⟨-, -, hsig, hfl, x, y, hfc, hbc, -, hml, hcd, -⟩ := Lambda.sameMethod_spec hsame
  have fc := ml2_code
  have ff := ml2_flags
  simp only [Prod.mk.injEq] at ff
  obtain ⟨g0, hg0, hp0⟩ := Option.map_eq_some_iff.mp ml2_eF0.2.2.2
  simp only [Prod.mk.injEq] at hp0
  simp only [hfc, Option.map_some, Option.some.injEq, Prod.mk.injEq] at fc
  refine ⟨k, tk, file, b, y, toy, target, 21, ⟨hk, by rw [hrec.1, hname]; rfl, hfile, hrec.2.1, by rw [hty.1, hok0, ml2_types]; rfl⟩, ⟨by simp [Vm.method?, hk, hb], hbc, by rw [hcd]; exact ByteArray.ext fc.1, by rw [hml]; exact fc.2, by simp [Method.locks, Method.isSynchronized, hfl, ff.1, hasFlag, Acc.synchronized], by rw [hfl]; exact ff.1, by rw [hsig]; exact ff.2.2⟩, ⟨ht, htk, hitf, hg⟩,
    ⟨⟨k, hk, hres 22 _ (Lambda.resolvedOf_method ml2_eM.1 ml2_eM.2.1 ht htk ml2_eM.2.2 hg)⟩, ⟨k, hk, hres 19 _ (Lambda.resolvedOf_class ml2_eC.1 ml2_eC.2.2 ml2_eC.2.1 ht)⟩, by rw [hpool.2.1]; exact ml2_eM.1, by rw [hpool.2.1]; exact ml2_eM.2.2⟩, fun i f hf => ?_⟩
  match i, hf with
  | 0, hf =>
    cases hf
    exact ⟨g0, ⟨k, 0, k, hk, hres 15 _ (Lambda.resolvedOf_field ml2_eF0.1 ml2_eF0.2.1 ml2_eF0.2.2.1), hk, hfields 0 _ hg0⟩, hp0.1, hp0.2⟩
  | j + 1, hf => cases hf
def fwB_c : ByteArray := ⟨#[0x2a, 0xb4, 0x00, 0x0f, 0x1b, 0xb8, 0x00, 0x17, 0xac]⟩
theorem fwB_0 : decode fwB_c 0 = .ok (.aload_n 0, 1) := by decide +kernel
theorem fwB_1 : decode fwB_c 1 = .ok (.getfield 15, 3) := by decide +kernel
theorem fwB_4 : decode fwB_c 4 = .ok (.iload_n 1, 1) := by decide +kernel
theorem fwB_5 : decode fwB_c 5 = .ok (.invokestatic 23, 3) := by decide +kernel
theorem fwB_8 : decode fwB_c 8 = .ok (.ireturn, 1) := by decide +kernel
def ml3_D : ClassFile := (Lambda.Shape.file xRaS "Lendlathe").getD { minorVersion := 0, majorVersion := 0, constantPool := #[], accessFlags := 0, thisClass := 0, superClass := 0, interfaces := #[], fields := #[], methods := #[], attributes := #[] }
def ml3_F : Method := ((layoutMethods ml3_D).bind (·[1]?)).getD default
def ml3_L : Array Field × Array FieldType × Array FieldType := (layoutFields ml3_D 0).getD (#[], #[], #[])
theorem ml3_file : Lambda.Shape.file xRaS "Lendlathe" = some ml3_D := by
  have h : (Lambda.Shape.file xRaS "Lendlathe").isSome = true := by decide +kernel
  obtain ⟨x, hx⟩ := Option.isSome_iff_exists.mp h
  simp [ml3_D, hx]
theorem ml3_second : ∀ ms, layoutMethods ml3_D = some ms → ms[1]? = some ml3_F := by
  intro ms hms
  have h : ((layoutMethods ml3_D).bind (·[1]?)).isSome = true := by decide +kernel
  obtain ⟨x, hx⟩ := Option.isSome_iff_exists.mp h
  have hf : ml3_F = x := by simp [ml3_F, hx]
  rw [hms] at hx
  rw [hf]
  exact hx
theorem ml3_laid : layoutFields ml3_D 0 = some ml3_L := by
  have h : (layoutFields ml3_D 0).isSome = true := by decide +kernel
  obtain ⟨x, hx⟩ := Option.isSome_iff_exists.mp h
  simp [ml3_L, hx]
theorem ml3_code : (ml3_F.code.map fun c => (c.code.data, c.maxLocals)) = some (fwB_c.data, 2) := by decide +kernel
theorem ml3_flags : (ml3_F.accessFlags, ml3_F.name, ml3_F.sig.returnType) = (0x0001, "of", (some .int : Option FieldType)) := by decide +kernel
theorem ml3_eM : ml3_D.constantPool[23]? = some (.methodref 19 22) ∧ ml3_D.constantPool.className? 19 = some "Lendlathe" ∧ ml3_D.constantPool.nameAndType? 22 = some ("lambda$setRate$0", "(II)I") := by decide +kernel
theorem ml3_eC : ml3_D.constantPool[19]? = some (.class_ 18) ∧ ml3_D.constantPool.string? 18 = some "Lendlathe" ∧ 19 ≠ ml3_D.thisClass := by decide +kernel
theorem ml3_eF0 : ml3_D.constantPool[15]? = some (.fieldref 2 14) ∧ ml3_D.constantPool.nameAndType? 14 = some ("arg$1", "I") ∧ ml3_L.1.findIdx? (·.name == "arg$1") = some 0 ∧ (ml3_L.1[0]?).map (fun f => (f.isStatic, f.slot)) = some (false, 0) := by decide +kernel
theorem ml3_types : ml3_L.2.1 = #[.int] := by decide +kernel
theorem ml3_facts {vm : Vm} {d c : ClassId} {dk : Class} (hd : vm.classes[d]? = some dk) (hname : dk.name = "Lendlathe") (h : Lambda.isMade { classPath := fun _ => none } vm d xRaS c = true)
    (hO : ∀ o ok, vm.findClass "java/lang/Object" = some o → vm.classes[o]? = some ok → ok.instanceTypes.size = 0) : xMk vm c fwB_c 2 23 19 [15] "lambda$setRate$0" "(II)I" (.int) #[.int] := by
  obtain ⟨dk', k, ok, tk, file, cf, object, iface, toy, lay, methods, target, found, hd', hk, hfile, hcf, hobj, -, hok, hlay, hms, ht, htk, hg, -, hrec, -, -, -, hitf, hpool, hmeth, hfields, hty, hres, -⟩ := Lambda.isMade_spec h
  cases hd.symm.trans hd'
  rw [hname, ml3_file] at hcf
  cases hcf
  have hok0 : ok.instanceTypes = #[] := Array.eq_empty_of_size_eq_zero (hO object ok hobj hok)
  rw [hO object ok hobj hok, ml3_laid] at hlay
  cases hlay
  obtain ⟨b, hb, hsame⟩ := hmeth 1 ml3_F (ml3_second methods hms)
  obtain ⟨-, -, hsig, hfl, x, y, hfc, hbc, -, hml, hcd, -⟩ := Lambda.sameMethod_spec hsame
  have fc := ml3_code
  have ff := ml3_flags
  simp only [Prod.mk.injEq] at ff
  obtain ⟨g0, hg0, hp0⟩ := Option.map_eq_some_iff.mp ml3_eF0.2.2.2
  simp only [Prod.mk.injEq] at hp0
  simp only [hfc, Option.map_some, Option.some.injEq, Prod.mk.injEq] at fc
  refine ⟨k, tk, file, b, y, toy, target, 22, ⟨hk, by rw [hrec.1, hname]; rfl, hfile, hrec.2.1, by rw [hty.1, hok0, ml3_types]; rfl⟩, ⟨by simp [Vm.method?, hk, hb], hbc, by rw [hcd]; exact ByteArray.ext fc.1, by rw [hml]; exact fc.2, by simp [Method.locks, Method.isSynchronized, hfl, ff.1, hasFlag, Acc.synchronized], by rw [hfl]; exact ff.1, by rw [hsig]; exact ff.2.2⟩, ⟨ht, htk, hitf, hg⟩,
    ⟨⟨k, hk, hres 23 _ (Lambda.resolvedOf_method ml3_eM.1 ml3_eM.2.1 ht htk ml3_eM.2.2 hg)⟩, ⟨k, hk, hres 19 _ (Lambda.resolvedOf_class ml3_eC.1 ml3_eC.2.2 ml3_eC.2.1 ht)⟩, by rw [hpool.2.1]; exact ml3_eM.1, by rw [hpool.2.1]; exact ml3_eM.2.2⟩, fun i f hf => ?_⟩
  match i, hf with
  | 0, hf =>
    cases hf
    exact ⟨g0, ⟨k, 0, k, hk, hres 15 _ (Lambda.resolvedOf_field ml3_eF0.1 ml3_eF0.2.1 ml3_eF0.2.2.1), hk, hfields 0 _ hg0⟩, hp0.1, hp0.2⟩
  | j + 1, hf => cases hf
def fwC_c : ByteArray := ⟨#[0x2a, 0xb4, 0x00, 0x11, 0x2a, 0xb4, 0x00, 0x13, 0x1b, 0xb8, 0x00, 0x1b, 0xac]⟩
theorem fwC_0 : decode fwC_c 0 = .ok (.aload_n 0, 1) := by decide +kernel
theorem fwC_1 : decode fwC_c 1 = .ok (.getfield 17, 3) := by decide +kernel
theorem fwC_4 : decode fwC_c 4 = .ok (.aload_n 0, 1) := by decide +kernel
theorem fwC_5 : decode fwC_c 5 = .ok (.getfield 19, 3) := by decide +kernel
theorem fwC_8 : decode fwC_c 8 = .ok (.iload_n 1, 1) := by decide +kernel
theorem fwC_9 : decode fwC_c 9 = .ok (.invokestatic 27, 3) := by decide +kernel
theorem fwC_12 : decode fwC_c 12 = .ok (.ireturn, 1) := by decide +kernel
def ml4_D : ClassFile := (Lambda.Shape.file (xTaS "lambda$addFee$1") "Lendlathe").getD { minorVersion := 0, majorVersion := 0, constantPool := #[], accessFlags := 0, thisClass := 0, superClass := 0, interfaces := #[], fields := #[], methods := #[], attributes := #[] }
def ml4_F : Method := ((layoutMethods ml4_D).bind (·[1]?)).getD default
def ml4_L : Array Field × Array FieldType × Array FieldType := (layoutFields ml4_D 0).getD (#[], #[], #[])
theorem ml4_file : Lambda.Shape.file (xTaS "lambda$addFee$1") "Lendlathe" = some ml4_D := by
  have h : (Lambda.Shape.file (xTaS "lambda$addFee$1") "Lendlathe").isSome = true := by decide +kernel
  obtain ⟨x, hx⟩ := Option.isSome_iff_exists.mp h
  simp [ml4_D, hx]
theorem ml4_second : ∀ ms, layoutMethods ml4_D = some ms → ms[1]? = some ml4_F := by
  intro ms hms
  have h : ((layoutMethods ml4_D).bind (·[1]?)).isSome = true := by decide +kernel
  obtain ⟨x, hx⟩ := Option.isSome_iff_exists.mp h
  have hf : ml4_F = x := by simp [ml4_F, hx]
  rw [hms] at hx
  rw [hf]
  exact hx
theorem ml4_laid : layoutFields ml4_D 0 = some ml4_L := by
  have h : (layoutFields ml4_D 0).isSome = true := by decide +kernel
  obtain ⟨x, hx⟩ := Option.isSome_iff_exists.mp h
  simp [ml4_L, hx]
theorem ml4_code : (ml4_F.code.map fun c => (c.code.data, c.maxLocals)) = some (fwC_c.data, 2) := by decide +kernel
theorem ml4_flags : (ml4_F.accessFlags, ml4_F.name, ml4_F.sig.returnType) = (0x0001, "of", (some .int : Option FieldType)) := by decide +kernel
theorem ml4_eM : ml4_D.constantPool[27]? = some (.methodref 23 26) ∧ ml4_D.constantPool.className? 23 = some "Lendlathe" ∧ ml4_D.constantPool.nameAndType? 26 = some ("lambda$addFee$1", "(LLendlathe$Tariff;II)I") := by decide +kernel
theorem ml4_eC : ml4_D.constantPool[23]? = some (.class_ 22) ∧ ml4_D.constantPool.string? 22 = some "Lendlathe" ∧ 23 ≠ ml4_D.thisClass := by decide +kernel
theorem ml4_eF0 : ml4_D.constantPool[17]? = some (.fieldref 2 16) ∧ ml4_D.constantPool.nameAndType? 16 = some ("arg$1", "LLendlathe$Tariff;") ∧ ml4_L.1.findIdx? (·.name == "arg$1") = some 0 ∧ (ml4_L.1[0]?).map (fun f => (f.isStatic, f.slot)) = some (false, 0) := by decide +kernel
theorem ml4_eF1 : ml4_D.constantPool[19]? = some (.fieldref 2 18) ∧ ml4_D.constantPool.nameAndType? 18 = some ("arg$2", "I") ∧ ml4_L.1.findIdx? (·.name == "arg$2") = some 1 ∧ (ml4_L.1[1]?).map (fun f => (f.isStatic, f.slot)) = some (false, 1) := by decide +kernel
theorem ml4_types : ml4_L.2.1 = #[.object "Lendlathe$Tariff", .int] := by decide +kernel
theorem ml4_facts {vm : Vm} {d c : ClassId} {dk : Class} (hd : vm.classes[d]? = some dk) (hname : dk.name = "Lendlathe") (h : Lambda.isMade { classPath := fun _ => none } vm d (xTaS "lambda$addFee$1") c = true)
    (hO : ∀ o ok, vm.findClass "java/lang/Object" = some o → vm.classes[o]? = some ok → ok.instanceTypes.size = 0) : xMk vm c fwC_c 2 27 23 [17, 19] "lambda$addFee$1" "(LLendlathe$Tariff;II)I" (.int) #[.object "Lendlathe$Tariff", .int] := by
  obtain ⟨dk', k, ok, tk, file, cf, object, iface, toy, lay, methods, target, found, hd', hk, hfile, hcf, hobj, -, hok, hlay, hms, ht, htk, hg, -, hrec, -, -, -, hitf, hpool, hmeth, hfields, hty, hres, -⟩ := Lambda.isMade_spec h
  cases hd.symm.trans hd'
  rw [hname, ml4_file] at hcf
  cases hcf
  have hok0 : ok.instanceTypes = #[] := Array.eq_empty_of_size_eq_zero (hO object ok hobj hok)
  rw [hO object ok hobj hok, ml4_laid] at hlay
  cases hlay
  obtain ⟨b, hb, hsame⟩ := hmeth 1 ml4_F (ml4_second methods hms)
  obtain ⟨-, -, hsig, hfl, x, y, hfc, hbc, -, hml, hcd, -⟩ := Lambda.sameMethod_spec hsame
  have fc := ml4_code
  have ff := ml4_flags
  simp only [Prod.mk.injEq] at ff
  obtain ⟨g0, hg0, hp0⟩ := Option.map_eq_some_iff.mp ml4_eF0.2.2.2
  simp only [Prod.mk.injEq] at hp0
  obtain ⟨g1, hg1, hp1⟩ := Option.map_eq_some_iff.mp ml4_eF1.2.2.2
  simp only [Prod.mk.injEq] at hp1
  simp only [hfc, Option.map_some, Option.some.injEq, Prod.mk.injEq] at fc
  refine ⟨k, tk, file, b, y, toy, target, 26, ⟨hk, by rw [hrec.1, hname]; rfl, hfile, hrec.2.1, by rw [hty.1, hok0, ml4_types]; rfl⟩, ⟨by simp [Vm.method?, hk, hb], hbc, by rw [hcd]; exact ByteArray.ext fc.1, by rw [hml]; exact fc.2, by simp [Method.locks, Method.isSynchronized, hfl, ff.1, hasFlag, Acc.synchronized], by rw [hfl]; exact ff.1, by rw [hsig]; exact ff.2.2⟩, ⟨ht, htk, hitf, hg⟩,
    ⟨⟨k, hk, hres 27 _ (Lambda.resolvedOf_method ml4_eM.1 ml4_eM.2.1 ht htk ml4_eM.2.2 hg)⟩, ⟨k, hk, hres 23 _ (Lambda.resolvedOf_class ml4_eC.1 ml4_eC.2.2 ml4_eC.2.1 ht)⟩, by rw [hpool.2.1]; exact ml4_eM.1, by rw [hpool.2.1]; exact ml4_eM.2.2⟩, fun i f hf => ?_⟩
  match i, hf with
  | 0, hf =>
    cases hf
    exact ⟨g0, ⟨k, 0, k, hk, hres 17 _ (Lambda.resolvedOf_field ml4_eF0.1 ml4_eF0.2.1 ml4_eF0.2.2.1), hk, hfields 0 _ hg0⟩, hp0.1, hp0.2⟩
  | 1, hf =>
    cases hf
    exact ⟨g1, ⟨k, 1, k, hk, hres 19 _ (Lambda.resolvedOf_field ml4_eF1.1 ml4_eF1.2.1 ml4_eF1.2.2.1), hk, hfields 1 _ hg1⟩, hp1.1, hp1.2⟩
  | j + 2, hf => cases hf
def ml5_D : ClassFile := (Lambda.Shape.file (xTaS "lambda$addCap$2") "Lendlathe").getD { minorVersion := 0, majorVersion := 0, constantPool := #[], accessFlags := 0, thisClass := 0, superClass := 0, interfaces := #[], fields := #[], methods := #[], attributes := #[] }
def ml5_F : Method := ((layoutMethods ml5_D).bind (·[1]?)).getD default
def ml5_L : Array Field × Array FieldType × Array FieldType := (layoutFields ml5_D 0).getD (#[], #[], #[])
theorem ml5_file : Lambda.Shape.file (xTaS "lambda$addCap$2") "Lendlathe" = some ml5_D := by
  have h : (Lambda.Shape.file (xTaS "lambda$addCap$2") "Lendlathe").isSome = true := by decide +kernel
  obtain ⟨x, hx⟩ := Option.isSome_iff_exists.mp h
  simp [ml5_D, hx]
theorem ml5_second : ∀ ms, layoutMethods ml5_D = some ms → ms[1]? = some ml5_F := by
  intro ms hms
  have h : ((layoutMethods ml5_D).bind (·[1]?)).isSome = true := by decide +kernel
  obtain ⟨x, hx⟩ := Option.isSome_iff_exists.mp h
  have hf : ml5_F = x := by simp [ml5_F, hx]
  rw [hms] at hx
  rw [hf]
  exact hx
theorem ml5_laid : layoutFields ml5_D 0 = some ml5_L := by
  have h : (layoutFields ml5_D 0).isSome = true := by decide +kernel
  obtain ⟨x, hx⟩ := Option.isSome_iff_exists.mp h
  simp [ml5_L, hx]
theorem ml5_code : (ml5_F.code.map fun c => (c.code.data, c.maxLocals)) = some (fwC_c.data, 2) := by decide +kernel
theorem ml5_flags : (ml5_F.accessFlags, ml5_F.name, ml5_F.sig.returnType) = (0x0001, "of", (some .int : Option FieldType)) := by decide +kernel
theorem ml5_eM : ml5_D.constantPool[27]? = some (.methodref 23 26) ∧ ml5_D.constantPool.className? 23 = some "Lendlathe" ∧ ml5_D.constantPool.nameAndType? 26 = some ("lambda$addCap$2", "(LLendlathe$Tariff;II)I") := by decide +kernel
theorem ml5_eC : ml5_D.constantPool[23]? = some (.class_ 22) ∧ ml5_D.constantPool.string? 22 = some "Lendlathe" ∧ 23 ≠ ml5_D.thisClass := by decide +kernel
theorem ml5_eF0 : ml5_D.constantPool[17]? = some (.fieldref 2 16) ∧ ml5_D.constantPool.nameAndType? 16 = some ("arg$1", "LLendlathe$Tariff;") ∧ ml5_L.1.findIdx? (·.name == "arg$1") = some 0 ∧ (ml5_L.1[0]?).map (fun f => (f.isStatic, f.slot)) = some (false, 0) := by decide +kernel
theorem ml5_eF1 : ml5_D.constantPool[19]? = some (.fieldref 2 18) ∧ ml5_D.constantPool.nameAndType? 18 = some ("arg$2", "I") ∧ ml5_L.1.findIdx? (·.name == "arg$2") = some 1 ∧ (ml5_L.1[1]?).map (fun f => (f.isStatic, f.slot)) = some (false, 1) := by decide +kernel
theorem ml5_types : ml5_L.2.1 = #[.object "Lendlathe$Tariff", .int] := by decide +kernel
theorem ml5_facts {vm : Vm} {d c : ClassId} {dk : Class} (hd : vm.classes[d]? = some dk) (hname : dk.name = "Lendlathe") (h : Lambda.isMade { classPath := fun _ => none } vm d (xTaS "lambda$addCap$2") c = true)
    (hO : ∀ o ok, vm.findClass "java/lang/Object" = some o → vm.classes[o]? = some ok → ok.instanceTypes.size = 0) : xMk vm c fwC_c 2 27 23 [17, 19] "lambda$addCap$2" "(LLendlathe$Tariff;II)I" (.int) #[.object "Lendlathe$Tariff", .int] := by
  obtain ⟨dk', k, ok, tk, file, cf, object, iface, toy, lay, methods, target, found, hd', hk, hfile, hcf, hobj, -, hok, hlay, hms, ht, htk, hg, -, hrec, -, -, -, hitf, hpool, hmeth, hfields, hty, hres, -⟩ := Lambda.isMade_spec h
  cases hd.symm.trans hd'
  rw [hname, ml5_file] at hcf
  cases hcf
  have hok0 : ok.instanceTypes = #[] := Array.eq_empty_of_size_eq_zero (hO object ok hobj hok)
  rw [hO object ok hobj hok, ml5_laid] at hlay
  cases hlay
  obtain ⟨b, hb, hsame⟩ := hmeth 1 ml5_F (ml5_second methods hms)
  obtain ⟨-, -, hsig, hfl, x, y, hfc, hbc, -, hml, hcd, -⟩ := Lambda.sameMethod_spec hsame
  have fc := ml5_code
  have ff := ml5_flags
  simp only [Prod.mk.injEq] at ff
  obtain ⟨g0, hg0, hp0⟩ := Option.map_eq_some_iff.mp ml5_eF0.2.2.2
  simp only [Prod.mk.injEq] at hp0
  obtain ⟨g1, hg1, hp1⟩ := Option.map_eq_some_iff.mp ml5_eF1.2.2.2
  simp only [Prod.mk.injEq] at hp1
  simp only [hfc, Option.map_some, Option.some.injEq, Prod.mk.injEq] at fc
  refine ⟨k, tk, file, b, y, toy, target, 26, ⟨hk, by rw [hrec.1, hname]; rfl, hfile, hrec.2.1, by rw [hty.1, hok0, ml5_types]; rfl⟩, ⟨by simp [Vm.method?, hk, hb], hbc, by rw [hcd]; exact ByteArray.ext fc.1, by rw [hml]; exact fc.2, by simp [Method.locks, Method.isSynchronized, hfl, ff.1, hasFlag, Acc.synchronized], by rw [hfl]; exact ff.1, by rw [hsig]; exact ff.2.2⟩, ⟨ht, htk, hitf, hg⟩,
    ⟨⟨k, hk, hres 27 _ (Lambda.resolvedOf_method ml5_eM.1 ml5_eM.2.1 ht htk ml5_eM.2.2 hg)⟩, ⟨k, hk, hres 23 _ (Lambda.resolvedOf_class ml5_eC.1 ml5_eC.2.2 ml5_eC.2.1 ht)⟩, by rw [hpool.2.1]; exact ml5_eM.1, by rw [hpool.2.1]; exact ml5_eM.2.2⟩, fun i f hf => ?_⟩
  match i, hf with
  | 0, hf =>
    cases hf
    exact ⟨g0, ⟨k, 0, k, hk, hres 17 _ (Lambda.resolvedOf_field ml5_eF0.1 ml5_eF0.2.1 ml5_eF0.2.2.1), hk, hfields 0 _ hg0⟩, hp0.1, hp0.2⟩
  | 1, hf =>
    cases hf
    exact ⟨g1, ⟨k, 1, k, hk, hres 19 _ (Lambda.resolvedOf_field ml5_eF1.1 ml5_eF1.2.1 ml5_eF1.2.2.1), hk, hfields 1 _ hg1⟩, hp1.1, hp1.2⟩
  | j + 2, hf => cases hf
def ml6_D : ClassFile := (Lambda.Shape.file (xTaS "lambda$addDouble$3") "Lendlathe").getD { minorVersion := 0, majorVersion := 0, constantPool := #[], accessFlags := 0, thisClass := 0, superClass := 0, interfaces := #[], fields := #[], methods := #[], attributes := #[] }
def ml6_F : Method := ((layoutMethods ml6_D).bind (·[1]?)).getD default
def ml6_L : Array Field × Array FieldType × Array FieldType := (layoutFields ml6_D 0).getD (#[], #[], #[])
theorem ml6_file : Lambda.Shape.file (xTaS "lambda$addDouble$3") "Lendlathe" = some ml6_D := by
  have h : (Lambda.Shape.file (xTaS "lambda$addDouble$3") "Lendlathe").isSome = true := by decide +kernel
  obtain ⟨x, hx⟩ := Option.isSome_iff_exists.mp h
  simp [ml6_D, hx]
theorem ml6_second : ∀ ms, layoutMethods ml6_D = some ms → ms[1]? = some ml6_F := by
  intro ms hms
  have h : ((layoutMethods ml6_D).bind (·[1]?)).isSome = true := by decide +kernel
  obtain ⟨x, hx⟩ := Option.isSome_iff_exists.mp h
  have hf : ml6_F = x := by simp [ml6_F, hx]
  rw [hms] at hx
  rw [hf]
  exact hx
theorem ml6_laid : layoutFields ml6_D 0 = some ml6_L := by
  have h : (layoutFields ml6_D 0).isSome = true := by decide +kernel
  obtain ⟨x, hx⟩ := Option.isSome_iff_exists.mp h
  simp [ml6_L, hx]
theorem ml6_code : (ml6_F.code.map fun c => (c.code.data, c.maxLocals)) = some (fwC_c.data, 2) := by decide +kernel
theorem ml6_flags : (ml6_F.accessFlags, ml6_F.name, ml6_F.sig.returnType) = (0x0001, "of", (some .int : Option FieldType)) := by decide +kernel
theorem ml6_eM : ml6_D.constantPool[27]? = some (.methodref 23 26) ∧ ml6_D.constantPool.className? 23 = some "Lendlathe" ∧ ml6_D.constantPool.nameAndType? 26 = some ("lambda$addDouble$3", "(LLendlathe$Tariff;II)I") := by decide +kernel
theorem ml6_eC : ml6_D.constantPool[23]? = some (.class_ 22) ∧ ml6_D.constantPool.string? 22 = some "Lendlathe" ∧ 23 ≠ ml6_D.thisClass := by decide +kernel
theorem ml6_eF0 : ml6_D.constantPool[17]? = some (.fieldref 2 16) ∧ ml6_D.constantPool.nameAndType? 16 = some ("arg$1", "LLendlathe$Tariff;") ∧ ml6_L.1.findIdx? (·.name == "arg$1") = some 0 ∧ (ml6_L.1[0]?).map (fun f => (f.isStatic, f.slot)) = some (false, 0) := by decide +kernel
theorem ml6_eF1 : ml6_D.constantPool[19]? = some (.fieldref 2 18) ∧ ml6_D.constantPool.nameAndType? 18 = some ("arg$2", "I") ∧ ml6_L.1.findIdx? (·.name == "arg$2") = some 1 ∧ (ml6_L.1[1]?).map (fun f => (f.isStatic, f.slot)) = some (false, 1) := by decide +kernel
theorem ml6_types : ml6_L.2.1 = #[.object "Lendlathe$Tariff", .int] := by decide +kernel
theorem ml6_facts {vm : Vm} {d c : ClassId} {dk : Class} (hd : vm.classes[d]? = some dk) (hname : dk.name = "Lendlathe") (h : Lambda.isMade { classPath := fun _ => none } vm d (xTaS "lambda$addDouble$3") c = true)
    (hO : ∀ o ok, vm.findClass "java/lang/Object" = some o → vm.classes[o]? = some ok → ok.instanceTypes.size = 0) : xMk vm c fwC_c 2 27 23 [17, 19] "lambda$addDouble$3" "(LLendlathe$Tariff;II)I" (.int) #[.object "Lendlathe$Tariff", .int] := by
  obtain ⟨dk', k, ok, tk, file, cf, object, iface, toy, lay, methods, target, found, hd', hk, hfile, hcf, hobj, -, hok, hlay, hms, ht, htk, hg, -, hrec, -, -, -, hitf, hpool, hmeth, hfields, hty, hres, -⟩ := Lambda.isMade_spec h
  cases hd.symm.trans hd'
  rw [hname, ml6_file] at hcf
  cases hcf
  have hok0 : ok.instanceTypes = #[] := Array.eq_empty_of_size_eq_zero (hO object ok hobj hok)
  rw [hO object ok hobj hok, ml6_laid] at hlay
  cases hlay
  obtain ⟨b, hb, hsame⟩ := hmeth 1 ml6_F (ml6_second methods hms)
  obtain ⟨-, -, hsig, hfl, x, y, hfc, hbc, -, hml, hcd, -⟩ := Lambda.sameMethod_spec hsame
  have fc := ml6_code
  have ff := ml6_flags
  simp only [Prod.mk.injEq] at ff
  obtain ⟨g0, hg0, hp0⟩ := Option.map_eq_some_iff.mp ml6_eF0.2.2.2
  simp only [Prod.mk.injEq] at hp0
  obtain ⟨g1, hg1, hp1⟩ := Option.map_eq_some_iff.mp ml6_eF1.2.2.2
  simp only [Prod.mk.injEq] at hp1
  simp only [hfc, Option.map_some, Option.some.injEq, Prod.mk.injEq] at fc
  refine ⟨k, tk, file, b, y, toy, target, 26, ⟨hk, by rw [hrec.1, hname]; rfl, hfile, hrec.2.1, by rw [hty.1, hok0, ml6_types]; rfl⟩, ⟨by simp [Vm.method?, hk, hb], hbc, by rw [hcd]; exact ByteArray.ext fc.1, by rw [hml]; exact fc.2, by simp [Method.locks, Method.isSynchronized, hfl, ff.1, hasFlag, Acc.synchronized], by rw [hfl]; exact ff.1, by rw [hsig]; exact ff.2.2⟩, ⟨ht, htk, hitf, hg⟩,
    ⟨⟨k, hk, hres 27 _ (Lambda.resolvedOf_method ml6_eM.1 ml6_eM.2.1 ht htk ml6_eM.2.2 hg)⟩, ⟨k, hk, hres 23 _ (Lambda.resolvedOf_class ml6_eC.1 ml6_eC.2.2 ml6_eC.2.1 ht)⟩, by rw [hpool.2.1]; exact ml6_eM.1, by rw [hpool.2.1]; exact ml6_eM.2.2⟩, fun i f hf => ?_⟩
  match i, hf with
  | 0, hf =>
    cases hf
    exact ⟨g0, ⟨k, 0, k, hk, hres 17 _ (Lambda.resolvedOf_field ml6_eF0.1 ml6_eF0.2.1 ml6_eF0.2.2.1), hk, hfields 0 _ hg0⟩, hp0.1, hp0.2⟩
  | 1, hf =>
    cases hf
    exact ⟨g1, ⟨k, 1, k, hk, hres 19 _ (Lambda.resolvedOf_field ml6_eF1.1 ml6_eF1.2.1 ml6_eF1.2.2.1), hk, hfields 1 _ hg1⟩, hp1.1, hp1.2⟩
  | j + 2, hf => cases hf
def ml7_D : ClassFile := (Lambda.Shape.file (xTaS "lambda$addDiscount$4") "Lendlathe").getD { minorVersion := 0, majorVersion := 0, constantPool := #[], accessFlags := 0, thisClass := 0, superClass := 0, interfaces := #[], fields := #[], methods := #[], attributes := #[] }
def ml7_F : Method := ((layoutMethods ml7_D).bind (·[1]?)).getD default
def ml7_L : Array Field × Array FieldType × Array FieldType := (layoutFields ml7_D 0).getD (#[], #[], #[])
theorem ml7_file : Lambda.Shape.file (xTaS "lambda$addDiscount$4") "Lendlathe" = some ml7_D := by
  have h : (Lambda.Shape.file (xTaS "lambda$addDiscount$4") "Lendlathe").isSome = true := by decide +kernel
  obtain ⟨x, hx⟩ := Option.isSome_iff_exists.mp h
  simp [ml7_D, hx]
theorem ml7_second : ∀ ms, layoutMethods ml7_D = some ms → ms[1]? = some ml7_F := by
  intro ms hms
  have h : ((layoutMethods ml7_D).bind (·[1]?)).isSome = true := by decide +kernel
  obtain ⟨x, hx⟩ := Option.isSome_iff_exists.mp h
  have hf : ml7_F = x := by simp [ml7_F, hx]
  rw [hms] at hx
  rw [hf]
  exact hx
theorem ml7_laid : layoutFields ml7_D 0 = some ml7_L := by
  have h : (layoutFields ml7_D 0).isSome = true := by decide +kernel
  obtain ⟨x, hx⟩ := Option.isSome_iff_exists.mp h
  simp [ml7_L, hx]
theorem ml7_code : (ml7_F.code.map fun c => (c.code.data, c.maxLocals)) = some (fwC_c.data, 2) := by decide +kernel
theorem ml7_flags : (ml7_F.accessFlags, ml7_F.name, ml7_F.sig.returnType) = (0x0001, "of", (some .int : Option FieldType)) := by decide +kernel
theorem ml7_eM : ml7_D.constantPool[27]? = some (.methodref 23 26) ∧ ml7_D.constantPool.className? 23 = some "Lendlathe" ∧ ml7_D.constantPool.nameAndType? 26 = some ("lambda$addDiscount$4", "(LLendlathe$Tariff;II)I") := by decide +kernel
theorem ml7_eC : ml7_D.constantPool[23]? = some (.class_ 22) ∧ ml7_D.constantPool.string? 22 = some "Lendlathe" ∧ 23 ≠ ml7_D.thisClass := by decide +kernel
theorem ml7_eF0 : ml7_D.constantPool[17]? = some (.fieldref 2 16) ∧ ml7_D.constantPool.nameAndType? 16 = some ("arg$1", "LLendlathe$Tariff;") ∧ ml7_L.1.findIdx? (·.name == "arg$1") = some 0 ∧ (ml7_L.1[0]?).map (fun f => (f.isStatic, f.slot)) = some (false, 0) := by decide +kernel
theorem ml7_eF1 : ml7_D.constantPool[19]? = some (.fieldref 2 18) ∧ ml7_D.constantPool.nameAndType? 18 = some ("arg$2", "I") ∧ ml7_L.1.findIdx? (·.name == "arg$2") = some 1 ∧ (ml7_L.1[1]?).map (fun f => (f.isStatic, f.slot)) = some (false, 1) := by decide +kernel
theorem ml7_types : ml7_L.2.1 = #[.object "Lendlathe$Tariff", .int] := by decide +kernel
theorem ml7_facts {vm : Vm} {d c : ClassId} {dk : Class} (hd : vm.classes[d]? = some dk) (hname : dk.name = "Lendlathe") (h : Lambda.isMade { classPath := fun _ => none } vm d (xTaS "lambda$addDiscount$4") c = true)
    (hO : ∀ o ok, vm.findClass "java/lang/Object" = some o → vm.classes[o]? = some ok → ok.instanceTypes.size = 0) : xMk vm c fwC_c 2 27 23 [17, 19] "lambda$addDiscount$4" "(LLendlathe$Tariff;II)I" (.int) #[.object "Lendlathe$Tariff", .int] := by
  obtain ⟨dk', k, ok, tk, file, cf, object, iface, toy, lay, methods, target, found, hd', hk, hfile, hcf, hobj, -, hok, hlay, hms, ht, htk, hg, -, hrec, -, -, -, hitf, hpool, hmeth, hfields, hty, hres, -⟩ := Lambda.isMade_spec h
  cases hd.symm.trans hd'
  rw [hname, ml7_file] at hcf
  cases hcf
  have hok0 : ok.instanceTypes = #[] := Array.eq_empty_of_size_eq_zero (hO object ok hobj hok)
  rw [hO object ok hobj hok, ml7_laid] at hlay
  cases hlay
  obtain ⟨b, hb, hsame⟩ := hmeth 1 ml7_F (ml7_second methods hms)
  obtain ⟨-, -, hsig, hfl, x, y, hfc, hbc, -, hml, hcd, -⟩ := Lambda.sameMethod_spec hsame
  have fc := ml7_code
  have ff := ml7_flags
  simp only [Prod.mk.injEq] at ff
  obtain ⟨g0, hg0, hp0⟩ := Option.map_eq_some_iff.mp ml7_eF0.2.2.2
  simp only [Prod.mk.injEq] at hp0
  obtain ⟨g1, hg1, hp1⟩ := Option.map_eq_some_iff.mp ml7_eF1.2.2.2
  simp only [Prod.mk.injEq] at hp1
  simp only [hfc, Option.map_some, Option.some.injEq, Prod.mk.injEq] at fc
  refine ⟨k, tk, file, b, y, toy, target, 26, ⟨hk, by rw [hrec.1, hname]; rfl, hfile, hrec.2.1, by rw [hty.1, hok0, ml7_types]; rfl⟩, ⟨by simp [Vm.method?, hk, hb], hbc, by rw [hcd]; exact ByteArray.ext fc.1, by rw [hml]; exact fc.2, by simp [Method.locks, Method.isSynchronized, hfl, ff.1, hasFlag, Acc.synchronized], by rw [hfl]; exact ff.1, by rw [hsig]; exact ff.2.2⟩, ⟨ht, htk, hitf, hg⟩,
    ⟨⟨k, hk, hres 27 _ (Lambda.resolvedOf_method ml7_eM.1 ml7_eM.2.1 ht htk ml7_eM.2.2 hg)⟩, ⟨k, hk, hres 23 _ (Lambda.resolvedOf_class ml7_eC.1 ml7_eC.2.2 ml7_eC.2.1 ht)⟩, by rw [hpool.2.1]; exact ml7_eM.1, by rw [hpool.2.1]; exact ml7_eM.2.2⟩, fun i f hf => ?_⟩
  match i, hf with
  | 0, hf =>
    cases hf
    exact ⟨g0, ⟨k, 0, k, hk, hres 17 _ (Lambda.resolvedOf_field ml7_eF0.1 ml7_eF0.2.1 ml7_eF0.2.2.1), hk, hfields 0 _ hg0⟩, hp0.1, hp0.2⟩
  | 1, hf =>
    cases hf
    exact ⟨g1, ⟨k, 1, k, hk, hres 19 _ (Lambda.resolvedOf_field ml7_eF1.1 ml7_eF1.2.1 ml7_eF1.2.2.1), hk, hfields 1 _ hg1⟩, hp1.1, hp1.2⟩
  | j + 2, hf => cases hf
