/-! contracts (printed by gen/mcon7.py) -/
set_option maxRecDepth 100000
set_option maxHeartbeats 4000000 in
theorem mX4_init {l : Launch} {G : xG} {s0 : State} {b0 : Nat} (g : xG0 G s0 b0) {A : Nat → Prop} (z : xZ) (a : Nat) : Met l yX4_init (ws_ yX4_init cX4_init 2 none) ({ frames := 1, cells := 365, slots := 3585, locals := 30 } : Room) (xP s0 A [.ref a] (fun H => xat G a (xO 4 [.null, .null, .int 0, .int 0, .null, .null, .null, .int 0, .null, .null, .null, .null, .null, .null, .null, .null, .null, .null, .null, .int 0, .null, .null, .int 0, .null, .null, .null, .null, .null, .int 0, .int 0]) H ∧ A a)) (xQc none (fun _ H => ∃ ad1 : Nat × Nat → Nat, ad1 (0, 0) = a ∧ xRM G A (mInit 4) ad1 z H) A) 365 3585 A := by
  refine Met.ofW (cc := cX4_init) (maxL := 2) (ret := none) (by decide) rfl ?_
  intro p e s m args below meth c s₁ B hml hv
  obtain ⟨rfl, hWK, hR⟩ := hv
  have hx := B.exec
  have hb := B.bytes
  have hr := B.returns
  have hts := atoms_spec (ws := ws_ yX4_init cX4_init 2 none) B.pre
  have hts : ∀ w ∈ lw_all, w.before _ s = true := fun w h => hts w (List.mem_cons_of_mem _ h)
  have hown : s.vm.findClass "LendlatheModel" = some m.cls := findClass_of_methodNamed B.named
  have hlocks := B.notSynchronized
  have hK := hWK.K g
  have F : CallFix p m c cX4_init 2 s _ lw_all "LendlatheModel" := ⟨hx, hb, hml, hown, hts⟩
  have hS : va_S A s.heap s.heap [] := va_S.rf
  have hl := lv_entry ([.ref a]) (n := 2) (Nat.le_of_ble_eq_true rfl)
  rw [lg_entry_eq]
  generalize (lg_sl ([.ref a]) ++ List.replicate (2 - (lg_sl ([.ref a])).length) Slot.unset).toArray = ls at hl ⊢
  have hl : lv_has ls 2 [(0, .ref a)] := hl
  have hini : meth.name = "<init>" := (name_of_methodNamed B.named B.method).1
  obtain ⟨hO_a, hA_a⟩ := hR
  have hAh : ∀ q, s.heap.size ≤ q → A q := hWK.2.2.2.1
  have hlt := hO_a.lt
  obtain ⟨ad, hada, hadk⟩ : ∃ ad : Nat × Nat → Nat, ad (0, 0) = a ∧ xHad ad s.heap.size mps := ⟨adI a s.heap.size mps, rfl, adI_had _ _ _⟩
  subst hada
  have hP : xPW G (mbd xS0) (mce G xS0 ad z) ad s.heap.size mps 0 s.heap := ⟨rfl, fun k i b e h1 h2 => by omega⟩
  refine lv_aload_n hx hb dX4_init_0 rfl (lv_at hl 0 rfl) ?_
  refine W.objInit hx hb hown (hts _ q1449) (hts _ q98) (hts _ q99) rfl (by rw [hml]; exact hl.1) rfl dX4_init_1 (Nat.le_of_ble_eq_true rfl) (Nat.le_of_ble_eq_true rfl) ?_
  refine lv_aload_n hx hb dX4_init_4 rfl (lv_at hl 0 rfl) ?_
  refine lv_bipush (v := 6) hx hb dX4_init_5 (by decide) ?_
  have ez := hP.ez hadk
  refine x_newa hx hb hK (ty := .int) (t := 0) rfl rfl (hts _ q112) (n := 6) (dv := .int 0) (by decide) (by decide) rfl (by decide) (Nat.le_of_ble_eq_true rfl) (Nat.le_of_ble_eq_true rfl) dX4_init_7 (fun H hat hz hg => ?_)
  have hO_a := hg.at hO_a
  have hS := hg.S hS
  have hP := hP.one hadk rfl rfl hat hz hg rfl
  rw [ez]
  clear ez hat hz hg
  refine p_X4_9 F hini hK hS hO_a (hA_a) (v := .ref (ad (1, 0))) rfl rfl (Nat.le_of_ble_eq_true rfl) dX4_init_9 (fun H locs hat hof hS => ?_)
  have hO_a : xat G (ad (0, 0)) (xO 4 [.ref (ad (1, 0)), .null, .int 0, .int 0, .null, .null, .null, .int 0, .null, .null, .null, .null, .null, .null, .null, .null, .null, .null, .null, .int 0, .null, .null, .int 0, .null, .null, .null, .null, .null, .int 0, .int 0]) H := hat
  have hP := hP.off hadk hlt hof
  refine lv_aload_n hx hb dX4_init_12 rfl (lv_at hl 0 rfl) ?_
  refine lv_bipush (v := 6) hx hb dX4_init_13 (by decide) ?_
  have ez := hP.ez hadk
  refine x_newa hx hb hK (ty := .int) (t := 0) rfl rfl (hts _ q112) (n := 6) (dv := .int 0) (by decide) (by decide) rfl (by decide) (Nat.le_of_ble_eq_true rfl) (Nat.le_of_ble_eq_true rfl) dX4_init_15 (fun H hat hz hg => ?_)
  have hO_a := hg.at hO_a
  have hS := hg.S hS
  have hP := hP.one hadk rfl rfl hat hz hg rfl
  rw [ez]
  clear ez hat hz hg
  refine p_X4_13 F hini hK hS hO_a (hA_a) (v := .ref (ad (2, 0))) rfl rfl (Nat.le_of_ble_eq_true rfl) dX4_init_17 (fun H locs hat hof hS => ?_)
  have hO_a : xat G (ad (0, 0)) (xO 4 [.ref (ad (1, 0)), .ref (ad (2, 0)), .int 0, .int 0, .null, .null, .null, .int 0, .null, .null, .null, .null, .null, .null, .null, .null, .null, .null, .null, .int 0, .null, .null, .int 0, .null, .null, .null, .null, .null, .int 0, .int 0]) H := hat
  have hP := hP.off hadk hlt hof
  refine lv_aload_n hx hb dX4_init_20 rfl (lv_at hl 0 rfl) ?_
  refine lv_bipush (v := 10) hx hb dX4_init_21 (by decide) ?_
  refine lv_iconst (v := 4) hx hb dX4_init_23 (by decide) ?_
  have ez := hP.ez hadk
  refine x_multi F hK (ty := .int) (t1 := 10) (t2 := 0) rfl rfl (hts _ q1450) (xnO2 hWK g q604) (hts _ q112) (n := 10) (k := 4) (N := 10) (M := 4) (dv := .int 0) (by decide) (by decide) (by decide) (by decide) rfl (by decide) (by decide) (by decide) rfl rfl (Nat.le_of_ble_eq_true rfl) (Nat.le_of_ble_eq_true rfl) dX4_init_24 (fun H hz hg hat hin => ?_)
  have hO_a := hg.at hO_a
  have hS := hg.S hS
  have hP := hP.grid hadk rfl rfl rfl rfl hat hin hz hg rfl (fun _ => rfl)
  rw [ez]
  clear ez hat hin hz hg
  refine p_X4_18 F hini hK hS hO_a (hA_a) (v := .ref (ad (3, 0))) rfl rfl (Nat.le_of_ble_eq_true rfl) dX4_init_28 (fun H locs hat hof hS => ?_)
  have hO_a : xat G (ad (0, 0)) (xO 4 [.ref (ad (1, 0)), .ref (ad (2, 0)), .int 0, .int 0, .ref (ad (3, 0)), .null, .null, .int 0, .null, .null, .null, .null, .null, .null, .null, .null, .null, .null, .null, .int 0, .null, .null, .int 0, .null, .null, .null, .null, .null, .int 0, .int 0]) H := hat
  have hP := hP.off hadk hlt hof
  refine lv_aload_n hx hb dX4_init_31 rfl (lv_at hl 0 rfl) ?_
  refine lv_bipush (v := 10) hx hb dX4_init_32 (by decide) ?_
  have ez := hP.ez hadk
  refine x_newa hx hb hK (ty := .long) (t := 1) rfl rfl (hts _ q1545) (n := 10) (dv := .long 0) (by decide) (by decide) rfl (by decide) (Nat.le_of_ble_eq_true rfl) (Nat.le_of_ble_eq_true rfl) dX4_init_34 (fun H hat hz hg => ?_)
  have hO_a := hg.at hO_a
  have hS := hg.S hS
  have hP := hP.one hadk rfl rfl hat hz hg rfl
  rw [ez]
  clear ez hat hz hg
  refine p_X4_21 F hini hK hS hO_a (hA_a) (v := .ref (ad (5, 0))) rfl rfl (Nat.le_of_ble_eq_true rfl) dX4_init_36 (fun H locs hat hof hS => ?_)
  have hO_a : xat G (ad (0, 0)) (xO 4 [.ref (ad (1, 0)), .ref (ad (2, 0)), .int 0, .int 0, .ref (ad (3, 0)), .ref (ad (5, 0)), .null, .int 0, .null, .null, .null, .null, .null, .null, .null, .null, .null, .null, .null, .int 0, .null, .null, .int 0, .null, .null, .null, .null, .null, .int 0, .int 0]) H := hat
  have hP := hP.off hadk hlt hof
  refine lv_aload_n hx hb dX4_init_39 rfl (lv_at hl 0 rfl) ?_
  refine lv_iconst (v := 4) hx hb dX4_init_40 (by decide) ?_
  refine lv_iconst (v := 4) hx hb dX4_init_41 (by decide) ?_
  have ez := hP.ez hadk
  refine x_multi F hK (ty := .boolean) (t1 := 11) (t2 := 3) rfl rfl (hts _ q1451) (xnO2 hWK g q458) (hts _ q480) (n := 4) (k := 4) (N := 4) (M := 4) (dv := .int 0) (by decide) (by decide) (by decide) (by decide) rfl (by decide) (by decide) (by decide) rfl rfl (Nat.le_of_ble_eq_true rfl) (Nat.le_of_ble_eq_true rfl) dX4_init_42 (fun H hz hg hat hin => ?_)
  have hO_a := hg.at hO_a
  have hS := hg.S hS
  have hP := hP.grid hadk rfl rfl rfl rfl hat hin hz hg rfl (fun _ => rfl)
  rw [ez]
  clear ez hat hin hz hg
  refine p_X4_27 F hini hK hS hO_a (hA_a) (v := .ref (ad (6, 0))) rfl rfl (Nat.le_of_ble_eq_true rfl) dX4_init_46 (fun H locs hat hof hS => ?_)
  have hO_a : xat G (ad (0, 0)) (xO 4 [.ref (ad (1, 0)), .ref (ad (2, 0)), .int 0, .int 0, .ref (ad (3, 0)), .ref (ad (5, 0)), .ref (ad (6, 0)), .int 0, .null, .null, .null, .null, .null, .null, .null, .null, .null, .null, .null, .int 0, .null, .null, .int 0, .null, .null, .null, .null, .null, .int 0, .int 0]) H := hat
  have hP := hP.off hadk hlt hof
  refine lv_aload_n hx hb dX4_init_49 rfl (lv_at hl 0 rfl) ?_
  refine lv_sipush (v := 150) hx hb dX4_init_50 (by decide) ?_
  have ez := hP.ez hadk
  refine x_newa hx hb hK (ty := .int) (t := 0) rfl rfl (hts _ q112) (n := 150) (dv := .int 0) (by decide) (by decide) rfl (by decide) (Nat.le_of_ble_eq_true rfl) (Nat.le_of_ble_eq_true rfl) dX4_init_53 (fun H hat hz hg => ?_)
  have hO_a := hg.at hO_a
  have hS := hg.S hS
  have hP := hP.one hadk rfl rfl hat hz hg rfl
  rw [ez]
  clear ez hat hz hg
  refine p_X4_30 F hini hK hS hO_a (hA_a) (v := .ref (ad (8, 0))) rfl rfl (Nat.le_of_ble_eq_true rfl) dX4_init_55 (fun H locs hat hof hS => ?_)
  have hO_a : xat G (ad (0, 0)) (xO 4 [.ref (ad (1, 0)), .ref (ad (2, 0)), .int 0, .int 0, .ref (ad (3, 0)), .ref (ad (5, 0)), .ref (ad (6, 0)), .int 0, .ref (ad (8, 0)), .null, .null, .null, .null, .null, .null, .null, .null, .null, .null, .int 0, .null, .null, .int 0, .null, .null, .null, .null, .null, .int 0, .int 0]) H := hat
  have hP := hP.off hadk hlt hof
  refine lv_aload_n hx hb dX4_init_58 rfl (lv_at hl 0 rfl) ?_
  refine lv_sipush (v := 150) hx hb dX4_init_59 (by decide) ?_
  have ez := hP.ez hadk
  refine x_newa hx hb hK (ty := .int) (t := 0) rfl rfl (hts _ q112) (n := 150) (dv := .int 0) (by decide) (by decide) rfl (by decide) (Nat.le_of_ble_eq_true rfl) (Nat.le_of_ble_eq_true rfl) dX4_init_62 (fun H hat hz hg => ?_)
  have hO_a := hg.at hO_a
  have hS := hg.S hS
  have hP := hP.one hadk rfl rfl hat hz hg rfl
  rw [ez]
  clear ez hat hz hg
  refine p_X4_33 F hini hK hS hO_a (hA_a) (v := .ref (ad (9, 0))) rfl rfl (Nat.le_of_ble_eq_true rfl) dX4_init_64 (fun H locs hat hof hS => ?_)
  have hO_a : xat G (ad (0, 0)) (xO 4 [.ref (ad (1, 0)), .ref (ad (2, 0)), .int 0, .int 0, .ref (ad (3, 0)), .ref (ad (5, 0)), .ref (ad (6, 0)), .int 0, .ref (ad (8, 0)), .ref (ad (9, 0)), .null, .null, .null, .null, .null, .null, .null, .null, .null, .int 0, .null, .null, .int 0, .null, .null, .null, .null, .null, .int 0, .int 0]) H := hat
  have hP := hP.off hadk hlt hof
  refine lv_aload_n hx hb dX4_init_67 rfl (lv_at hl 0 rfl) ?_
  refine lv_sipush (v := 150) hx hb dX4_init_68 (by decide) ?_
  have ez := hP.ez hadk
  refine x_newa hx hb hK (ty := .int) (t := 0) rfl rfl (hts _ q112) (n := 150) (dv := .int 0) (by decide) (by decide) rfl (by decide) (Nat.le_of_ble_eq_true rfl) (Nat.le_of_ble_eq_true rfl) dX4_init_71 (fun H hat hz hg => ?_)
  have hO_a := hg.at hO_a
  have hS := hg.S hS
  have hP := hP.one hadk rfl rfl hat hz hg rfl
  rw [ez]
  clear ez hat hz hg
  refine p_X4_36 F hini hK hS hO_a (hA_a) (v := .ref (ad (10, 0))) rfl rfl (Nat.le_of_ble_eq_true rfl) dX4_init_73 (fun H locs hat hof hS => ?_)
  have hO_a : xat G (ad (0, 0)) (xO 4 [.ref (ad (1, 0)), .ref (ad (2, 0)), .int 0, .int 0, .ref (ad (3, 0)), .ref (ad (5, 0)), .ref (ad (6, 0)), .int 0, .ref (ad (8, 0)), .ref (ad (9, 0)), .ref (ad (10, 0)), .null, .null, .null, .null, .null, .null, .null, .null, .int 0, .null, .null, .int 0, .null, .null, .null, .null, .null, .int 0, .int 0]) H := hat
  have hP := hP.off hadk hlt hof
  refine lv_aload_n hx hb dX4_init_76 rfl (lv_at hl 0 rfl) ?_
  refine lv_sipush (v := 150) hx hb dX4_init_77 (by decide) ?_
  have ez := hP.ez hadk
  refine x_newa hx hb hK (ty := .int) (t := 0) rfl rfl (hts _ q112) (n := 150) (dv := .int 0) (by decide) (by decide) rfl (by decide) (Nat.le_of_ble_eq_true rfl) (Nat.le_of_ble_eq_true rfl) dX4_init_80 (fun H hat hz hg => ?_)
  have hO_a := hg.at hO_a
  have hS := hg.S hS
  have hP := hP.one hadk rfl rfl hat hz hg rfl
  rw [ez]
  clear ez hat hz hg
  refine p_X4_39 F hini hK hS hO_a (hA_a) (v := .ref (ad (11, 0))) rfl rfl (Nat.le_of_ble_eq_true rfl) dX4_init_82 (fun H locs hat hof hS => ?_)
  have hO_a : xat G (ad (0, 0)) (xO 4 [.ref (ad (1, 0)), .ref (ad (2, 0)), .int 0, .int 0, .ref (ad (3, 0)), .ref (ad (5, 0)), .ref (ad (6, 0)), .int 0, .ref (ad (8, 0)), .ref (ad (9, 0)), .ref (ad (10, 0)), .ref (ad (11, 0)), .null, .null, .null, .null, .null, .null, .null, .int 0, .null, .null, .int 0, .null, .null, .null, .null, .null, .int 0, .int 0]) H := hat
  have hP := hP.off hadk hlt hof
  refine lv_aload_n hx hb dX4_init_85 rfl (lv_at hl 0 rfl) ?_
  refine lv_sipush (v := 150) hx hb dX4_init_86 (by decide) ?_
  have ez := hP.ez hadk
  refine x_newa hx hb hK (ty := .int) (t := 0) rfl rfl (hts _ q112) (n := 150) (dv := .int 0) (by decide) (by decide) rfl (by decide) (Nat.le_of_ble_eq_true rfl) (Nat.le_of_ble_eq_true rfl) dX4_init_89 (fun H hat hz hg => ?_)
  have hO_a := hg.at hO_a
  have hS := hg.S hS
  have hP := hP.one hadk rfl rfl hat hz hg rfl
  rw [ez]
  clear ez hat hz hg
  refine p_X4_42 F hini hK hS hO_a (hA_a) (v := .ref (ad (12, 0))) rfl rfl (Nat.le_of_ble_eq_true rfl) dX4_init_91 (fun H locs hat hof hS => ?_)
  have hO_a : xat G (ad (0, 0)) (xO 4 [.ref (ad (1, 0)), .ref (ad (2, 0)), .int 0, .int 0, .ref (ad (3, 0)), .ref (ad (5, 0)), .ref (ad (6, 0)), .int 0, .ref (ad (8, 0)), .ref (ad (9, 0)), .ref (ad (10, 0)), .ref (ad (11, 0)), .ref (ad (12, 0)), .null, .null, .null, .null, .null, .null, .int 0, .null, .null, .int 0, .null, .null, .null, .null, .null, .int 0, .int 0]) H := hat
  have hP := hP.off hadk hlt hof
  refine lv_aload_n hx hb dX4_init_94 rfl (lv_at hl 0 rfl) ?_
  refine lv_sipush (v := 150) hx hb dX4_init_95 (by decide) ?_
  have ez := hP.ez hadk
  refine x_newa hx hb hK (ty := .char) (t := 4) rfl rfl (hts _ q1546) (n := 150) (dv := .int 0) (by decide) (by decide) rfl (by decide) (Nat.le_of_ble_eq_true rfl) (Nat.le_of_ble_eq_true rfl) dX4_init_98 (fun H hat hz hg => ?_)
  have hO_a := hg.at hO_a
  have hS := hg.S hS
  have hP := hP.one hadk rfl rfl hat hz hg rfl
  rw [ez]
  clear ez hat hz hg
  refine p_X4_45 F hini hK hS hO_a (hA_a) (v := .ref (ad (13, 0))) rfl rfl (Nat.le_of_ble_eq_true rfl) dX4_init_100 (fun H locs hat hof hS => ?_)
  have hO_a : xat G (ad (0, 0)) (xO 4 [.ref (ad (1, 0)), .ref (ad (2, 0)), .int 0, .int 0, .ref (ad (3, 0)), .ref (ad (5, 0)), .ref (ad (6, 0)), .int 0, .ref (ad (8, 0)), .ref (ad (9, 0)), .ref (ad (10, 0)), .ref (ad (11, 0)), .ref (ad (12, 0)), .ref (ad (13, 0)), .null, .null, .null, .null, .null, .int 0, .null, .null, .int 0, .null, .null, .null, .null, .null, .int 0, .int 0]) H := hat
  have hP := hP.off hadk hlt hof
  refine lv_aload_n hx hb dX4_init_103 rfl (lv_at hl 0 rfl) ?_
  refine lv_sipush (v := 150) hx hb dX4_init_104 (by decide) ?_
  have ez := hP.ez hadk
  refine x_newa hx hb hK (ty := .char) (t := 4) rfl rfl (hts _ q1546) (n := 150) (dv := .int 0) (by decide) (by decide) rfl (by decide) (Nat.le_of_ble_eq_true rfl) (Nat.le_of_ble_eq_true rfl) dX4_init_107 (fun H hat hz hg => ?_)
  have hO_a := hg.at hO_a
  have hS := hg.S hS
  have hP := hP.one hadk rfl rfl hat hz hg rfl
  rw [ez]
  clear ez hat hz hg
  refine p_X4_49 F hini hK hS hO_a (hA_a) (v := .ref (ad (14, 0))) rfl rfl (Nat.le_of_ble_eq_true rfl) dX4_init_109 (fun H locs hat hof hS => ?_)
  have hO_a : xat G (ad (0, 0)) (xO 4 [.ref (ad (1, 0)), .ref (ad (2, 0)), .int 0, .int 0, .ref (ad (3, 0)), .ref (ad (5, 0)), .ref (ad (6, 0)), .int 0, .ref (ad (8, 0)), .ref (ad (9, 0)), .ref (ad (10, 0)), .ref (ad (11, 0)), .ref (ad (12, 0)), .ref (ad (13, 0)), .ref (ad (14, 0)), .null, .null, .null, .null, .int 0, .null, .null, .int 0, .null, .null, .null, .null, .null, .int 0, .int 0]) H := hat
  have hP := hP.off hadk hlt hof
  refine lv_aload_n hx hb dX4_init_112 rfl (lv_at hl 0 rfl) ?_
  refine lv_sipush (v := 150) hx hb dX4_init_113 (by decide) ?_
  have ez := hP.ez hadk
  refine x_newa hx hb hK (ty := .int) (t := 0) rfl rfl (hts _ q112) (n := 150) (dv := .int 0) (by decide) (by decide) rfl (by decide) (Nat.le_of_ble_eq_true rfl) (Nat.le_of_ble_eq_true rfl) dX4_init_116 (fun H hat hz hg => ?_)
  have hO_a := hg.at hO_a
  have hS := hg.S hS
  have hP := hP.one hadk rfl rfl hat hz hg rfl
  rw [ez]
  clear ez hat hz hg
  refine p_X4_52 F hini hK hS hO_a (hA_a) (v := .ref (ad (15, 0))) rfl rfl (Nat.le_of_ble_eq_true rfl) dX4_init_118 (fun H locs hat hof hS => ?_)
  have hO_a : xat G (ad (0, 0)) (xO 4 [.ref (ad (1, 0)), .ref (ad (2, 0)), .int 0, .int 0, .ref (ad (3, 0)), .ref (ad (5, 0)), .ref (ad (6, 0)), .int 0, .ref (ad (8, 0)), .ref (ad (9, 0)), .ref (ad (10, 0)), .ref (ad (11, 0)), .ref (ad (12, 0)), .ref (ad (13, 0)), .ref (ad (14, 0)), .ref (ad (15, 0)), .null, .null, .null, .int 0, .null, .null, .int 0, .null, .null, .null, .null, .null, .int 0, .int 0]) H := hat
  have hP := hP.off hadk hlt hof
  refine lv_aload_n hx hb dX4_init_121 rfl (lv_at hl 0 rfl) ?_
  refine lv_sipush (v := 150) hx hb dX4_init_122 (by decide) ?_
  have ez := hP.ez hadk
  refine x_newa hx hb hK (ty := .int) (t := 0) rfl rfl (hts _ q112) (n := 150) (dv := .int 0) (by decide) (by decide) rfl (by decide) (Nat.le_of_ble_eq_true rfl) (Nat.le_of_ble_eq_true rfl) dX4_init_125 (fun H hat hz hg => ?_)
  have hO_a := hg.at hO_a
  have hS := hg.S hS
  have hP := hP.one hadk rfl rfl hat hz hg rfl
  rw [ez]
  clear ez hat hz hg
  refine p_X4_55 F hini hK hS hO_a (hA_a) (v := .ref (ad (16, 0))) rfl rfl (Nat.le_of_ble_eq_true rfl) dX4_init_127 (fun H locs hat hof hS => ?_)
  have hO_a : xat G (ad (0, 0)) (xO 4 [.ref (ad (1, 0)), .ref (ad (2, 0)), .int 0, .int 0, .ref (ad (3, 0)), .ref (ad (5, 0)), .ref (ad (6, 0)), .int 0, .ref (ad (8, 0)), .ref (ad (9, 0)), .ref (ad (10, 0)), .ref (ad (11, 0)), .ref (ad (12, 0)), .ref (ad (13, 0)), .ref (ad (14, 0)), .ref (ad (15, 0)), .ref (ad (16, 0)), .null, .null, .int 0, .null, .null, .int 0, .null, .null, .null, .null, .null, .int 0, .int 0]) H := hat
  have hP := hP.off hadk hlt hof
  refine lv_aload_n hx hb dX4_init_130 rfl (lv_at hl 0 rfl) ?_
  refine lv_sipush (v := 150) hx hb dX4_init_131 (by decide) ?_
  refine lv_iconst (v := 5) hx hb dX4_init_134 (by decide) ?_
  have ez := hP.ez hadk
  refine x_multi F hK (ty := .int) (t1 := 10) (t2 := 0) rfl rfl (hts _ q1450) (xnO2 hWK g q604) (hts _ q112) (n := 150) (k := 5) (N := 150) (M := 5) (dv := .int 0) (by decide) (by decide) (by decide) (by decide) rfl (by decide) (by decide) (by decide) rfl rfl (Nat.le_of_ble_eq_true rfl) (Nat.le_of_ble_eq_true rfl) dX4_init_135 (fun H hz hg hat hin => ?_)
  have hO_a := hg.at hO_a
  have hS := hg.S hS
  have hP := hP.grid hadk rfl rfl rfl rfl hat hin hz hg rfl (fun _ => rfl)
  rw [ez]
  clear ez hat hin hz hg
  refine p_X4_58 F hini hK hS hO_a (hA_a) (v := .ref (ad (17, 0))) rfl rfl (Nat.le_of_ble_eq_true rfl) dX4_init_139 (fun H locs hat hof hS => ?_)
  have hO_a : xat G (ad (0, 0)) (xO 4 [.ref (ad (1, 0)), .ref (ad (2, 0)), .int 0, .int 0, .ref (ad (3, 0)), .ref (ad (5, 0)), .ref (ad (6, 0)), .int 0, .ref (ad (8, 0)), .ref (ad (9, 0)), .ref (ad (10, 0)), .ref (ad (11, 0)), .ref (ad (12, 0)), .ref (ad (13, 0)), .ref (ad (14, 0)), .ref (ad (15, 0)), .ref (ad (16, 0)), .ref (ad (17, 0)), .null, .int 0, .null, .null, .int 0, .null, .null, .null, .null, .null, .int 0, .int 0]) H := hat
  have hP := hP.off hadk hlt hof
  refine lv_aload_n hx hb dX4_init_142 rfl (lv_at hl 0 rfl) ?_
  refine lv_sipush (v := 150) hx hb dX4_init_143 (by decide) ?_
  refine lv_iconst (v := 5) hx hb dX4_init_146 (by decide) ?_
  have ez := hP.ez hadk
  refine x_multi F hK (ty := .int) (t1 := 10) (t2 := 0) rfl rfl (hts _ q1450) (xnO2 hWK g q604) (hts _ q112) (n := 150) (k := 5) (N := 150) (M := 5) (dv := .int 0) (by decide) (by decide) (by decide) (by decide) rfl (by decide) (by decide) (by decide) rfl rfl (Nat.le_of_ble_eq_true rfl) (Nat.le_of_ble_eq_true rfl) dX4_init_147 (fun H hz hg hat hin => ?_)
  have hO_a := hg.at hO_a
  have hS := hg.S hS
  have hP := hP.grid hadk rfl rfl rfl rfl hat hin hz hg rfl (fun _ => rfl)
  rw [ez]
  clear ez hat hin hz hg
  refine p_X4_61 F hini hK hS hO_a (hA_a) (v := .ref (ad (19, 0))) rfl rfl (Nat.le_of_ble_eq_true rfl) dX4_init_151 (fun H locs hat hof hS => ?_)
  have hO_a : xat G (ad (0, 0)) (xO 4 [.ref (ad (1, 0)), .ref (ad (2, 0)), .int 0, .int 0, .ref (ad (3, 0)), .ref (ad (5, 0)), .ref (ad (6, 0)), .int 0, .ref (ad (8, 0)), .ref (ad (9, 0)), .ref (ad (10, 0)), .ref (ad (11, 0)), .ref (ad (12, 0)), .ref (ad (13, 0)), .ref (ad (14, 0)), .ref (ad (15, 0)), .ref (ad (16, 0)), .ref (ad (17, 0)), .ref (ad (19, 0)), .int 0, .null, .null, .int 0, .null, .null, .null, .null, .null, .int 0, .int 0]) H := hat
  have hP := hP.off hadk hlt hof
  refine lv_aload_n hx hb dX4_init_154 rfl (lv_at hl 0 rfl) ?_
  refine lv_bipush (v := 30) hx hb dX4_init_155 (by decide) ?_
  have ez := hP.ez hadk
  refine x_newa hx hb hK (ty := .int) (t := 0) rfl rfl (hts _ q112) (n := 30) (dv := .int 0) (by decide) (by decide) rfl (by decide) (Nat.le_of_ble_eq_true rfl) (Nat.le_of_ble_eq_true rfl) dX4_init_157 (fun H hat hz hg => ?_)
  have hO_a := hg.at hO_a
  have hS := hg.S hS
  have hP := hP.one hadk rfl rfl hat hz hg rfl
  rw [ez]
  clear ez hat hz hg
  refine p_X4_64 F hini hK hS hO_a (hA_a) (v := .ref (ad (21, 0))) rfl rfl (Nat.le_of_ble_eq_true rfl) dX4_init_159 (fun H locs hat hof hS => ?_)
  have hO_a : xat G (ad (0, 0)) (xO 4 [.ref (ad (1, 0)), .ref (ad (2, 0)), .int 0, .int 0, .ref (ad (3, 0)), .ref (ad (5, 0)), .ref (ad (6, 0)), .int 0, .ref (ad (8, 0)), .ref (ad (9, 0)), .ref (ad (10, 0)), .ref (ad (11, 0)), .ref (ad (12, 0)), .ref (ad (13, 0)), .ref (ad (14, 0)), .ref (ad (15, 0)), .ref (ad (16, 0)), .ref (ad (17, 0)), .ref (ad (19, 0)), .int 0, .ref (ad (21, 0)), .null, .int 0, .null, .null, .null, .null, .null, .int 0, .int 0]) H := hat
  have hP := hP.off hadk hlt hof
  refine lv_aload_n hx hb dX4_init_162 rfl (lv_at hl 0 rfl) ?_
  refine lv_bipush (v := 30) hx hb dX4_init_163 (by decide) ?_
  have ez := hP.ez hadk
  refine x_newa hx hb hK (ty := .int) (t := 0) rfl rfl (hts _ q112) (n := 30) (dv := .int 0) (by decide) (by decide) rfl (by decide) (Nat.le_of_ble_eq_true rfl) (Nat.le_of_ble_eq_true rfl) dX4_init_165 (fun H hat hz hg => ?_)
  have hO_a := hg.at hO_a
  have hS := hg.S hS
  have hP := hP.one hadk rfl rfl hat hz hg rfl
  rw [ez]
  clear ez hat hz hg
  refine p_X4_67 F hini hK hS hO_a (hA_a) (v := .ref (ad (22, 0))) rfl rfl (Nat.le_of_ble_eq_true rfl) dX4_init_167 (fun H locs hat hof hS => ?_)
  have hO_a : xat G (ad (0, 0)) (xO 4 [.ref (ad (1, 0)), .ref (ad (2, 0)), .int 0, .int 0, .ref (ad (3, 0)), .ref (ad (5, 0)), .ref (ad (6, 0)), .int 0, .ref (ad (8, 0)), .ref (ad (9, 0)), .ref (ad (10, 0)), .ref (ad (11, 0)), .ref (ad (12, 0)), .ref (ad (13, 0)), .ref (ad (14, 0)), .ref (ad (15, 0)), .ref (ad (16, 0)), .ref (ad (17, 0)), .ref (ad (19, 0)), .int 0, .ref (ad (21, 0)), .ref (ad (22, 0)), .int 0, .null, .null, .null, .null, .null, .int 0, .int 0]) H := hat
  have hP := hP.off hadk hlt hof
  refine lv_aload_n hx hb dX4_init_170 rfl (lv_at hl 0 rfl) ?_
  refine lv_iconst (v := 3) hx hb dX4_init_171 (by decide) ?_
  have ez := hP.ez hadk
  refine x_newa hx hb hK (ty := .int) (t := 0) rfl rfl (hts _ q112) (n := 3) (dv := .int 0) (by decide) (by decide) rfl (by decide) (Nat.le_of_ble_eq_true rfl) (Nat.le_of_ble_eq_true rfl) dX4_init_172 (fun H hat hz hg => ?_)
  have hO_a := hg.at hO_a
  have hS := hg.S hS
  have hP := hP.one hadk rfl rfl hat hz hg rfl
  rw [ez]
  clear ez hat hz hg
  refine p_X4_70 F hini hK hS hO_a (hA_a) (v := .ref (ad (23, 0))) rfl rfl (Nat.le_of_ble_eq_true rfl) dX4_init_174 (fun H locs hat hof hS => ?_)
  have hO_a : xat G (ad (0, 0)) (xO 4 [.ref (ad (1, 0)), .ref (ad (2, 0)), .int 0, .int 0, .ref (ad (3, 0)), .ref (ad (5, 0)), .ref (ad (6, 0)), .int 0, .ref (ad (8, 0)), .ref (ad (9, 0)), .ref (ad (10, 0)), .ref (ad (11, 0)), .ref (ad (12, 0)), .ref (ad (13, 0)), .ref (ad (14, 0)), .ref (ad (15, 0)), .ref (ad (16, 0)), .ref (ad (17, 0)), .ref (ad (19, 0)), .int 0, .ref (ad (21, 0)), .ref (ad (22, 0)), .int 0, .ref (ad (23, 0)), .null, .null, .null, .null, .int 0, .int 0]) H := hat
  have hP := hP.off hadk hlt hof
  refine lv_aload_n hx hb dX4_init_177 rfl (lv_at hl 0 rfl) ?_
  refine lv_iconst (v := 4) hx hb dX4_init_178 (by decide) ?_
  refine lv_bipush (v := 6) hx hb dX4_init_179 (by decide) ?_
  have ez := hP.ez hadk
  refine x_multi F hK (ty := .char) (t1 := 12) (t2 := 4) rfl rfl (hts _ q1452) (xnO2 hWK g q1453) (hts _ q1546) (n := 4) (k := 6) (N := 4) (M := 6) (dv := .int 0) (by decide) (by decide) (by decide) (by decide) rfl (by decide) (by decide) (by decide) rfl rfl (Nat.le_of_ble_eq_true rfl) (Nat.le_of_ble_eq_true rfl) dX4_init_181 (fun H hz hg hat hin => ?_)
  have hO_a := hg.at hO_a
  have hS := hg.S hS
  have hP := hP.grid hadk rfl rfl rfl rfl hat hin hz hg rfl (fun _ => rfl)
  rw [ez]
  clear ez hat hin hz hg
  refine p_X4_75 F hini hK hS hO_a (hA_a) (v := .ref (ad (24, 0))) rfl rfl (Nat.le_of_ble_eq_true rfl) dX4_init_185 (fun H locs hat hof hS => ?_)
  have hO_a : xat G (ad (0, 0)) (xO 4 [.ref (ad (1, 0)), .ref (ad (2, 0)), .int 0, .int 0, .ref (ad (3, 0)), .ref (ad (5, 0)), .ref (ad (6, 0)), .int 0, .ref (ad (8, 0)), .ref (ad (9, 0)), .ref (ad (10, 0)), .ref (ad (11, 0)), .ref (ad (12, 0)), .ref (ad (13, 0)), .ref (ad (14, 0)), .ref (ad (15, 0)), .ref (ad (16, 0)), .ref (ad (17, 0)), .ref (ad (19, 0)), .int 0, .ref (ad (21, 0)), .ref (ad (22, 0)), .int 0, .ref (ad (23, 0)), .ref (ad (24, 0)), .null, .null, .null, .int 0, .int 0]) H := hat
  have hP := hP.off hadk hlt hof
  refine lv_aload_n hx hb dX4_init_188 rfl (lv_at hl 0 rfl) ?_
  refine lv_iconst (v := 4) hx hb dX4_init_189 (by decide) ?_
  refine lv_bipush (v := 6) hx hb dX4_init_190 (by decide) ?_
  have ez := hP.ez hadk
  refine x_multi F hK (ty := .int) (t1 := 10) (t2 := 0) rfl rfl (hts _ q1450) (xnO2 hWK g q604) (hts _ q112) (n := 4) (k := 6) (N := 4) (M := 6) (dv := .int 0) (by decide) (by decide) (by decide) (by decide) rfl (by decide) (by decide) (by decide) rfl rfl (Nat.le_of_ble_eq_true rfl) (Nat.le_of_ble_eq_true rfl) dX4_init_192 (fun H hz hg hat hin => ?_)
  have hO_a := hg.at hO_a
  have hS := hg.S hS
  have hP := hP.grid hadk rfl rfl rfl rfl hat hin hz hg rfl (fun _ => rfl)
  rw [ez]
  clear ez hat hin hz hg
  refine p_X4_78 F hini hK hS hO_a (hA_a) (v := .ref (ad (26, 0))) rfl rfl (Nat.le_of_ble_eq_true rfl) dX4_init_196 (fun H locs hat hof hS => ?_)
  have hO_a : xat G (ad (0, 0)) (xO 4 [.ref (ad (1, 0)), .ref (ad (2, 0)), .int 0, .int 0, .ref (ad (3, 0)), .ref (ad (5, 0)), .ref (ad (6, 0)), .int 0, .ref (ad (8, 0)), .ref (ad (9, 0)), .ref (ad (10, 0)), .ref (ad (11, 0)), .ref (ad (12, 0)), .ref (ad (13, 0)), .ref (ad (14, 0)), .ref (ad (15, 0)), .ref (ad (16, 0)), .ref (ad (17, 0)), .ref (ad (19, 0)), .int 0, .ref (ad (21, 0)), .ref (ad (22, 0)), .int 0, .ref (ad (23, 0)), .ref (ad (24, 0)), .ref (ad (26, 0)), .null, .null, .int 0, .int 0]) H := hat
  have hP := hP.off hadk hlt hof
  refine lv_aload_n hx hb dX4_init_199 rfl (lv_at hl 0 rfl) ?_
  refine lv_iconst (v := 4) hx hb dX4_init_200 (by decide) ?_
  have ez := hP.ez hadk
  refine x_newa hx hb hK (ty := .int) (t := 0) rfl rfl (hts _ q112) (n := 4) (dv := .int 0) (by decide) (by decide) rfl (by decide) (Nat.le_of_ble_eq_true rfl) (Nat.le_of_ble_eq_true rfl) dX4_init_201 (fun H hat hz hg => ?_)
  have hO_a := hg.at hO_a
  have hS := hg.S hS
  have hP := hP.one hadk rfl rfl hat hz hg rfl
  rw [ez]
  clear ez hat hz hg
  refine p_X4_81 F hini hK hS hO_a (hA_a) (v := .ref (ad (28, 0))) rfl rfl (Nat.le_of_ble_eq_true rfl) dX4_init_203 (fun H locs hat hof hS => ?_)
  have hO_a : xat G (ad (0, 0)) (xO 4 [.ref (ad (1, 0)), .ref (ad (2, 0)), .int 0, .int 0, .ref (ad (3, 0)), .ref (ad (5, 0)), .ref (ad (6, 0)), .int 0, .ref (ad (8, 0)), .ref (ad (9, 0)), .ref (ad (10, 0)), .ref (ad (11, 0)), .ref (ad (12, 0)), .ref (ad (13, 0)), .ref (ad (14, 0)), .ref (ad (15, 0)), .ref (ad (16, 0)), .ref (ad (17, 0)), .ref (ad (19, 0)), .int 0, .ref (ad (21, 0)), .ref (ad (22, 0)), .int 0, .ref (ad (23, 0)), .ref (ad (24, 0)), .ref (ad (26, 0)), .ref (ad (28, 0)), .null, .int 0, .int 0]) H := hat
  have hP := hP.off hadk hlt hof
  refine lv_aload_n hx hb dX4_init_206 rfl (lv_at hl 0 rfl) ?_
  refine lv_bipush (v := 20) hx hb dX4_init_207 (by decide) ?_
  refine lv_bipush (v := 10) hx hb dX4_init_209 (by decide) ?_
  have ez := hP.ez hadk
  refine x_multi F hK (ty := .int) (t1 := 10) (t2 := 0) rfl rfl (hts _ q1450) (xnO2 hWK g q604) (hts _ q112) (n := 20) (k := 10) (N := 20) (M := 10) (dv := .int 0) (by decide) (by decide) (by decide) (by decide) rfl (by decide) (by decide) (by decide) rfl rfl (Nat.le_of_ble_eq_true rfl) (Nat.le_of_ble_eq_true rfl) dX4_init_211 (fun H hz hg hat hin => ?_)
  have hO_a := hg.at hO_a
  have hS := hg.S hS
  have hP := hP.grid hadk rfl rfl rfl rfl hat hin hz hg rfl (fun _ => rfl)
  rw [ez]
  clear ez hat hin hz hg
  refine p_X4_84 F hini hK hS hO_a (hA_a) (v := .ref (ad (29, 0))) rfl rfl (Nat.le_of_ble_eq_true rfl) dX4_init_215 (fun H locs hat hof hS => ?_)
  have hO_a : xat G (ad (0, 0)) (xO 4 [.ref (ad (1, 0)), .ref (ad (2, 0)), .int 0, .int 0, .ref (ad (3, 0)), .ref (ad (5, 0)), .ref (ad (6, 0)), .int 0, .ref (ad (8, 0)), .ref (ad (9, 0)), .ref (ad (10, 0)), .ref (ad (11, 0)), .ref (ad (12, 0)), .ref (ad (13, 0)), .ref (ad (14, 0)), .ref (ad (15, 0)), .ref (ad (16, 0)), .ref (ad (17, 0)), .ref (ad (19, 0)), .int 0, .ref (ad (21, 0)), .ref (ad (22, 0)), .int 0, .ref (ad (23, 0)), .ref (ad (24, 0)), .ref (ad (26, 0)), .ref (ad (28, 0)), .ref (ad (29, 0)), .int 0, .int 0]) H := hat
  have hP := hP.off hadk hlt hof
  have hR : xRM G A xS0 ad z H := hP.full hadk rfl rfl mps_mono rfl hO_a hlt hA_a hAh
  refine lv_iconst (v := 0) hx hb dX4_init_218 (by decide) ?_
  refine lv_istore_n (lv' := [(1, .int 0), (0, .ref (ad (0, 0)))]) hx hb dX4_init_219 rfl hl (by decide) rfl (fun ls hl => ?_)
  have L220 : ∀ (n : Nat) (k : Nat) (S1 : xS), 4 - k < n → (k ≤ 4) → (S1 = mInit k) → ∀ (H : Heap) (locs : List Loc), xRM G A S1 ad z H → va_S A s.heap H locs → ∀ (ls : Array Slot), lv_has ls 2 [(1, .int (nI k)), (0, .ref (ad (0, 0)))] → W p l e (headSpec (ws_ yX4_init cX4_init 2 none) ({ frames := 1, cells := 365, slots := 3585, locals := 30 } : Room)).room s m ([.ref (ad (0, 0))] : List Value).toArray below meth c H locs 365 3585 (MQ below (xQc none (fun _ H => ∃ ad1 : Nat × Nat → Nat, ad1 (0, 0) = (ad (0, 0)) ∧ xRM G A (mInit 4) ad1 z H) A) ([.ref (ad (0, 0))] : List Value).toArray s 365 3585 A) (F0 m 220 ls []) := by
    intro n220
    induction n220 with
    | zero =>
      intro k S1 hn220
      exact absurd hn220 (Nat.not_lt_zero _)
    | succ n220 ih220 =>
      intro k S1 hn220 hk4 eS H locs hR hS ls hl
      refine lv_iload_n hx hb dX4_init_220 rfl (lv_at hl 0 rfl) ?_
      refine lv_iconst (v := 4) hx hb dX4_init_221 (by decide) ?_
      refine xn_ge (tgt := 248) k 4 rfl (by decide) (by omega) (by omega) hx hb dX4_init_222 (by decide) (fun c_222 => ?_) (fun c_222 => ?_)
      · have hk9 : k = 4 := (by omega)
        subst hk9
        exact xr_Cv hx hb hr hlocks (⟨ad, rfl, by rw [← eS]; exact hR⟩) hS (by first | omega | decide) (by first | omega | decide) dX4_init_248
      · refine lv_aload_n hx hb dX4_init_225 rfl (lv_at hl 1 rfl) ?_
        refine g_X4_75 F hK (mw_0 hR) (v := .ref (ad (24, 0))) rfl dX4_init_226 ?_
        refine lv_iload_n hx hb dX4_init_229 rfl (lv_at hl 0 rfl) ?_
        refine x_aald hx hb hK (mw_24 hR) rfl rfl (v := .ref (ad (25, k))) (xi_nI (n := 4) (by omega) (by omega)) (rfl) dX4_init_230 ?_
        refine lv_iconst (v := 0) hx hb dX4_init_231 (by decide) ?_
        refine lv_bipush (v := 114) hx hb dX4_init_232 (by decide) ?_
        refine x_cast hx hb hK hS (mw_25 hR (by omega)) (ma_25 hR (by omega)) (⟨by unfold vp_in; decide, by decide⟩ : xi 0 0 6) rfl dX4_init_234 (fun H locs hat hof hS => ?_)
        have hR := ms_25_a hR (by omega) hof hat
        refine lv_aload_n hx hb dX4_init_235 rfl (lv_at hl 1 rfl) ?_
        refine g_X4_81 F hK (mw_0 hR) (v := .ref (ad (28, 0))) rfl dX4_init_236 ?_
        refine lv_iload_n hx hb dX4_init_239 rfl (lv_at hl 0 rfl) ?_
        refine lv_iconst (v := 1) hx hb dX4_init_240 (by decide) ?_
        refine x_topi (show (1 : Int32) = nI 1 by decide) ?_
        refine x_iast hx hb hK hS (mw_28 hR) (ma_28 hR) (xi_nI (n := 4) (by omega) (by omega)) dX4_init_241 (fun H locs hat hof hS => ?_)
        have hR := ms_28_a hR hof hat
        refine lv_iinc (v := nI (k + 1)) (lv' := [(1, .int (nI (k + 1))), (0, .ref (ad (0, 0)))]) hx hb dX4_init_242 hl (k := 0) rfl (nI_1 _) (by decide) rfl (fun ls hl => ?_)
        refine lv_goto (tgt := 220) hx hb dX4_init_245 (by decide) ?_
        exact ih220 (k + 1) (sN (sF S1 24 k 0 114) 5 k 1) (by omega) (by omega) (by rw [eS]; rfl) _ _ hR hS ls (lv_sub hl [0, 1] rfl)
  exact L220 5 0 xS0 (by omega) (by omega) rfl _ _ hR hS ls (lv_sub hl [0, 1] rfl)

