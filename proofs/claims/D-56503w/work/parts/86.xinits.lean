/-! contracts (printed by gen/mx13.py) -/
set_option maxRecDepth 100000
set_option maxHeartbeats 4000000 in
theorem xJ0_init {l : Launch} {G : xG} {s0 : State} {b0 : Nat} (g1 : xG1 l G s0 b0) {A : Nat → Prop} (q : Nat) : Met l yJ0_init (ws_ yJ0_init cJ0_init 1 none) ({ frames := 1, cells := 0, slots := 0, locals := 30 } : Room) (xP s0 A [.ref q] (fun H => True)) (xQp none) 0 0 (fun _ => False) := by
  refine Met.ofW (cc := cJ0_init) (maxL := 1) (ret := none) (by decide) rfl ?_
  intro p e s m args below meth c s₁ B hml hv
  obtain ⟨rfl, hWK, hR⟩ := hv
  have g := g1.1
  have hx := B.exec
  have hb := B.bytes
  have hr := B.returns
  have hts := atoms_spec (ws := ws_ yJ0_init cJ0_init 1 none) B.pre
  have hts : ∀ w ∈ lw_all, w.before _ s = true := fun w h => hts w (List.mem_cons_of_mem _ h)
  have hown : s.vm.findClass "java/util/AbstractCollection" = some m.cls := findClass_of_methodNamed B.named
  have hlocks := B.notSynchronized
  have hK := hWK.K g
  have F : CallFix p m c cJ0_init 1 s _ lw_all "java/util/AbstractCollection" := ⟨hx, hb, hml, hown, hts⟩
  have hS : va_S A s.heap s.heap [] := va_S.rf
  have hl := lv_entry ([.ref q]) (n := 1) (Nat.le_of_ble_eq_true rfl)
  rw [lg_entry_eq]
  generalize (lg_sl ([.ref q]) ++ List.replicate (1 - (lg_sl ([.ref q])).length) Slot.unset).toArray = ls at hl ⊢
  have hl : lv_has ls 1 [(0, .ref q)] := hl
  refine lv_aload_n hx hb dJ0_init_0 rfl (lv_at hl 0 rfl) ?_
  refine W.objInit hx hb hown (hts _ q124) (hts _ q98) (hts _ q99) rfl (by rw [hml]; exact hl.1) rfl dJ0_init_1 (Nat.le_of_ble_eq_true rfl) (Nat.le_of_ble_eq_true rfl) ?_
  exact xr_Pv hx hb hr hlocks dJ0_init_4

set_option maxHeartbeats 4000000 in
theorem xJ1_init {l : Launch} {G : xG} {s0 : State} {b0 : Nat} (g1 : xG1 l G s0 b0) {A : Nat → Prop} (q : Nat) : Met l yJ1_init (ws_ yJ1_init cJ1_init 1 none) ({ frames := 2, cells := 0, slots := 0, locals := 50 } : Room) (xP s0 A [.ref q] (fun H => xat G q (xO 2 [.int 0, .null, .int 0]) H ∧ A q)) (xQc none (fun H0 H1 => xat G q (xO 2 [.int 0, .null, .int 0]) H1 ∧ xOG q 0 H0 H1) A) 0 0 A := by
  refine Met.ofW (cc := cJ1_init) (maxL := 1) (ret := none) (by decide) rfl ?_
  intro p e s m args below meth c s₁ B hml hv
  obtain ⟨rfl, hWK, hR⟩ := hv
  have g := g1.1
  have hx := B.exec
  have hb := B.bytes
  have hr := B.returns
  have hts := atoms_spec (ws := ws_ yJ1_init cJ1_init 1 none) B.pre
  have hts : ∀ w ∈ lw_all, w.before _ s = true := fun w h => hts w (List.mem_cons_of_mem _ h)
  have hown : s.vm.findClass "java/util/AbstractList" = some m.cls := findClass_of_methodNamed B.named
  have hlocks := B.notSynchronized
  have hK := hWK.K g
  have F : CallFix p m c cJ1_init 1 s _ lw_all "java/util/AbstractList" := ⟨hx, hb, hml, hown, hts⟩
  have hS : va_S A s.heap s.heap [] := va_S.rf
  have hl := lv_entry ([.ref q]) (n := 1) (Nat.le_of_ble_eq_true rfl)
  rw [lg_entry_eq]
  generalize (lg_sl ([.ref q]) ++ List.replicate (1 - (lg_sl ([.ref q])).length) Slot.unset).toArray = ls at hl ⊢
  have hl : lv_has ls 1 [(0, .ref q)] := hl
  obtain ⟨hO_q, hA_q⟩ := hR
  have hX : xOG q 0 s.heap s.heap := xOG.rf
  have hini : meth.name = "<init>" := (name_of_methodNamed B.named B.method).1
  have hAh : ∀ q, s.heap.size ≤ q → A q := hWK.2.2.2.1
  have hql := hO_q.lt
  refine lv_aload_n hx hb dJ1_init_0 rfl (lv_at hl 0 rfl) ?_
  refine xc_P0 (va_runI (As := []) (rest := []) F (xJ0_init g1 (A := A) q) (xcI 0 hts q121 q122 q58 q123 rfl (by decide +kernel) ⟨Nat.le_of_ble_eq_true rfl, Nat.le_of_ble_eq_true rfl⟩) (xpre hWK hS trivial) rfl rfl hl.1 rfl (lv_room (Nat.le_of_ble_eq_true rfl)) dJ1_init_1 ⟨Nat.le_of_ble_eq_true rfl, Nat.le_of_ble_eq_true rfl⟩) ?_
  refine lv_aload_n hx hb dJ1_init_4 rfl (lv_at hl 0 rfl) ?_
  refine lv_iconst (v := 0) hx hb dJ1_init_5 (by decide) ?_
  refine p_J1_7 F hK hS hO_q (hA_q) (v := .int 0) rfl rfl (Nat.le_of_ble_eq_true rfl) dJ1_init_6 (fun H locs hat hof hS => ?_)
  have hO_q : xat G q (xO 2 [.int 0, .null, .int 0]) H := hat
  have hX := hX.put hof
  exact xr_Cv hx hb hr hlocks (⟨hO_q, hX⟩) hS (by first | omega | decide) (by first | omega | decide) dJ1_init_9

set_option maxHeartbeats 4000000 in
theorem xJ2_init_6 {l : Launch} {G : xG} {s0 : State} {b0 : Nat} (g1 : xG1 l G s0 b0) {A : Nat → Prop} (q : Nat) : Met l yJ2_init (ws_ yJ2_init cJ2_init 2 none) ({ frames := 3, cells := 1, slots := 6, locals := 70 } : Room) (xP s0 A [.ref q, .int 6] (fun H => xat G q (xO 2 [.int 0, .null, .int 0]) H ∧ A q)) (xQc none (fun H0 H1 => xat G (Array.size H0) (xA 5 6 (fun _ => .null)) H1 ∧ xat G q (xO 2 [.int 0, .ref (Array.size H0), .int 0]) H1 ∧ xOG q 1 H0 H1) A) 1 6 A := by
  refine Met.ofW (cc := cJ2_init) (maxL := 2) (ret := none) (by decide) rfl ?_
  intro p e s m args below meth c s₁ B hml hv
  obtain ⟨rfl, hWK, hR⟩ := hv
  have g := g1.1
  have hx := B.exec
  have hb := B.bytes
  have hr := B.returns
  have hts := atoms_spec (ws := ws_ yJ2_init cJ2_init 2 none) B.pre
  have hts : ∀ w ∈ lw_all, w.before _ s = true := fun w h => hts w (List.mem_cons_of_mem _ h)
  have hown : s.vm.findClass "java/util/ArrayList" = some m.cls := findClass_of_methodNamed B.named
  have hlocks := B.notSynchronized
  have hK := hWK.K g
  have F : CallFix p m c cJ2_init 2 s _ lw_all "java/util/ArrayList" := ⟨hx, hb, hml, hown, hts⟩
  have hS : va_S A s.heap s.heap [] := va_S.rf
  have hl := lv_entry ([.ref q, .int 6]) (n := 2) (Nat.le_of_ble_eq_true rfl)
  rw [lg_entry_eq]
  generalize (lg_sl ([.ref q, .int 6]) ++ List.replicate (2 - (lg_sl ([.ref q, .int 6])).length) Slot.unset).toArray = ls at hl ⊢
  have hl : lv_has ls 2 [(0, .ref q), (1, .int 6)] := hl
  obtain ⟨hO_q, hA_q⟩ := hR
  have hX : xOG q 0 s.heap s.heap := xOG.rf
  have hini : meth.name = "<init>" := (name_of_methodNamed B.named B.method).1
  have hAh : ∀ q, s.heap.size ≤ q → A q := hWK.2.2.2.1
  have hql := hO_q.lt
  refine lv_aload_n hx hb dJ2_init_0 rfl (lv_at hl 0 rfl) ?_
  refine xc_C0 (va_runI (As := []) (rest := []) F (xJ1_init g1 (A := A) q) (xcI 0 hts q118 q119 q59 q120 rfl (by decide +kernel) ⟨Nat.le_of_ble_eq_true rfl, Nat.le_of_ble_eq_true rfl⟩) (xpre hWK hS ⟨hO_q, hA_q⟩) rfl rfl hl.1 rfl (lv_room (Nat.le_of_ble_eq_true rfl)) dJ2_init_1 ⟨Nat.le_of_ble_eq_true rfl, Nat.le_of_ble_eq_true rfl⟩) hS (fun H locs hR1 hz hk hS => ?_)
  obtain ⟨hO_q, h9⟩ := hR1
  have hX := hX.call h9
  clear h9 hz hk
  refine lv_iload_n hx hb dJ2_init_4 rfl (lv_at hl 1 rfl) ?_
  refine lv_if_le (tgt := 19) hx hb dJ2_init_5 (by decide) (fun c_5 => (by first | exact absurd c_5 (by decide) | exact absurd (by decide) c_5)) (fun c_5 => ?_)
  refine lv_aload_n hx hb dJ2_init_8 rfl (lv_at hl 0 rfl) ?_
  refine lv_iload_n hx hb dJ2_init_9 rfl (lv_at hl 1 rfl) ?_
  have hz0 := hX.1
  refine x_newq F hK (C := "java/lang/Object") (t := 5) rfl (hts _ q125) (xnO hWK g q126) (n := 6) (by decide) (by decide) (by decide) (Nat.le_of_ble_eq_true rfl) (Nat.le_of_ble_eq_true rfl) dJ2_init_10 (fun H1 hat_t hz hg => ?_)
  have hS := hg.S hS
  have hO_q := hg.at hO_q
  have hX := hX.new hz hg
  have hA_t := hAh (Array.size H) (by omega)
  clear hz hg
  generalize Array.size H = t at hat_t hA_t hz0 ⊢
  have hz_t : t = s.heap.size + 0 := hz0
  generalize H1 = H at hat_t hO_q hX hS ⊢
  refine p_J2_9 F hK hS hO_q (hA_q) (v := .ref t) rfl rfl (Nat.le_of_ble_eq_true rfl) dJ2_init_13 (fun H locs hat hof hS => ?_)
  have hO_q : xat G q (xO 2 [.int 0, .ref t, .int 0]) H := hat
  have hX := hX.put hof
  have hat_t := hof.at hat_t (by omega)
  refine lv_goto (tgt := 60) hx hb dJ2_init_16 (by decide) ?_
  have hz_t : t = s.heap.size := hz_t
  subst hz_t
  exact xr_Cv hx hb hr hlocks (⟨hat_t, hO_q, hX⟩) hS (by first | omega | decide) (by first | omega | decide) dJ2_init_60

set_option maxHeartbeats 4000000 in
theorem xJ2_init_10 {l : Launch} {G : xG} {s0 : State} {b0 : Nat} (g1 : xG1 l G s0 b0) {A : Nat → Prop} (q : Nat) : Met l yJ2_init (ws_ yJ2_init cJ2_init 2 none) ({ frames := 3, cells := 1, slots := 10, locals := 70 } : Room) (xP s0 A [.ref q, .int 10] (fun H => xat G q (xO 2 [.int 0, .null, .int 0]) H ∧ A q)) (xQc none (fun H0 H1 => xat G (Array.size H0) (xA 5 10 (fun _ => .null)) H1 ∧ xat G q (xO 2 [.int 0, .ref (Array.size H0), .int 0]) H1 ∧ xOG q 1 H0 H1) A) 1 10 A := by
  refine Met.ofW (cc := cJ2_init) (maxL := 2) (ret := none) (by decide) rfl ?_
  intro p e s m args below meth c s₁ B hml hv
  obtain ⟨rfl, hWK, hR⟩ := hv
  have g := g1.1
  have hx := B.exec
  have hb := B.bytes
  have hr := B.returns
  have hts := atoms_spec (ws := ws_ yJ2_init cJ2_init 2 none) B.pre
  have hts : ∀ w ∈ lw_all, w.before _ s = true := fun w h => hts w (List.mem_cons_of_mem _ h)
  have hown : s.vm.findClass "java/util/ArrayList" = some m.cls := findClass_of_methodNamed B.named
  have hlocks := B.notSynchronized
  have hK := hWK.K g
  have F : CallFix p m c cJ2_init 2 s _ lw_all "java/util/ArrayList" := ⟨hx, hb, hml, hown, hts⟩
  have hS : va_S A s.heap s.heap [] := va_S.rf
  have hl := lv_entry ([.ref q, .int 10]) (n := 2) (Nat.le_of_ble_eq_true rfl)
  rw [lg_entry_eq]
  generalize (lg_sl ([.ref q, .int 10]) ++ List.replicate (2 - (lg_sl ([.ref q, .int 10])).length) Slot.unset).toArray = ls at hl ⊢
  have hl : lv_has ls 2 [(0, .ref q), (1, .int 10)] := hl
  obtain ⟨hO_q, hA_q⟩ := hR
  have hX : xOG q 0 s.heap s.heap := xOG.rf
  have hini : meth.name = "<init>" := (name_of_methodNamed B.named B.method).1
  have hAh : ∀ q, s.heap.size ≤ q → A q := hWK.2.2.2.1
  have hql := hO_q.lt
  refine lv_aload_n hx hb dJ2_init_0 rfl (lv_at hl 0 rfl) ?_
  refine xc_C0 (va_runI (As := []) (rest := []) F (xJ1_init g1 (A := A) q) (xcI 0 hts q118 q119 q59 q120 rfl (by decide +kernel) ⟨Nat.le_of_ble_eq_true rfl, Nat.le_of_ble_eq_true rfl⟩) (xpre hWK hS ⟨hO_q, hA_q⟩) rfl rfl hl.1 rfl (lv_room (Nat.le_of_ble_eq_true rfl)) dJ2_init_1 ⟨Nat.le_of_ble_eq_true rfl, Nat.le_of_ble_eq_true rfl⟩) hS (fun H locs hR1 hz hk hS => ?_)
  obtain ⟨hO_q, h9⟩ := hR1
  have hX := hX.call h9
  clear h9 hz hk
  refine lv_iload_n hx hb dJ2_init_4 rfl (lv_at hl 1 rfl) ?_
  refine lv_if_le (tgt := 19) hx hb dJ2_init_5 (by decide) (fun c_5 => (by first | exact absurd c_5 (by decide) | exact absurd (by decide) c_5)) (fun c_5 => ?_)
  refine lv_aload_n hx hb dJ2_init_8 rfl (lv_at hl 0 rfl) ?_
  refine lv_iload_n hx hb dJ2_init_9 rfl (lv_at hl 1 rfl) ?_
  have hz0 := hX.1
  refine x_newq F hK (C := "java/lang/Object") (t := 5) rfl (hts _ q125) (xnO hWK g q126) (n := 10) (by decide) (by decide) (by decide) (Nat.le_of_ble_eq_true rfl) (Nat.le_of_ble_eq_true rfl) dJ2_init_10 (fun H1 hat_t hz hg => ?_)
  have hS := hg.S hS
  have hO_q := hg.at hO_q
  have hX := hX.new hz hg
  have hA_t := hAh (Array.size H) (by omega)
  clear hz hg
  generalize Array.size H = t at hat_t hA_t hz0 ⊢
  have hz_t : t = s.heap.size + 0 := hz0
  generalize H1 = H at hat_t hO_q hX hS ⊢
  refine p_J2_9 F hK hS hO_q (hA_q) (v := .ref t) rfl rfl (Nat.le_of_ble_eq_true rfl) dJ2_init_13 (fun H locs hat hof hS => ?_)
  have hO_q : xat G q (xO 2 [.int 0, .ref t, .int 0]) H := hat
  have hX := hX.put hof
  have hat_t := hof.at hat_t (by omega)
  refine lv_goto (tgt := 60) hx hb dJ2_init_16 (by decide) ?_
  have hz_t : t = s.heap.size := hz_t
  subst hz_t
  exact xr_Cv hx hb hr hlocks (⟨hat_t, hO_q, hX⟩) hS (by first | omega | decide) (by first | omega | decide) dJ2_init_60

set_option maxHeartbeats 4000000 in
theorem xJ2_init_150 {l : Launch} {G : xG} {s0 : State} {b0 : Nat} (g1 : xG1 l G s0 b0) {A : Nat → Prop} (q : Nat) : Met l yJ2_init (ws_ yJ2_init cJ2_init 2 none) ({ frames := 3, cells := 1, slots := 150, locals := 70 } : Room) (xP s0 A [.ref q, .int 150] (fun H => xat G q (xO 2 [.int 0, .null, .int 0]) H ∧ A q)) (xQc none (fun H0 H1 => xat G (Array.size H0) (xA 5 150 (fun _ => .null)) H1 ∧ xat G q (xO 2 [.int 0, .ref (Array.size H0), .int 0]) H1 ∧ xOG q 1 H0 H1) A) 1 150 A := by
  refine Met.ofW (cc := cJ2_init) (maxL := 2) (ret := none) (by decide) rfl ?_
  intro p e s m args below meth c s₁ B hml hv
  obtain ⟨rfl, hWK, hR⟩ := hv
  have g := g1.1
  have hx := B.exec
  have hb := B.bytes
  have hr := B.returns
  have hts := atoms_spec (ws := ws_ yJ2_init cJ2_init 2 none) B.pre
  have hts : ∀ w ∈ lw_all, w.before _ s = true := fun w h => hts w (List.mem_cons_of_mem _ h)
  have hown : s.vm.findClass "java/util/ArrayList" = some m.cls := findClass_of_methodNamed B.named
  have hlocks := B.notSynchronized
  have hK := hWK.K g
  have F : CallFix p m c cJ2_init 2 s _ lw_all "java/util/ArrayList" := ⟨hx, hb, hml, hown, hts⟩
  have hS : va_S A s.heap s.heap [] := va_S.rf
  have hl := lv_entry ([.ref q, .int 150]) (n := 2) (Nat.le_of_ble_eq_true rfl)
  rw [lg_entry_eq]
  generalize (lg_sl ([.ref q, .int 150]) ++ List.replicate (2 - (lg_sl ([.ref q, .int 150])).length) Slot.unset).toArray = ls at hl ⊢
  have hl : lv_has ls 2 [(0, .ref q), (1, .int 150)] := hl
  obtain ⟨hO_q, hA_q⟩ := hR
  have hX : xOG q 0 s.heap s.heap := xOG.rf
  have hini : meth.name = "<init>" := (name_of_methodNamed B.named B.method).1
  have hAh : ∀ q, s.heap.size ≤ q → A q := hWK.2.2.2.1
  have hql := hO_q.lt
  refine lv_aload_n hx hb dJ2_init_0 rfl (lv_at hl 0 rfl) ?_
  refine xc_C0 (va_runI (As := []) (rest := []) F (xJ1_init g1 (A := A) q) (xcI 0 hts q118 q119 q59 q120 rfl (by decide +kernel) ⟨Nat.le_of_ble_eq_true rfl, Nat.le_of_ble_eq_true rfl⟩) (xpre hWK hS ⟨hO_q, hA_q⟩) rfl rfl hl.1 rfl (lv_room (Nat.le_of_ble_eq_true rfl)) dJ2_init_1 ⟨Nat.le_of_ble_eq_true rfl, Nat.le_of_ble_eq_true rfl⟩) hS (fun H locs hR1 hz hk hS => ?_)
  obtain ⟨hO_q, h9⟩ := hR1
  have hX := hX.call h9
  clear h9 hz hk
  refine lv_iload_n hx hb dJ2_init_4 rfl (lv_at hl 1 rfl) ?_
  refine lv_if_le (tgt := 19) hx hb dJ2_init_5 (by decide) (fun c_5 => (by first | exact absurd c_5 (by decide) | exact absurd (by decide) c_5)) (fun c_5 => ?_)
  refine lv_aload_n hx hb dJ2_init_8 rfl (lv_at hl 0 rfl) ?_
  refine lv_iload_n hx hb dJ2_init_9 rfl (lv_at hl 1 rfl) ?_
  have hz0 := hX.1
  refine x_newq F hK (C := "java/lang/Object") (t := 5) rfl (hts _ q125) (xnO hWK g q126) (n := 150) (by decide) (by decide) (by decide) (Nat.le_of_ble_eq_true rfl) (Nat.le_of_ble_eq_true rfl) dJ2_init_10 (fun H1 hat_t hz hg => ?_)
  have hS := hg.S hS
  have hO_q := hg.at hO_q
  have hX := hX.new hz hg
  have hA_t := hAh (Array.size H) (by omega)
  clear hz hg
  generalize Array.size H = t at hat_t hA_t hz0 ⊢
  have hz_t : t = s.heap.size + 0 := hz0
  generalize H1 = H at hat_t hO_q hX hS ⊢
  refine p_J2_9 F hK hS hO_q (hA_q) (v := .ref t) rfl rfl (Nat.le_of_ble_eq_true rfl) dJ2_init_13 (fun H locs hat hof hS => ?_)
  have hO_q : xat G q (xO 2 [.int 0, .ref t, .int 0]) H := hat
  have hX := hX.put hof
  have hat_t := hof.at hat_t (by omega)
  refine lv_goto (tgt := 60) hx hb dJ2_init_16 (by decide) ?_
  have hz_t : t = s.heap.size := hz_t
  subst hz_t
  exact xr_Cv hx hb hr hlocks (⟨hat_t, hO_q, hX⟩) hS (by first | omega | decide) (by first | omega | decide) dJ2_init_60

set_option maxHeartbeats 4000000 in
theorem xJ2_init_30 {l : Launch} {G : xG} {s0 : State} {b0 : Nat} (g1 : xG1 l G s0 b0) {A : Nat → Prop} (q : Nat) : Met l yJ2_init (ws_ yJ2_init cJ2_init 2 none) ({ frames := 3, cells := 1, slots := 30, locals := 70 } : Room) (xP s0 A [.ref q, .int 30] (fun H => xat G q (xO 2 [.int 0, .null, .int 0]) H ∧ A q)) (xQc none (fun H0 H1 => xat G (Array.size H0) (xA 5 30 (fun _ => .null)) H1 ∧ xat G q (xO 2 [.int 0, .ref (Array.size H0), .int 0]) H1 ∧ xOG q 1 H0 H1) A) 1 30 A := by
  refine Met.ofW (cc := cJ2_init) (maxL := 2) (ret := none) (by decide) rfl ?_
  intro p e s m args below meth c s₁ B hml hv
  obtain ⟨rfl, hWK, hR⟩ := hv
  have g := g1.1
  have hx := B.exec
  have hb := B.bytes
  have hr := B.returns
  have hts := atoms_spec (ws := ws_ yJ2_init cJ2_init 2 none) B.pre
  have hts : ∀ w ∈ lw_all, w.before _ s = true := fun w h => hts w (List.mem_cons_of_mem _ h)
  have hown : s.vm.findClass "java/util/ArrayList" = some m.cls := findClass_of_methodNamed B.named
  have hlocks := B.notSynchronized
  have hK := hWK.K g
  have F : CallFix p m c cJ2_init 2 s _ lw_all "java/util/ArrayList" := ⟨hx, hb, hml, hown, hts⟩
  have hS : va_S A s.heap s.heap [] := va_S.rf
  have hl := lv_entry ([.ref q, .int 30]) (n := 2) (Nat.le_of_ble_eq_true rfl)
  rw [lg_entry_eq]
  generalize (lg_sl ([.ref q, .int 30]) ++ List.replicate (2 - (lg_sl ([.ref q, .int 30])).length) Slot.unset).toArray = ls at hl ⊢
  have hl : lv_has ls 2 [(0, .ref q), (1, .int 30)] := hl
  obtain ⟨hO_q, hA_q⟩ := hR
  have hX : xOG q 0 s.heap s.heap := xOG.rf
  have hini : meth.name = "<init>" := (name_of_methodNamed B.named B.method).1
  have hAh : ∀ q, s.heap.size ≤ q → A q := hWK.2.2.2.1
  have hql := hO_q.lt
  refine lv_aload_n hx hb dJ2_init_0 rfl (lv_at hl 0 rfl) ?_
  refine xc_C0 (va_runI (As := []) (rest := []) F (xJ1_init g1 (A := A) q) (xcI 0 hts q118 q119 q59 q120 rfl (by decide +kernel) ⟨Nat.le_of_ble_eq_true rfl, Nat.le_of_ble_eq_true rfl⟩) (xpre hWK hS ⟨hO_q, hA_q⟩) rfl rfl hl.1 rfl (lv_room (Nat.le_of_ble_eq_true rfl)) dJ2_init_1 ⟨Nat.le_of_ble_eq_true rfl, Nat.le_of_ble_eq_true rfl⟩) hS (fun H locs hR1 hz hk hS => ?_)
  obtain ⟨hO_q, h9⟩ := hR1
  have hX := hX.call h9
  clear h9 hz hk
  refine lv_iload_n hx hb dJ2_init_4 rfl (lv_at hl 1 rfl) ?_
  refine lv_if_le (tgt := 19) hx hb dJ2_init_5 (by decide) (fun c_5 => (by first | exact absurd c_5 (by decide) | exact absurd (by decide) c_5)) (fun c_5 => ?_)
  refine lv_aload_n hx hb dJ2_init_8 rfl (lv_at hl 0 rfl) ?_
  refine lv_iload_n hx hb dJ2_init_9 rfl (lv_at hl 1 rfl) ?_
  have hz0 := hX.1
  refine x_newq F hK (C := "java/lang/Object") (t := 5) rfl (hts _ q125) (xnO hWK g q126) (n := 30) (by decide) (by decide) (by decide) (Nat.le_of_ble_eq_true rfl) (Nat.le_of_ble_eq_true rfl) dJ2_init_10 (fun H1 hat_t hz hg => ?_)
  have hS := hg.S hS
  have hO_q := hg.at hO_q
  have hX := hX.new hz hg
  have hA_t := hAh (Array.size H) (by omega)
  clear hz hg
  generalize Array.size H = t at hat_t hA_t hz0 ⊢
  have hz_t : t = s.heap.size + 0 := hz0
  generalize H1 = H at hat_t hO_q hX hS ⊢
  refine p_J2_9 F hK hS hO_q (hA_q) (v := .ref t) rfl rfl (Nat.le_of_ble_eq_true rfl) dJ2_init_13 (fun H locs hat hof hS => ?_)
  have hO_q : xat G q (xO 2 [.int 0, .ref t, .int 0]) H := hat
  have hX := hX.put hof
  have hat_t := hof.at hat_t (by omega)
  refine lv_goto (tgt := 60) hx hb dJ2_init_16 (by decide) ?_
  have hz_t : t = s.heap.size := hz_t
  subst hz_t
  exact xr_Cv hx hb hr hlocks (⟨hat_t, hO_q, hX⟩) hS (by first | omega | decide) (by first | omega | decide) dJ2_init_60

set_option maxHeartbeats 4000000 in
theorem xX2_init {l : Launch} {G : xG} {s0 : State} {b0 : Nat} (g1 : xG1 l G s0 b0) {A : Nat → Prop} (q th : Nat) : Met l yX2_init (ws_ yX2_init cX2_init 2 none) ({ frames := 1, cells := 0, slots := 0, locals := 30 } : Room) (xP s0 A [.ref q, .ref th] (fun H => xat G q (xO 1 [.null]) H ∧ A q)) (xQc none (fun H0 H1 => xat G q (xO 1 [.ref th]) H1 ∧ xOG q 0 H0 H1) A) 0 0 A := by
  refine Met.ofW (cc := cX2_init) (maxL := 2) (ret := none) (by decide) rfl ?_
  intro p e s m args below meth c s₁ B hml hv
  obtain ⟨rfl, hWK, hR⟩ := hv
  have g := g1.1
  have hx := B.exec
  have hb := B.bytes
  have hr := B.returns
  have hts := atoms_spec (ws := ws_ yX2_init cX2_init 2 none) B.pre
  have hts : ∀ w ∈ lw_all, w.before _ s = true := fun w h => hts w (List.mem_cons_of_mem _ h)
  have hown : s.vm.findClass "Lendlathe$1" = some m.cls := findClass_of_methodNamed B.named
  have hlocks := B.notSynchronized
  have hK := hWK.K g
  have F : CallFix p m c cX2_init 2 s _ lw_all "Lendlathe$1" := ⟨hx, hb, hml, hown, hts⟩
  have hS : va_S A s.heap s.heap [] := va_S.rf
  have hl := lv_entry ([.ref q, .ref th]) (n := 2) (Nat.le_of_ble_eq_true rfl)
  rw [lg_entry_eq]
  generalize (lg_sl ([.ref q, .ref th]) ++ List.replicate (2 - (lg_sl ([.ref q, .ref th])).length) Slot.unset).toArray = ls at hl ⊢
  have hl : lv_has ls 2 [(0, .ref q), (1, .ref th)] := hl
  obtain ⟨hO_q, hA_q⟩ := hR
  have hX : xOG q 0 s.heap s.heap := xOG.rf
  have hini : meth.name = "<init>" := (name_of_methodNamed B.named B.method).1
  have hAh : ∀ q, s.heap.size ≤ q → A q := hWK.2.2.2.1
  have hql := hO_q.lt
  refine lv_aload_n hx hb dX2_init_0 rfl (lv_at hl 0 rfl) ?_
  refine lv_aload_n hx hb dX2_init_1 rfl (lv_at hl 1 rfl) ?_
  refine p_X2_1 F hini hK hS hO_q (hA_q) (v := .ref th) rfl rfl (Nat.le_of_ble_eq_true rfl) dX2_init_2 (fun H locs hat hof hS => ?_)
  have hO_q : xat G q (xO 1 [.ref th]) H := hat
  have hX := hX.put hof
  refine lv_aload_n hx hb dX2_init_5 rfl (lv_at hl 0 rfl) ?_
  refine W.objInit hx hb hown (hts _ q107) (hts _ q98) (hts _ q99) rfl (by rw [hml]; exact hl.1) rfl dX2_init_6 (Nat.le_of_ble_eq_true rfl) (Nat.le_of_ble_eq_true rfl) ?_
  exact xr_Cv hx hb hr hlocks (⟨hO_q, hX⟩) hS (by first | omega | decide) (by first | omega | decide) dX2_init_9

set_option maxHeartbeats 4000000 in
theorem xX3_init {l : Launch} {G : xG} {s0 : State} {b0 : Nat} (g1 : xG1 l G s0 b0) {A : Nat → Prop} (q th : Nat) : Met l yX3_init (ws_ yX3_init cX3_init 2 none) ({ frames := 1, cells := 1, slots := 150, locals := 30 } : Room) (xP s0 A [.ref q, .ref th] (fun H => xat G q (xO 3 [.null, .int 0, .int 0, .null]) H ∧ A q)) (xQc none (fun H0 H1 => xat G (Array.size H0) (xA 8 150 (fun _ => .null)) H1 ∧ xat G q (xO 3 [.ref (Array.size H0), .int 0, .int 0, .ref th]) H1 ∧ xOG q 1 H0 H1) A) 1 150 A := by
  refine Met.ofW (cc := cX3_init) (maxL := 2) (ret := none) (by decide) rfl ?_
  intro p e s m args below meth c s₁ B hml hv
  obtain ⟨rfl, hWK, hR⟩ := hv
  have g := g1.1
  have hx := B.exec
  have hb := B.bytes
  have hr := B.returns
  have hts := atoms_spec (ws := ws_ yX3_init cX3_init 2 none) B.pre
  have hts : ∀ w ∈ lw_all, w.before _ s = true := fun w h => hts w (List.mem_cons_of_mem _ h)
  have hown : s.vm.findClass "Lendlathe$Walk" = some m.cls := findClass_of_methodNamed B.named
  have hlocks := B.notSynchronized
  have hK := hWK.K g
  have F : CallFix p m c cX3_init 2 s _ lw_all "Lendlathe$Walk" := ⟨hx, hb, hml, hown, hts⟩
  have hS : va_S A s.heap s.heap [] := va_S.rf
  have hl := lv_entry ([.ref q, .ref th]) (n := 2) (Nat.le_of_ble_eq_true rfl)
  rw [lg_entry_eq]
  generalize (lg_sl ([.ref q, .ref th]) ++ List.replicate (2 - (lg_sl ([.ref q, .ref th])).length) Slot.unset).toArray = ls at hl ⊢
  have hl : lv_has ls 2 [(0, .ref q), (1, .ref th)] := hl
  obtain ⟨hO_q, hA_q⟩ := hR
  have hX : xOG q 0 s.heap s.heap := xOG.rf
  have hini : meth.name = "<init>" := (name_of_methodNamed B.named B.method).1
  have hAh : ∀ q, s.heap.size ≤ q → A q := hWK.2.2.2.1
  have hql := hO_q.lt
  refine lv_aload_n hx hb dX3_init_0 rfl (lv_at hl 0 rfl) ?_
  refine lv_aload_n hx hb dX3_init_1 rfl (lv_at hl 1 rfl) ?_
  refine p_X3_3 F hini hK hS hO_q (hA_q) (v := .ref th) rfl rfl (Nat.le_of_ble_eq_true rfl) dX3_init_2 (fun H locs hat hof hS => ?_)
  have hO_q : xat G q (xO 3 [.null, .int 0, .int 0, .ref th]) H := hat
  have hX := hX.put hof
  refine lv_aload_n hx hb dX3_init_5 rfl (lv_at hl 0 rfl) ?_
  refine W.objInit hx hb hown (hts _ q464) (hts _ q98) (hts _ q99) rfl (by rw [hml]; exact hl.1) rfl dX3_init_6 (Nat.le_of_ble_eq_true rfl) (Nat.le_of_ble_eq_true rfl) ?_
  refine lv_aload_n hx hb dX3_init_9 rfl (lv_at hl 0 rfl) ?_
  refine lv_sipush (v := 150) hx hb dX3_init_10 (by decide) ?_
  have hz0 := hX.1
  refine x_newq F hK (C := "Lendlathe$Entry") (t := 8) rfl (hts _ q465) (xnO hWK g q466) (n := 150) (by decide) (by decide) (by decide) (Nat.le_of_ble_eq_true rfl) (Nat.le_of_ble_eq_true rfl) dX3_init_13 (fun H1 hat_t hz hg => ?_)
  have hS := hg.S hS
  have hO_q := hg.at hO_q
  have hX := hX.new hz hg
  have hA_t := hAh (Array.size H) (by omega)
  clear hz hg
  generalize Array.size H = t at hat_t hA_t hz0 ⊢
  have hz_t : t = s.heap.size + 0 := hz0
  generalize H1 = H at hat_t hO_q hX hS ⊢
  refine p_X3_17 F hini hK hS hO_q (hA_q) (v := .ref t) rfl rfl (Nat.le_of_ble_eq_true rfl) dX3_init_16 (fun H locs hat hof hS => ?_)
  have hO_q : xat G q (xO 3 [.ref t, .int 0, .int 0, .ref th]) H := hat
  have hX := hX.put hof
  have hat_t := hof.at hat_t (by omega)
  have hz_t : t = s.heap.size := hz_t
  subst hz_t
  exact xr_Cv hx hb hr hlocks (⟨hat_t, hO_q, hX⟩) hS (by first | omega | decide) (by first | omega | decide) dX3_init_19

