/-! contracts (printed by gen/mx9.py) -/
set_option maxRecDepth 100000
set_option maxHeartbeats 4000000 in
theorem xX5_init {l : Launch} {G : xG} {s0 : State} {b0 : Nat} (g1 : xG1 l G s0 b0) {A : Nat → Prop} (q : Nat) (kd su : Int32) : Met l yX5_init (ws_ yX5_init cX5_init 3 none) ({ frames := 1, cells := 0, slots := 0, locals := 30 } : Room) (xP s0 A [.ref q, .int kd, .int su] (fun H => xat G q (xO 5 [.int 0, .int 0]) H ∧ A q)) (xQc none (fun H0 H1 => xat G q (xO 5 [.int kd, .int su]) H1 ∧ xOG q 0 H0 H1) A) 0 0 A := by
  refine Met.ofW (cc := cX5_init) (maxL := 3) (ret := none) (by decide) rfl ?_
  intro p e s m args below meth c s₁ B hml hv
  obtain ⟨rfl, hWK, hR⟩ := hv
  have g := g1.1
  have hx := B.exec
  have hb := B.bytes
  have hr := B.returns
  have hts := atoms_spec (ws := ws_ yX5_init cX5_init 3 none) B.pre
  have hts : ∀ w ∈ lw_all, w.before _ s = true := fun w h => hts w (List.mem_cons_of_mem _ h)
  have hown : s.vm.findClass "Lendlathe$Machine" = some m.cls := findClass_of_methodNamed B.named
  have hlocks := B.notSynchronized
  have hK := hWK.K g
  have F : CallFix p m c cX5_init 3 s _ lw_all "Lendlathe$Machine" := ⟨hx, hb, hml, hown, hts⟩
  have hS : va_S A s.heap s.heap [] := va_S.rf
  have hl := lv_entry ([.ref q, .int kd, .int su]) (n := 3) (Nat.le_of_ble_eq_true rfl)
  rw [lg_entry_eq]
  generalize (lg_sl ([.ref q, .int kd, .int su]) ++ List.replicate (3 - (lg_sl ([.ref q, .int kd, .int su])).length) Slot.unset).toArray = ls at hl ⊢
  have hl : lv_has ls 3 [(0, .ref q), (1, .int kd), (2, .int su)] := hl
  obtain ⟨hO, hA9⟩ := hR
  have hini : meth.name = "<init>" := (name_of_methodNamed B.named B.method).1
  have hX : xOG q 0 s.heap s.heap := xOG.rf
  refine lv_aload_n hx hb dX5_init_0 rfl (lv_at hl 0 rfl) ?_
  refine W.objInit hx hb hown (hts _ q791) (hts _ q98) (hts _ q99) rfl (by rw [hml]; exact hl.1) rfl dX5_init_1 (Nat.le_of_ble_eq_true rfl) (Nat.le_of_ble_eq_true rfl) ?_
  refine lv_aload_n hx hb dX5_init_4 rfl (lv_at hl 0 rfl) ?_
  refine lv_iload_n hx hb dX5_init_5 rfl (lv_at hl 1 rfl) ?_
  refine p_X5_7 F hini hK hS hO hA9 (v := .int kd) rfl rfl (Nat.le_of_ble_eq_true rfl) dX5_init_6 (fun H locs hO hof hS => ?_)
  have hX := hX.put hof
  refine lv_aload_n hx hb dX5_init_9 rfl (lv_at hl 0 rfl) ?_
  refine lv_iload_n hx hb dX5_init_10 rfl (lv_at hl 2 rfl) ?_
  refine p_X5_13 F hini hK hS hO hA9 (v := .int su) rfl rfl (Nat.le_of_ble_eq_true rfl) dX5_init_11 (fun H locs hO hof hS => ?_)
  have hX := hX.put hof
  exact xr_Cv hx hb hr hlocks (⟨hO, hX⟩) hS (Nat.le_of_ble_eq_true rfl) (Nat.le_of_ble_eq_true rfl) dX5_init_14

set_option maxHeartbeats 4000000 in
theorem xX9_init {l : Launch} {G : xG} {s0 : State} {b0 : Nat} (g1 : xG1 l G s0 b0) {A : Nat → Prop} (q : Nat) (material length : Int32) : Met l yX9_init (ws_ yX9_init cX9_init 3 none) ({ frames := 1, cells := 0, slots := 0, locals := 30 } : Room) (xP s0 A [.ref q, .int material, .int length] (fun H => xat G q (xO 8 [.int 0, .int 0, .int 0]) H ∧ A q)) (xQc none (fun H0 H1 => xat G q (xO 8 [.int material, .int length, .int length]) H1 ∧ xOG q 0 H0 H1) A) 0 0 A := by
  refine Met.ofW (cc := cX9_init) (maxL := 3) (ret := none) (by decide) rfl ?_
  intro p e s m args below meth c s₁ B hml hv
  obtain ⟨rfl, hWK, hR⟩ := hv
  have g := g1.1
  have hx := B.exec
  have hb := B.bytes
  have hr := B.returns
  have hts := atoms_spec (ws := ws_ yX9_init cX9_init 3 none) B.pre
  have hts : ∀ w ∈ lw_all, w.before _ s = true := fun w h => hts w (List.mem_cons_of_mem _ h)
  have hown : s.vm.findClass "Lendlathe$Bar" = some m.cls := findClass_of_methodNamed B.named
  have hlocks := B.notSynchronized
  have hK := hWK.K g
  have F : CallFix p m c cX9_init 3 s _ lw_all "Lendlathe$Bar" := ⟨hx, hb, hml, hown, hts⟩
  have hS : va_S A s.heap s.heap [] := va_S.rf
  have hl := lv_entry ([.ref q, .int material, .int length]) (n := 3) (Nat.le_of_ble_eq_true rfl)
  rw [lg_entry_eq]
  generalize (lg_sl ([.ref q, .int material, .int length]) ++ List.replicate (3 - (lg_sl ([.ref q, .int material, .int length])).length) Slot.unset).toArray = ls at hl ⊢
  have hl : lv_has ls 3 [(0, .ref q), (1, .int material), (2, .int length)] := hl
  obtain ⟨hO, hA9⟩ := hR
  have hini : meth.name = "<init>" := (name_of_methodNamed B.named B.method).1
  have hX : xOG q 0 s.heap s.heap := xOG.rf
  refine lv_aload_n hx hb dX9_init_0 rfl (lv_at hl 0 rfl) ?_
  refine W.objInit hx hb hown (hts _ q1240) (hts _ q98) (hts _ q99) rfl (by rw [hml]; exact hl.1) rfl dX9_init_1 (Nat.le_of_ble_eq_true rfl) (Nat.le_of_ble_eq_true rfl) ?_
  refine lv_aload_n hx hb dX9_init_4 rfl (lv_at hl 0 rfl) ?_
  refine lv_iload_n hx hb dX9_init_5 rfl (lv_at hl 1 rfl) ?_
  refine p_X9_7 F hini hK hS hO hA9 (v := .int material) rfl rfl (Nat.le_of_ble_eq_true rfl) dX9_init_6 (fun H locs hO hof hS => ?_)
  have hX := hX.put hof
  refine lv_aload_n hx hb dX9_init_9 rfl (lv_at hl 0 rfl) ?_
  refine lv_iload_n hx hb dX9_init_10 rfl (lv_at hl 2 rfl) ?_
  refine p_X9_13 F hini hK hS hO hA9 (v := .int length) rfl rfl (Nat.le_of_ble_eq_true rfl) dX9_init_11 (fun H locs hO hof hS => ?_)
  have hX := hX.put hof
  refine lv_aload_n hx hb dX9_init_14 rfl (lv_at hl 0 rfl) ?_
  refine lv_iload_n hx hb dX9_init_15 rfl (lv_at hl 2 rfl) ?_
  refine p_X9_16 F hK hS hO hA9 (v := .int length) rfl rfl (Nat.le_of_ble_eq_true rfl) dX9_init_16 (fun H locs hO hof hS => ?_)
  have hX := hX.put hof
  exact xr_Cv hx hb hr hlocks (⟨hO, hX⟩) hS (Nat.le_of_ble_eq_true rfl) (Nat.le_of_ble_eq_true rfl) dX9_init_19

set_option maxHeartbeats 4000000 in
theorem xX7_init {l : Launch} {G : xG} {s0 : State} {b0 : Nat} (g1 : xG1 l G s0 b0) {A : Nat → Prop} (q : Nat) (t9 : Value) (member machine on start minutes : Int32) : Met l yX7_init (ws_ yX7_init cX7_init 6 none) ({ frames := 1, cells := 0, slots := 0, locals := 30 } : Room) (xP s0 A [.ref q, .int member, .int machine, .int on, .int start, .int minutes] (fun H => xat G q (xO 7 [.int 0, .int 0, .int 0, .int 0, .int 0, .int 0, .int 0, .int 0, .int 0, .null, .null, t9]) H ∧ A q)) (xQc none (fun H0 H1 => xat G q (xO 7 [.int member, .int machine, .int on, .int start, .int minutes, .int 0, .int 0, .int 0, .int 0, .null, .null, t9]) H1 ∧ xOG q 0 H0 H1) A) 0 0 A := by
  refine Met.ofW (cc := cX7_init) (maxL := 6) (ret := none) (by decide) rfl ?_
  intro p e s m args below meth c s₁ B hml hv
  obtain ⟨rfl, hWK, hR⟩ := hv
  have g := g1.1
  have hx := B.exec
  have hb := B.bytes
  have hr := B.returns
  have hts := atoms_spec (ws := ws_ yX7_init cX7_init 6 none) B.pre
  have hts : ∀ w ∈ lw_all, w.before _ s = true := fun w h => hts w (List.mem_cons_of_mem _ h)
  have hown : s.vm.findClass "Lendlathe$Stay" = some m.cls := findClass_of_methodNamed B.named
  have hlocks := B.notSynchronized
  have hK := hWK.K g
  have F : CallFix p m c cX7_init 6 s _ lw_all "Lendlathe$Stay" := ⟨hx, hb, hml, hown, hts⟩
  have hS : va_S A s.heap s.heap [] := va_S.rf
  have hl := lv_entry ([.ref q, .int member, .int machine, .int on, .int start, .int minutes]) (n := 6) (Nat.le_of_ble_eq_true rfl)
  rw [lg_entry_eq]
  generalize (lg_sl ([.ref q, .int member, .int machine, .int on, .int start, .int minutes]) ++ List.replicate (6 - (lg_sl ([.ref q, .int member, .int machine, .int on, .int start, .int minutes])).length) Slot.unset).toArray = ls at hl ⊢
  have hl : lv_has ls 6 [(0, .ref q), (1, .int member), (2, .int machine), (3, .int on), (4, .int start), (5, .int minutes)] := hl
  obtain ⟨hO, hA9⟩ := hR
  have hini : meth.name = "<init>" := (name_of_methodNamed B.named B.method).1
  have hX : xOG q 0 s.heap s.heap := xOG.rf
  refine lv_aload_n hx hb dX7_init_0 rfl (lv_at hl 0 rfl) ?_
  refine W.objInit hx hb hown (hts _ q1033) (hts _ q98) (hts _ q99) rfl (by rw [hml]; exact hl.1) rfl dX7_init_1 (Nat.le_of_ble_eq_true rfl) (Nat.le_of_ble_eq_true rfl) ?_
  refine lv_aload_n hx hb dX7_init_4 rfl (lv_at hl 0 rfl) ?_
  refine lv_iload_n hx hb dX7_init_5 rfl (lv_at hl 1 rfl) ?_
  refine p_X7_7 F hini hK hS hO hA9 (v := .int member) rfl rfl (Nat.le_of_ble_eq_true rfl) dX7_init_6 (fun H locs hO hof hS => ?_)
  have hX := hX.put hof
  refine lv_aload_n hx hb dX7_init_9 rfl (lv_at hl 0 rfl) ?_
  refine lv_iload_n hx hb dX7_init_10 rfl (lv_at hl 2 rfl) ?_
  refine p_X7_13 F hini hK hS hO hA9 (v := .int machine) rfl rfl (Nat.le_of_ble_eq_true rfl) dX7_init_11 (fun H locs hO hof hS => ?_)
  have hX := hX.put hof
  refine lv_aload_n hx hb dX7_init_14 rfl (lv_at hl 0 rfl) ?_
  refine lv_iload_n hx hb dX7_init_15 rfl (lv_at hl 3 rfl) ?_
  refine p_X7_16 F hini hK hS hO hA9 (v := .int on) rfl rfl (Nat.le_of_ble_eq_true rfl) dX7_init_16 (fun H locs hO hof hS => ?_)
  have hX := hX.put hof
  refine lv_aload_n hx hb dX7_init_19 rfl (lv_at hl 0 rfl) ?_
  refine lv_iload hx hb dX7_init_20 (lv_at hl 4 rfl) ?_
  refine p_X7_19 F hini hK hS hO hA9 (v := .int start) rfl rfl (Nat.le_of_ble_eq_true rfl) dX7_init_22 (fun H locs hO hof hS => ?_)
  have hX := hX.put hof
  refine lv_aload_n hx hb dX7_init_25 rfl (lv_at hl 0 rfl) ?_
  refine lv_iload hx hb dX7_init_26 (lv_at hl 5 rfl) ?_
  refine p_X7_22 F hini hK hS hO hA9 (v := .int minutes) rfl rfl (Nat.le_of_ble_eq_true rfl) dX7_init_28 (fun H locs hO hof hS => ?_)
  have hX := hX.put hof
  exact xr_Cv hx hb hr hlocks (⟨hO, hX⟩) hS (Nat.le_of_ble_eq_true rfl) (Nat.le_of_ble_eq_true rfl) dX7_init_31

set_option maxHeartbeats 4000000 in
theorem xX8_init {l : Launch} {G : xG} {s0 : State} {b0 : Nat} (g1 : xG1 l G s0 b0) {A : Nat → Prop} (q th : Nat) (member machine on start minutes work state : Int32) (hnw : narrow .char (.int work) = .int work) (hns : narrow .char (.int state) = .int state) : Met l yX8_init (ws_ yX8_init cX8_init 9 none) ({ frames := 2, cells := 2, slots := 10, locals := 70 } : Room) (xP s0 A [.ref q, .ref th, .int member, .int machine, .int on, .int start, .int minutes, .int work, .int state] (fun H => xat G q (xO 7 [.int 0, .int 0, .int 0, .int 0, .int 0, .int 0, .int 0, .int 0, .int 0, .null, .null, .null]) H ∧ A q)) (xQc none (fun H0 H1 => ∃ t u : Nat, t ≠ u ∧ H0.size ≤ t ∧ H0.size ≤ u ∧ xat G t (xA 0 5 (fun _ => .int 0)) H1 ∧ xat G u (xA 0 5 (fun _ => .int 0)) H1 ∧ xat G q (xO 7 [.int member, .int machine, .int on, .int start, .int minutes, .int work, .int state, .int 0, .int 0, .ref t, .ref u, .ref th]) H1 ∧ xOG q 2 H0 H1) A) 2 10 A := by
  refine Met.ofW (cc := cX8_init) (maxL := 9) (ret := none) (by decide) rfl ?_
  intro p e s m args below meth c s₁ B hml hv
  obtain ⟨rfl, hWK, hR⟩ := hv
  have g := g1.1
  have hx := B.exec
  have hb := B.bytes
  have hr := B.returns
  have hts := atoms_spec (ws := ws_ yX8_init cX8_init 9 none) B.pre
  have hts : ∀ w ∈ lw_all, w.before _ s = true := fun w h => hts w (List.mem_cons_of_mem _ h)
  have hown : s.vm.findClass "Lendlathe$Entry" = some m.cls := findClass_of_methodNamed B.named
  have hlocks := B.notSynchronized
  have hK := hWK.K g
  have F : CallFix p m c cX8_init 9 s _ lw_all "Lendlathe$Entry" := ⟨hx, hb, hml, hown, hts⟩
  have hS : va_S A s.heap s.heap [] := va_S.rf
  have hl := lv_entry ([.ref q, .ref th, .int member, .int machine, .int on, .int start, .int minutes, .int work, .int state]) (n := 9) (Nat.le_of_ble_eq_true rfl)
  rw [lg_entry_eq]
  generalize (lg_sl ([.ref q, .ref th, .int member, .int machine, .int on, .int start, .int minutes, .int work, .int state]) ++ List.replicate (9 - (lg_sl ([.ref q, .ref th, .int member, .int machine, .int on, .int start, .int minutes, .int work, .int state])).length) Slot.unset).toArray = ls at hl ⊢
  have hl : lv_has ls 9 [(0, .ref q), (1, .ref th), (2, .int member), (3, .int machine), (4, .int on), (5, .int start), (6, .int minutes), (7, .int work), (8, .int state)] := hl
  obtain ⟨hO, hA9⟩ := hR
  have hini : meth.name = "<init>" := (name_of_methodNamed B.named B.method).1
  have hX : xOG q 0 s.heap s.heap := xOG.rf
  have hAh : ∀ q, s.heap.size ≤ q → A q := hWK.2.2.2.1
  have hql := hO.lt
  refine lv_aload_n hx hb dX8_init_0 rfl (lv_at hl 0 rfl) ?_
  refine lv_aload_n hx hb dX8_init_1 rfl (lv_at hl 1 rfl) ?_
  refine p_X8_3 F hini hK hS hO hA9 (v := .ref th) rfl rfl (Nat.le_of_ble_eq_true rfl) dX8_init_2 (fun H locs hO hof hS => ?_)
  have hX := hX.put hof
  refine lv_aload_n hx hb dX8_init_5 rfl (lv_at hl 0 rfl) ?_
  refine lv_iload_n hx hb dX8_init_6 rfl (lv_at hl 2 rfl) ?_
  refine lv_iload_n hx hb dX8_init_7 rfl (lv_at hl 3 rfl) ?_
  refine lv_iload hx hb dX8_init_8 (lv_at hl 4 rfl) ?_
  refine lv_iload hx hb dX8_init_10 (lv_at hl 5 rfl) ?_
  refine lv_iload hx hb dX8_init_12 (lv_at hl 6 rfl) ?_
  refine xc_C0 (va_runI (As := [.int member, .int machine, .int on, .int start, .int minutes]) (rest := []) F (xX7_init g1 (A := A) q (.ref th) member machine on start minutes) (xcI 5 hts q1030 q1031 q88 q1032 rfl (by decide +kernel) ⟨Nat.le_of_ble_eq_true rfl, Nat.le_of_ble_eq_true rfl⟩) (xpre hWK hS ⟨hO, hA9⟩) rfl rfl hl.1 rfl (lv_room (Nat.le_of_ble_eq_true rfl)) dX8_init_14 ⟨Nat.le_of_ble_eq_true rfl, Nat.le_of_ble_eq_true rfl⟩) hS (fun H locs hR1 hz hk hS => ?_)
  obtain ⟨hO, h9⟩ := hR1
  have hX := hX.call h9
  clear h9 hz hk
  refine lv_aload_n hx hb dX8_init_17 rfl (lv_at hl 0 rfl) ?_
  refine lv_iconst (v := 5) hx hb dX8_init_18 (by decide) ?_
  have hz0 := hX.1
  refine x_newa hx hb hK (ty := .int) (t := 0) rfl rfl (hts _ q112) (n := 5) (dv := .int 0) (by decide) (by decide) rfl (by decide) (Nat.le_of_ble_eq_true rfl) (Nat.le_of_ble_eq_true rfl) dX8_init_19 (fun H1 hat_t hz hg => ?_)
  have hS := hg.S hS
  have hO := hg.at hO
  have hX := hX.new hz hg
  have hA_t := hAh (Array.size H) (by omega)
  clear hz hg
  generalize Array.size H = t at hat_t hA_t hz0 ⊢
  have hz_t : t = s.heap.size + 0 := hz0
  refine p_X8_15 F hini hK hS hO hA9 (v := .ref t) rfl rfl (Nat.le_of_ble_eq_true rfl) dX8_init_21 (fun H locs hO hof hS => ?_)
  have hX := hX.put hof
  have hat_t := hof.at hat_t (by omega)
  refine lv_aload_n hx hb dX8_init_24 rfl (lv_at hl 0 rfl) ?_
  refine lv_iconst (v := 5) hx hb dX8_init_25 (by decide) ?_
  have hz0 := hX.1
  refine x_newa hx hb hK (ty := .int) (t := 0) rfl rfl (hts _ q112) (n := 5) (dv := .int 0) (by decide) (by decide) rfl (by decide) (Nat.le_of_ble_eq_true rfl) (Nat.le_of_ble_eq_true rfl) dX8_init_26 (fun H1 hat_u hz hg => ?_)
  have hS := hg.S hS
  have hO := hg.at hO
  have hX := hX.new hz hg
  have hat_t := hg.at hat_t
  have hA_u := hAh (Array.size H) (by omega)
  clear hz hg
  generalize Array.size H = u at hat_u hA_u hz0 ⊢
  have hz_u : u = s.heap.size + 1 := hz0
  refine p_X8_19 F hini hK hS hO hA9 (v := .ref u) rfl rfl (Nat.le_of_ble_eq_true rfl) dX8_init_28 (fun H locs hO hof hS => ?_)
  have hX := hX.put hof
  have hat_t := hof.at hat_t (by omega)
  have hat_u := hof.at hat_u (by omega)
  refine lv_aload_n hx hb dX8_init_31 rfl (lv_at hl 0 rfl) ?_
  refine lv_iload hx hb dX8_init_32 (lv_at hl 7 rfl) ?_
  refine p_X8_22 F hini hK hS hO hA9 (v := .int work) hnw (x_fitc hnw) (Nat.le_of_ble_eq_true rfl) dX8_init_34 (fun H locs hO hof hS => ?_)
  have hX := hX.put hof
  have hat_t := hof.at hat_t (by omega)
  have hat_u := hof.at hat_u (by omega)
  refine lv_aload_n hx hb dX8_init_37 rfl (lv_at hl 0 rfl) ?_
  refine lv_iload hx hb dX8_init_38 (lv_at hl 8 rfl) ?_
  refine p_X8_26 F hK hS hO hA9 (v := .int state) hns (x_fitc hns) (Nat.le_of_ble_eq_true rfl) dX8_init_40 (fun H locs hO hof hS => ?_)
  have hX := hX.put hof
  have hat_t := hof.at hat_t (by omega)
  have hat_u := hof.at hat_u (by omega)
  exact xr_Cv hx hb hr hlocks (⟨t, u, by omega, by omega, by omega, hat_t, hat_u, hO, hX⟩) hS (Nat.le_of_ble_eq_true rfl) (Nat.le_of_ble_eq_true rfl) dX8_init_43

set_option maxHeartbeats 4000000 in
theorem xX6_init {l : Launch} {G : xG} {s0 : State} {b0 : Nat} (g1 : xG1 l G s0 b0) {A : Nat → Prop} (q th : Nat) : Met l yX6_init (ws_ yX6_init cX6_init 3 none) ({ frames := 1, cells := 1, slots := 4, locals := 30 } : Room) (xP s0 A [.ref q, .ref th] (fun H => xat G q (xO 6 [.null, .int 0, .int 0, .null]) H ∧ A q)) (xQc none (fun H0 H1 => ∃ t : Nat, H0.size ≤ t ∧ xat G t (xA 0 4 (fun _ => .int (-1))) H1 ∧ xat G q (xO 6 [.ref t, .int 0, .int 0, .ref th]) H1 ∧ xOG q 1 H0 H1) A) 1 4 A := by
  refine Met.ofW (cc := cX6_init) (maxL := 3) (ret := none) (by decide) rfl ?_
  intro p e s m args below meth c s₁ B hml hv
  obtain ⟨rfl, hWK, hR⟩ := hv
  have g := g1.1
  have hx := B.exec
  have hb := B.bytes
  have hr := B.returns
  have hts := atoms_spec (ws := ws_ yX6_init cX6_init 3 none) B.pre
  have hts : ∀ w ∈ lw_all, w.before _ s = true := fun w h => hts w (List.mem_cons_of_mem _ h)
  have hown : s.vm.findClass "Lendlathe$Member" = some m.cls := findClass_of_methodNamed B.named
  have hlocks := B.notSynchronized
  have hK := hWK.K g
  have F : CallFix p m c cX6_init 3 s _ lw_all "Lendlathe$Member" := ⟨hx, hb, hml, hown, hts⟩
  have hS : va_S A s.heap s.heap [] := va_S.rf
  have hl := lv_entry ([.ref q, .ref th]) (n := 3) (Nat.le_of_ble_eq_true rfl)
  rw [lg_entry_eq]
  generalize (lg_sl ([.ref q, .ref th]) ++ List.replicate (3 - (lg_sl ([.ref q, .ref th])).length) Slot.unset).toArray = ls at hl ⊢
  have hl : lv_has ls 3 [(0, .ref q), (1, .ref th)] := hl
  obtain ⟨hO, hA9⟩ := hR
  have hini : meth.name = "<init>" := (name_of_methodNamed B.named B.method).1
  have hX : xOG q 0 s.heap s.heap := xOG.rf
  have hAh : ∀ q, s.heap.size ≤ q → A q := hWK.2.2.2.1
  have hql := hO.lt
  refine lv_aload_n hx hb dX6_init_0 rfl (lv_at hl 0 rfl) ?_
  refine lv_aload_n hx hb dX6_init_1 rfl (lv_at hl 1 rfl) ?_
  refine p_X6_3 F hini hK hS hO hA9 (v := .ref th) rfl rfl (Nat.le_of_ble_eq_true rfl) dX6_init_2 (fun H locs hO hof hS => ?_)
  have hX := hX.put hof
  refine lv_aload_n hx hb dX6_init_5 rfl (lv_at hl 0 rfl) ?_
  refine W.objInit hx hb hown (hts _ q864) (hts _ q98) (hts _ q99) rfl (by rw [hml]; exact hl.1) rfl dX6_init_6 (Nat.le_of_ble_eq_true rfl) (Nat.le_of_ble_eq_true rfl) ?_
  refine lv_aload_n hx hb dX6_init_9 rfl (lv_at hl 0 rfl) ?_
  refine lv_iconst (v := 4) hx hb dX6_init_10 (by decide) ?_
  have hz0 := hX.1
  refine x_newa hx hb hK (ty := .int) (t := 0) rfl rfl (hts _ q112) (n := 4) (dv := .int 0) (by decide) (by decide) rfl (by decide) (Nat.le_of_ble_eq_true rfl) (Nat.le_of_ble_eq_true rfl) dX6_init_11 (fun H1 hat_t hz hg => ?_)
  have hS := hg.S hS
  have hO := hg.at hO
  have hX := hX.new hz hg
  have hA_t := hAh (Array.size H) (by omega)
  clear hz hg
  generalize Array.size H = t at hat_t hA_t hz0 ⊢
  have hz_t : t = s.heap.size + 0 := hz0
  refine p_X6_15 F hini hK hS hO hA9 (v := .ref t) rfl rfl (Nat.le_of_ble_eq_true rfl) dX6_init_13 (fun H locs hO hof hS => ?_)
  have hX := hX.put hof
  have hat_t := hof.at hat_t (by omega)
  clear hof
  refine lv_iconst (v := 0) hx hb dX6_init_16 (by decide) ?_
  refine lv_istore_n (lv' := [(2, .int 0), (0, .ref q), (1, .ref th)]) hx hb dX6_init_17 rfl hl (by decide) rfl (fun ls hl => ?_)
  refine lv_iload_n hx hb dX6_init_18 rfl (lv_at hl 0 rfl) ?_
  refine lv_iconst (v := 4) hx hb dX6_init_19 (by decide) ?_
  refine lv_icmp_ge (tgt := 36) hx hb dX6_init_20 rfl (fun c9 => absurd c9 (by decide)) (fun c9 => ?_)
  refine lv_aload_n hx hb dX6_init_23 rfl (lv_at hl 1 rfl) ?_
  refine g_X6_15 F hK hO (v := .ref t) rfl dX6_init_24 ?_
  refine lv_iload_n hx hb dX6_init_27 rfl (lv_at hl 0 rfl) ?_
  refine lv_iconst (v := (-1)) hx hb dX6_init_28 (by decide) ?_
  refine x_iast hx hb hK hS hat_t hA_t (⟨by unfold vp_in; decide, by decide⟩ : xi 0 0 4) dX6_init_29 (fun H locs hat_t hof hS => ?_)
  have hO := hof.at hO (by omega)
  have hX := hX.putN (by omega) hof
  clear hof
  refine lv_iinc (v := 1) (lv' := [(2, .int 1), (0, .ref q), (1, .ref th)]) hx hb dX6_init_30 hl (k := 0) rfl (by decide) (by decide) rfl (fun ls hl => ?_)
  refine lv_goto (tgt := 18) hx hb dX6_init_33 rfl ?_
  refine lv_iload_n hx hb dX6_init_18 rfl (lv_at hl 0 rfl) ?_
  refine lv_iconst (v := 4) hx hb dX6_init_19 (by decide) ?_
  refine lv_icmp_ge (tgt := 36) hx hb dX6_init_20 rfl (fun c9 => absurd c9 (by decide)) (fun c9 => ?_)
  refine lv_aload_n hx hb dX6_init_23 rfl (lv_at hl 1 rfl) ?_
  refine g_X6_15 F hK hO (v := .ref t) rfl dX6_init_24 ?_
  refine lv_iload_n hx hb dX6_init_27 rfl (lv_at hl 0 rfl) ?_
  refine lv_iconst (v := (-1)) hx hb dX6_init_28 (by decide) ?_
  refine x_iast hx hb hK hS hat_t hA_t (⟨by unfold vp_in; decide, by decide⟩ : xi 1 1 4) dX6_init_29 (fun H locs hat_t hof hS => ?_)
  have hO := hof.at hO (by omega)
  have hX := hX.putN (by omega) hof
  clear hof
  refine lv_iinc (v := 2) (lv' := [(2, .int 2), (0, .ref q), (1, .ref th)]) hx hb dX6_init_30 hl (k := 0) rfl (by decide) (by decide) rfl (fun ls hl => ?_)
  refine lv_goto (tgt := 18) hx hb dX6_init_33 rfl ?_
  refine lv_iload_n hx hb dX6_init_18 rfl (lv_at hl 0 rfl) ?_
  refine lv_iconst (v := 4) hx hb dX6_init_19 (by decide) ?_
  refine lv_icmp_ge (tgt := 36) hx hb dX6_init_20 rfl (fun c9 => absurd c9 (by decide)) (fun c9 => ?_)
  refine lv_aload_n hx hb dX6_init_23 rfl (lv_at hl 1 rfl) ?_
  refine g_X6_15 F hK hO (v := .ref t) rfl dX6_init_24 ?_
  refine lv_iload_n hx hb dX6_init_27 rfl (lv_at hl 0 rfl) ?_
  refine lv_iconst (v := (-1)) hx hb dX6_init_28 (by decide) ?_
  refine x_iast hx hb hK hS hat_t hA_t (⟨by unfold vp_in; decide, by decide⟩ : xi 2 2 4) dX6_init_29 (fun H locs hat_t hof hS => ?_)
  have hO := hof.at hO (by omega)
  have hX := hX.putN (by omega) hof
  clear hof
  refine lv_iinc (v := 3) (lv' := [(2, .int 3), (0, .ref q), (1, .ref th)]) hx hb dX6_init_30 hl (k := 0) rfl (by decide) (by decide) rfl (fun ls hl => ?_)
  refine lv_goto (tgt := 18) hx hb dX6_init_33 rfl ?_
  refine lv_iload_n hx hb dX6_init_18 rfl (lv_at hl 0 rfl) ?_
  refine lv_iconst (v := 4) hx hb dX6_init_19 (by decide) ?_
  refine lv_icmp_ge (tgt := 36) hx hb dX6_init_20 rfl (fun c9 => absurd c9 (by decide)) (fun c9 => ?_)
  refine lv_aload_n hx hb dX6_init_23 rfl (lv_at hl 1 rfl) ?_
  refine g_X6_15 F hK hO (v := .ref t) rfl dX6_init_24 ?_
  refine lv_iload_n hx hb dX6_init_27 rfl (lv_at hl 0 rfl) ?_
  refine lv_iconst (v := (-1)) hx hb dX6_init_28 (by decide) ?_
  refine x_iast hx hb hK hS hat_t hA_t (⟨by unfold vp_in; decide, by decide⟩ : xi 3 3 4) dX6_init_29 (fun H locs hat_t hof hS => ?_)
  have hO := hof.at hO (by omega)
  have hX := hX.putN (by omega) hof
  clear hof
  refine lv_iinc (v := 4) (lv' := [(2, .int 4), (0, .ref q), (1, .ref th)]) hx hb dX6_init_30 hl (k := 0) rfl (by decide) (by decide) rfl (fun ls hl => ?_)
  refine lv_goto (tgt := 18) hx hb dX6_init_33 rfl ?_
  refine lv_iload_n hx hb dX6_init_18 rfl (lv_at hl 0 rfl) ?_
  refine lv_iconst (v := 4) hx hb dX6_init_19 (by decide) ?_
  refine lv_icmp_ge (tgt := 36) hx hb dX6_init_20 rfl (fun c9 => ?_) (fun c9 => absurd (by decide) c9)
  exact xr_Cv hx hb hr hlocks (⟨t, by omega, hat_t.arrTo (fun j hj => by rcases (show j = 0 ∨ j = 1 ∨ j = 2 ∨ j = 3 by omega) with e | e | e | e <;> subst e <;> rfl), hO, hX⟩) hS (Nat.le_of_ble_eq_true rfl) (Nat.le_of_ble_eq_true rfl) dX6_init_36

set_option maxHeartbeats 4000000 in
theorem xJ2_add_2 {l : Launch} {G : xG} {s0 : State} {b0 : Nat} (g1 : xG1 l G s0 b0) {A : Nat → Prop} (a9 q ar n cap : Nat) (f : Nat → Value) (mc : Int32) {ci : Nat} {r : vw_C} (fs : List Value) (hc : xcl[ci]? = some r) (hca : Cond.castable r.1 "java/lang/Object" ∈ lw_tbl) (hcap : n < cap ∧ cap ≤ 150) : Met l yJ2_add_2 (ws_ yJ2_add_2 cJ2_add_2 4 none) ({ frames := 0, cells := 0, slots := 0, locals := 0 } : Room) (xP s0 A [.ref a9, .ref q, .ref ar, .int (nI n)] (fun H => xat G a9 (xO 2 [.int mc, .ref ar, .int (nI n)]) H ∧ A a9 ∧ xat G ar (xA 5 cap f) H ∧ A ar ∧ a9 ≠ ar ∧ xat G q (xO ci fs) H)) (xQc none (fun H0 H1 => xat G a9 (xO 2 [.int mc, .ref ar, .int (nI (n + 1))]) H1 ∧ xat G ar (xA 5 cap (updV f n (.ref q))) H1 ∧ xTwo a9 ar H0 H1) A) 0 0 A := by
  refine Met.ofW (cc := cJ2_add_2) (maxL := 4) (ret := none) (by decide) rfl ?_
  intro p e s m args below meth c s₁ B hml hv
  obtain ⟨rfl, hWK, hR⟩ := hv
  have g := g1.1
  have hx := B.exec
  have hb := B.bytes
  have hr := B.returns
  have hts := atoms_spec (ws := ws_ yJ2_add_2 cJ2_add_2 4 none) B.pre
  have hts : ∀ w ∈ lw_all, w.before _ s = true := fun w h => hts w (List.mem_cons_of_mem _ h)
  have hown : s.vm.findClass "java/util/ArrayList" = some m.cls := findClass_of_methodNamed B.named
  have hlocks := B.notSynchronized
  have hK := hWK.K g
  have F : CallFix p m c cJ2_add_2 4 s _ lw_all "java/util/ArrayList" := ⟨hx, hb, hml, hown, hts⟩
  have hS : va_S A s.heap s.heap [] := va_S.rf
  have hl := lv_entry ([.ref a9, .ref q, .ref ar, .int (nI n)]) (n := 4) (Nat.le_of_ble_eq_true rfl)
  rw [lg_entry_eq]
  generalize (lg_sl ([.ref a9, .ref q, .ref ar, .int (nI n)]) ++ List.replicate (4 - (lg_sl ([.ref a9, .ref q, .ref ar, .int (nI n)])).length) Slot.unset).toArray = ls at hl ⊢
  have hl : lv_has ls 4 [(0, .ref a9), (1, .ref q), (2, .ref ar), (3, .int (nI n))] := hl
  obtain ⟨hL, hAl, hE, hAe, hne, hq⟩ := hR
  refine lv_iload_n hx hb dJ2_add_2_0 rfl (lv_at hl 3 rfl) ?_
  refine lv_aload_n hx hb dJ2_add_2_1 rfl (lv_at hl 2 rfl) ?_
  refine x_alen hx hb hK hE rfl (v := nI cap) rfl dJ2_add_2_2 ?_
  refine xn_ne (tgt := 11) n cap rfl rfl (by omega) (by omega) hx hb dJ2_add_2_3 (by decide) (fun c_3 => ?_) (fun c_3 => absurd c_3 (by omega))
  refine lv_aload_n hx hb dJ2_add_2_11 rfl (lv_at hl 2 rfl) ?_
  refine lv_iload_n hx hb dJ2_add_2_12 rfl (lv_at hl 3 rfl) ?_
  refine lv_aload_n hx hb dJ2_add_2_13 rfl (lv_at hl 1 rfl) ?_
  refine x_aastC hx hb hK hS hE hAe hc rfl (xnC hWK g hca) (xi_nI (n := cap) (by omega) (by omega)) hq dJ2_add_2_14 (fun H locs hE hof hS => ?_)
  have hX : xTwo a9 ar s.heap H := ⟨hof.1, fun c _ h2 => hof.2 c h2⟩
  have hL := hof.at hL hne
  refine lv_aload_n hx hb dJ2_add_2_15 rfl (lv_at hl 0 rfl) ?_
  refine lv_iload_n hx hb dJ2_add_2_16 rfl (lv_at hl 3 rfl) ?_
  refine lv_iconst (v := 1) hx hb dJ2_add_2_17 (by decide) ?_
  refine lv_iadd hx hb dJ2_add_2_18 ?_
  refine x_topi (nI_1 _) ?_
  refine p_J2_48 F hK hS hL hAl (v := .int (nI (n + 1))) rfl rfl (Nat.le_of_ble_eq_true rfl) dJ2_add_2_19 (fun H locs hL hof hS => ?_)
  exact xr_Cv hx hb hr hlocks (⟨hL, hof.at hE (Ne.symm hne), hX.l2 hof⟩) hS (Nat.le_of_ble_eq_true rfl) (Nat.le_of_ble_eq_true rfl) dJ2_add_2_22

set_option maxHeartbeats 4000000 in
theorem xJ2_add {l : Launch} {G : xG} {s0 : State} {b0 : Nat} (g1 : xG1 l G s0 b0) {A : Nat → Prop} (a9 q ar n cap : Nat) (f : Nat → Value) {ci : Nat} {r : vw_C} (fs : List Value) (hc : xcl[ci]? = some r) (hca : Cond.castable r.1 "java/lang/Object" ∈ lw_tbl) (hcap : n < cap ∧ cap ≤ 150) (hqa : q ≠ a9) : Met l yJ2_add (ws_ yJ2_add cJ2_add 2 (some .boolean)) ({ frames := 1, cells := 0, slots := 0, locals := 40 } : Room) (xP s0 A [.ref a9, .ref q] (fun H => xat G a9 (xO 2 [.int (nI n), .ref ar, .int (nI n)]) H ∧ A a9 ∧ xat G ar (xA 5 cap f) H ∧ A ar ∧ a9 ≠ ar ∧ xat G q (xO ci fs) H)) (xQc (some (.int (bI true))) (fun H0 H1 => xat G a9 (xO 2 [.int (nI (n + 1)), .ref ar, .int (nI (n + 1))]) H1 ∧ xat G ar (xA 5 cap (updV f n (.ref q))) H1 ∧ xTwo a9 ar H0 H1) A) 0 0 A := by
  refine Met.ofW (cc := cJ2_add) (maxL := 2) (ret := (some .boolean)) (by decide) rfl ?_
  intro p e s m args below meth c s₁ B hml hv
  obtain ⟨rfl, hWK, hR⟩ := hv
  have g := g1.1
  have hx := B.exec
  have hb := B.bytes
  have hr := B.returns
  have hts := atoms_spec (ws := ws_ yJ2_add cJ2_add 2 (some .boolean)) B.pre
  have hts : ∀ w ∈ lw_all, w.before _ s = true := fun w h => hts w (List.mem_cons_of_mem _ h)
  have hown : s.vm.findClass "java/util/ArrayList" = some m.cls := findClass_of_methodNamed B.named
  have hlocks := B.notSynchronized
  have hK := hWK.K g
  have F : CallFix p m c cJ2_add 2 s _ lw_all "java/util/ArrayList" := ⟨hx, hb, hml, hown, hts⟩
  have hS : va_S A s.heap s.heap [] := va_S.rf
  have hl := lv_entry ([.ref a9, .ref q]) (n := 2) (Nat.le_of_ble_eq_true rfl)
  rw [lg_entry_eq]
  generalize (lg_sl ([.ref a9, .ref q]) ++ List.replicate (2 - (lg_sl ([.ref a9, .ref q])).length) Slot.unset).toArray = ls at hl ⊢
  have hl : lv_has ls 2 [(0, .ref a9), (1, .ref q)] := hl
  obtain ⟨hL, hAl, hE, hAe, hne, hq⟩ := hR
  refine lv_aload_n hx hb dJ2_add_0 rfl (lv_at hl 0 rfl) ?_
  refine lv_dup hx hb dJ2_add_1 rfl ?_
  refine g_J2_63 F hK hL (v := .int (nI n)) rfl dJ2_add_2 ?_
  refine lv_iconst (v := 1) hx hb dJ2_add_5 (by decide) ?_
  refine lv_iadd hx hb dJ2_add_6 ?_
  refine x_topi (nI_1 _) ?_
  refine p_J2_63 F hK hS hL hAl (v := .int (nI (n + 1))) rfl rfl (Nat.le_of_ble_eq_true rfl) dJ2_add_7 (fun H locs hL hof hS => ?_)
  have hX : xTwo a9 ar s.heap H := ⟨hof.1, fun c h1 _ => hof.2 c h1⟩
  have hE := hof.at hE (Ne.symm hne)
  have hq := hof.at hq hqa
  refine lv_aload_n hx hb dJ2_add_10 rfl (lv_at hl 0 rfl) ?_
  refine lv_aload_n hx hb dJ2_add_11 rfl (lv_at hl 1 rfl) ?_
  refine lv_aload_n hx hb dJ2_add_12 rfl (lv_at hl 0 rfl) ?_
  refine g_J2_9 F hK hL (v := .ref ar) rfl dJ2_add_13 ?_
  refine lv_aload_n hx hb dJ2_add_16 rfl (lv_at hl 0 rfl) ?_
  refine g_J2_48 F hK hL (v := .int (nI n)) rfl dJ2_add_17 ?_
  refine xc_C0 (va_runV (As := [.ref q, .ref ar, .int (nI n)]) (rest := []) F (xJ2_add_2 g1 (A := A) a9 q ar n cap f (nI (n + 1)) fs hc hca hcap) (cwV 3 hts (lw_V q806 q808 qs14 q60 q809) rfl rfl rfl hdV_J2_add_2 ⟨Nat.le_of_ble_eq_true rfl, Nat.le_of_ble_eq_true rfl⟩) (xpreV (xrecv hK hL rfl) hWK hS ⟨hL, hAl, hE, hAe, hne, hq⟩) rfl rfl hl.1 rfl (lv_room (Nat.le_of_ble_eq_true rfl)) dJ2_add_20 ⟨Nat.le_of_ble_eq_true rfl, Nat.le_of_ble_eq_true rfl⟩) hS (fun H locs hR1 hz hk hS => ?_)
  obtain ⟨hL, hE, h9⟩ := hR1
  refine lv_iconst (v := 1) hx hb dJ2_add_23 (by decide) ?_
  exact xr_Cz hx hb hr hlocks rfl (⟨hL, hE, hX.tr h9⟩) hS (Nat.le_of_ble_eq_true rfl) (Nat.le_of_ble_eq_true rfl) dJ2_add_24

