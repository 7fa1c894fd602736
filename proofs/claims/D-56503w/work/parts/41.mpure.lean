/-! contracts (printed by gen/mcon.py) -/
set_option maxRecDepth 100000
set_option maxHeartbeats 4000000 in
theorem mX4_in {l : Launch} {G : xG} {s0 : State} {b0 : Nat} (g : xG0 G s0 b0) {A : Nat → Prop} (v lo hi : Int32) : Met l yX4_in (ws_ yX4_in cX4_in 3 (some .boolean)) ({ frames := 0, cells := 0, slots := 0, locals := 0 } : Room) (xP s0 A [.int v, .int lo, .int hi] (fun H => True)) (xQp (some (.int (bI (inI v lo hi))))) 0 0 (fun _ => False) := by
  refine Met.ofW (cc := cX4_in) (maxL := 3) (ret := (some .boolean)) (by decide) rfl ?_
  intro p e s m args below meth c s₁ B hml hv
  obtain ⟨rfl, hWK, hR⟩ := hv
  have hx := B.exec
  have hb := B.bytes
  have hr := B.returns
  have hts := atoms_spec (ws := ws_ yX4_in cX4_in 3 (some .boolean)) B.pre
  have hts : ∀ w ∈ lw_all, w.before _ s = true := fun w h => hts w (List.mem_cons_of_mem _ h)
  have hown : s.vm.findClass "LendlatheModel" = some m.cls := findClass_of_methodNamed B.named
  have hlocks := B.notSynchronized
  have hK := hWK.K g
  have F : CallFix p m c cX4_in 3 s _ lw_all "LendlatheModel" := ⟨hx, hb, hml, hown, hts⟩
  have hS : va_S A s.heap s.heap [] := va_S.rf
  have hl := lv_entry ([.int v, .int lo, .int hi]) (n := 3) (Nat.le_of_ble_eq_true rfl)
  rw [lg_entry_eq]
  generalize (lg_sl ([.int v, .int lo, .int hi]) ++ List.replicate (3 - (lg_sl ([.int v, .int lo, .int hi])).length) Slot.unset).toArray = ls at hl ⊢
  have hl : lv_has ls 3 [(0, .int v), (1, .int lo), (2, .int hi)] := hl
  refine lv_iload_n hx hb dX4_in_0 rfl (lv_at hl 0 rfl) ?_
  refine lv_iload_n hx hb dX4_in_1 rfl (lv_at hl 1 rfl) ?_
  refine lv_icmp_lt (tgt := 14) hx hb dX4_in_2 (by decide) (fun c_2 => ?_) (fun c_2 => ?_)
  · refine lv_iconst (v := 0) hx hb dX4_in_14 (by decide) ?_
    exact xr_Pz hx hb hr hlocks ((bI_f (by first | rfl | simp [inI, c_2])).symm) dX4_in_15
  · refine lv_iload_n hx hb dX4_in_5 rfl (lv_at hl 0 rfl) ?_
    refine lv_iload_n hx hb dX4_in_6 rfl (lv_at hl 2 rfl) ?_
    refine lv_icmp_gt (tgt := 14) hx hb dX4_in_7 (by decide) (fun c_7 => ?_) (fun c_7 => ?_)
    · refine lv_iconst (v := 0) hx hb dX4_in_14 (by decide) ?_
      exact xr_Pz hx hb hr hlocks ((bI_f (by first | rfl | simp [inI, c_2, c_7])).symm) dX4_in_15
    · refine lv_iconst (v := 1) hx hb dX4_in_10 (by decide) ?_
      refine lv_goto (tgt := 15) hx hb dX4_in_11 (by decide) ?_
      exact xr_Pz hx hb hr hlocks ((bI_t (by first | rfl | simp [inI, c_2, c_7])).symm) dX4_in_15

set_option maxHeartbeats 4000000 in
theorem mX4_isKind {l : Launch} {G : xG} {s0 : State} {b0 : Nat} (g : xG0 G s0 b0) {A : Nat → Prop} (v : Int32) : Met l yX4_isKind (ws_ yX4_isKind cX4_isKind 1 (some .boolean)) ({ frames := 1, cells := 0, slots := 0, locals := 22 } : Room) (xP s0 A [.int v] (fun H => True)) (xQp (some (.int (bI (inI v 0 3))))) 0 0 (fun _ => False) := by
  refine Met.ofW (cc := cX4_isKind) (maxL := 1) (ret := (some .boolean)) (by decide) rfl ?_
  intro p e s m args below meth c s₁ B hml hv
  obtain ⟨rfl, hWK, hR⟩ := hv
  have hx := B.exec
  have hb := B.bytes
  have hr := B.returns
  have hts := atoms_spec (ws := ws_ yX4_isKind cX4_isKind 1 (some .boolean)) B.pre
  have hts : ∀ w ∈ lw_all, w.before _ s = true := fun w h => hts w (List.mem_cons_of_mem _ h)
  have hown : s.vm.findClass "LendlatheModel" = some m.cls := findClass_of_methodNamed B.named
  have hlocks := B.notSynchronized
  have hK := hWK.K g
  have F : CallFix p m c cX4_isKind 1 s _ lw_all "LendlatheModel" := ⟨hx, hb, hml, hown, hts⟩
  have hS : va_S A s.heap s.heap [] := va_S.rf
  have hl := lv_entry ([.int v]) (n := 1) (Nat.le_of_ble_eq_true rfl)
  rw [lg_entry_eq]
  generalize (lg_sl ([.int v]) ++ List.replicate (1 - (lg_sl ([.int v])).length) Slot.unset).toArray = ls at hl ⊢
  have hl : lv_has ls 1 [(0, .int v)] := hl
  refine lv_iload_n hx hb dX4_isKind_0 rfl (lv_at hl 0 rfl) ?_
  refine lv_iconst (v := 0) hx hb dX4_isKind_1 (by decide) ?_
  refine lv_iconst (v := 3) hx hb dX4_isKind_2 (by decide) ?_
  refine xc_P (va_runS (As := [.int v, .int 0, .int 3]) (rest := []) F (mX4_in g (A := A) v 0 3) (va_cwS 3 hts (lw_S q1558 q1559 q80 q1560) rfl rfl rfl hdS_X4_in ⟨Nat.le_of_ble_eq_true rfl, Nat.le_of_ble_eq_true rfl⟩) (xpre hWK hS trivial) rfl rfl hl.1 rfl (lv_room (Nat.le_of_ble_eq_true rfl)) dX4_isKind_3 ⟨Nat.le_of_ble_eq_true rfl, Nat.le_of_ble_eq_true rfl⟩) ?_
  exact xr_Pz hx hb hr hlocks (rfl) dX4_isKind_6

set_option maxHeartbeats 4000000 in
theorem mX4_isMember {l : Launch} {G : xG} {s0 : State} {b0 : Nat} (g : xG0 G s0 b0) {A : Nat → Prop} {S : xS} {ad : Nat × Nat → Nat} {z : xZ} (v : Int32) : Met l yX4_isMember (ws_ yX4_isMember cX4_isMember 2 (some .boolean)) ({ frames := 1, cells := 0, slots := 0, locals := 22 } : Room) (xP s0 A [.ref (ad (0, 0)), .int v] (fun H => xRM G A S ad z H)) (xQp (some (.int (bI (inI v 0 (nI (S.1 1 0) - 1)))))) 0 0 (fun _ => False) := by
  refine Met.ofW (cc := cX4_isMember) (maxL := 2) (ret := (some .boolean)) (by decide) rfl ?_
  intro p e s m args below meth c s₁ B hml hv
  obtain ⟨rfl, hWK, hR⟩ := hv
  have hx := B.exec
  have hb := B.bytes
  have hr := B.returns
  have hts := atoms_spec (ws := ws_ yX4_isMember cX4_isMember 2 (some .boolean)) B.pre
  have hts : ∀ w ∈ lw_all, w.before _ s = true := fun w h => hts w (List.mem_cons_of_mem _ h)
  have hown : s.vm.findClass "LendlatheModel" = some m.cls := findClass_of_methodNamed B.named
  have hlocks := B.notSynchronized
  have hK := hWK.K g
  have F : CallFix p m c cX4_isMember 2 s _ lw_all "LendlatheModel" := ⟨hx, hb, hml, hown, hts⟩
  have hS : va_S A s.heap s.heap [] := va_S.rf
  have hl := lv_entry ([.ref (ad (0, 0)), .int v]) (n := 2) (Nat.le_of_ble_eq_true rfl)
  rw [lg_entry_eq]
  generalize (lg_sl ([.ref (ad (0, 0)), .int v]) ++ List.replicate (2 - (lg_sl ([.ref (ad (0, 0)), .int v])).length) Slot.unset).toArray = ls at hl ⊢
  have hl : lv_has ls 2 [(0, .ref (ad (0, 0))), (1, .int v)] := hl
  refine lv_iload_n hx hb dX4_isMember_0 rfl (lv_at hl 1 rfl) ?_
  refine lv_iconst (v := 0) hx hb dX4_isMember_1 (by decide) ?_
  refine lv_aload_n hx hb dX4_isMember_2 rfl (lv_at hl 0 rfl) ?_
  refine g_X4_95 F hK (mw_0 hR) (v := .int (nI (S.1 1 0))) rfl dX4_isMember_3 ?_
  refine lv_iconst (v := 1) hx hb dX4_isMember_6 (by decide) ?_
  refine lv_isub hx hb dX4_isMember_7 ?_
  refine xc_P (va_runS (As := [.int v, .int 0, .int ((nI (S.1 1 0)) - 1)]) (rest := []) F (mX4_in g (A := A) v 0 ((nI (S.1 1 0)) - 1)) (va_cwS 3 hts (lw_S q1558 q1559 q80 q1560) rfl rfl rfl hdS_X4_in ⟨Nat.le_of_ble_eq_true rfl, Nat.le_of_ble_eq_true rfl⟩) (xpre hWK hS trivial) rfl rfl hl.1 rfl (lv_room (Nat.le_of_ble_eq_true rfl)) dX4_isMember_8 ⟨Nat.le_of_ble_eq_true rfl, Nat.le_of_ble_eq_true rfl⟩) ?_
  exact xr_Pz hx hb hr hlocks (congrArg bI (by first | rfl | simp [])) dX4_isMember_11

set_option maxHeartbeats 4000000 in
theorem mX4_isMachine {l : Launch} {G : xG} {s0 : State} {b0 : Nat} (g : xG0 G s0 b0) {A : Nat → Prop} {S : xS} {ad : Nat × Nat → Nat} {z : xZ} (v : Int32) : Met l yX4_isMachine (ws_ yX4_isMachine cX4_isMachine 2 (some .boolean)) ({ frames := 1, cells := 0, slots := 0, locals := 22 } : Room) (xP s0 A [.ref (ad (0, 0)), .int v] (fun H => xRM G A S ad z H)) (xQp (some (.int (bI (inI v 0 (nI (S.1 0 0) - 1)))))) 0 0 (fun _ => False) := by
  refine Met.ofW (cc := cX4_isMachine) (maxL := 2) (ret := (some .boolean)) (by decide) rfl ?_
  intro p e s m args below meth c s₁ B hml hv
  obtain ⟨rfl, hWK, hR⟩ := hv
  have hx := B.exec
  have hb := B.bytes
  have hr := B.returns
  have hts := atoms_spec (ws := ws_ yX4_isMachine cX4_isMachine 2 (some .boolean)) B.pre
  have hts : ∀ w ∈ lw_all, w.before _ s = true := fun w h => hts w (List.mem_cons_of_mem _ h)
  have hown : s.vm.findClass "LendlatheModel" = some m.cls := findClass_of_methodNamed B.named
  have hlocks := B.notSynchronized
  have hK := hWK.K g
  have F : CallFix p m c cX4_isMachine 2 s _ lw_all "LendlatheModel" := ⟨hx, hb, hml, hown, hts⟩
  have hS : va_S A s.heap s.heap [] := va_S.rf
  have hl := lv_entry ([.ref (ad (0, 0)), .int v]) (n := 2) (Nat.le_of_ble_eq_true rfl)
  rw [lg_entry_eq]
  generalize (lg_sl ([.ref (ad (0, 0)), .int v]) ++ List.replicate (2 - (lg_sl ([.ref (ad (0, 0)), .int v])).length) Slot.unset).toArray = ls at hl ⊢
  have hl : lv_has ls 2 [(0, .ref (ad (0, 0))), (1, .int v)] := hl
  refine lv_iload_n hx hb dX4_isMachine_0 rfl (lv_at hl 1 rfl) ?_
  refine lv_iconst (v := 0) hx hb dX4_isMachine_1 (by decide) ?_
  refine lv_aload_n hx hb dX4_isMachine_2 rfl (lv_at hl 0 rfl) ?_
  refine g_X4_98 F hK (mw_0 hR) (v := .int (nI (S.1 0 0))) rfl dX4_isMachine_3 ?_
  refine lv_iconst (v := 1) hx hb dX4_isMachine_6 (by decide) ?_
  refine lv_isub hx hb dX4_isMachine_7 ?_
  refine xc_P (va_runS (As := [.int v, .int 0, .int ((nI (S.1 0 0)) - 1)]) (rest := []) F (mX4_in g (A := A) v 0 ((nI (S.1 0 0)) - 1)) (va_cwS 3 hts (lw_S q1558 q1559 q80 q1560) rfl rfl rfl hdS_X4_in ⟨Nat.le_of_ble_eq_true rfl, Nat.le_of_ble_eq_true rfl⟩) (xpre hWK hS trivial) rfl rfl hl.1 rfl (lv_room (Nat.le_of_ble_eq_true rfl)) dX4_isMachine_8 ⟨Nat.le_of_ble_eq_true rfl, Nat.le_of_ble_eq_true rfl⟩) ?_
  exact xr_Pz hx hb hr hlocks (congrArg bI (by first | rfl | simp [])) dX4_isMachine_11

set_option maxHeartbeats 4000000 in
theorem mX4_isEntry {l : Launch} {G : xG} {s0 : State} {b0 : Nat} (g : xG0 G s0 b0) {A : Nat → Prop} {S : xS} {ad : Nat × Nat → Nat} {z : xZ} (v : Int32) : Met l yX4_isEntry (ws_ yX4_isEntry cX4_isEntry 2 (some .boolean)) ({ frames := 1, cells := 0, slots := 0, locals := 22 } : Room) (xP s0 A [.ref (ad (0, 0)), .int v] (fun H => xRM G A S ad z H)) (xQp (some (.int (bI (inI v 0 (nI (S.1 2 0) - 1)))))) 0 0 (fun _ => False) := by
  refine Met.ofW (cc := cX4_isEntry) (maxL := 2) (ret := (some .boolean)) (by decide) rfl ?_
  intro p e s m args below meth c s₁ B hml hv
  obtain ⟨rfl, hWK, hR⟩ := hv
  have hx := B.exec
  have hb := B.bytes
  have hr := B.returns
  have hts := atoms_spec (ws := ws_ yX4_isEntry cX4_isEntry 2 (some .boolean)) B.pre
  have hts : ∀ w ∈ lw_all, w.before _ s = true := fun w h => hts w (List.mem_cons_of_mem _ h)
  have hown : s.vm.findClass "LendlatheModel" = some m.cls := findClass_of_methodNamed B.named
  have hlocks := B.notSynchronized
  have hK := hWK.K g
  have F : CallFix p m c cX4_isEntry 2 s _ lw_all "LendlatheModel" := ⟨hx, hb, hml, hown, hts⟩
  have hS : va_S A s.heap s.heap [] := va_S.rf
  have hl := lv_entry ([.ref (ad (0, 0)), .int v]) (n := 2) (Nat.le_of_ble_eq_true rfl)
  rw [lg_entry_eq]
  generalize (lg_sl ([.ref (ad (0, 0)), .int v]) ++ List.replicate (2 - (lg_sl ([.ref (ad (0, 0)), .int v])).length) Slot.unset).toArray = ls at hl ⊢
  have hl : lv_has ls 2 [(0, .ref (ad (0, 0))), (1, .int v)] := hl
  refine lv_iload_n hx hb dX4_isEntry_0 rfl (lv_at hl 1 rfl) ?_
  refine lv_iconst (v := 0) hx hb dX4_isEntry_1 (by decide) ?_
  refine lv_aload_n hx hb dX4_isEntry_2 rfl (lv_at hl 0 rfl) ?_
  refine g_X4_101 F hK (mw_0 hR) (v := .int (nI (S.1 2 0))) rfl dX4_isEntry_3 ?_
  refine lv_iconst (v := 1) hx hb dX4_isEntry_6 (by decide) ?_
  refine lv_isub hx hb dX4_isEntry_7 ?_
  refine xc_P (va_runS (As := [.int v, .int 0, .int ((nI (S.1 2 0)) - 1)]) (rest := []) F (mX4_in g (A := A) v 0 ((nI (S.1 2 0)) - 1)) (va_cwS 3 hts (lw_S q1558 q1559 q80 q1560) rfl rfl rfl hdS_X4_in ⟨Nat.le_of_ble_eq_true rfl, Nat.le_of_ble_eq_true rfl⟩) (xpre hWK hS trivial) rfl rfl hl.1 rfl (lv_room (Nat.le_of_ble_eq_true rfl)) dX4_isEntry_8 ⟨Nat.le_of_ble_eq_true rfl, Nat.le_of_ble_eq_true rfl⟩) ?_
  exact xr_Pz hx hb hr hlocks (congrArg bI (by first | rfl | simp [])) dX4_isEntry_11

set_option maxHeartbeats 4000000 in
theorem mX4_endOf {l : Launch} {G : xG} {s0 : State} {b0 : Nat} (g : xG0 G s0 b0) {A : Nat → Prop} {S : xS} {ad : Nat × Nat → Nat} {z : xZ} {en : Int32} {ei : Nat} (h_en : xi en ei 150) : Met l yX4_endOf (ws_ yX4_endOf cX4_endOf 2 (some .int)) ({ frames := 0, cells := 0, slots := 0, locals := 0 } : Room) (xP s0 A [.ref (ad (0, 0)), .int en] (fun H => xRM G A S ad z H)) (xQp (some (.int (mEnd S.2.1 ei)))) 0 0 (fun _ => False) := by
  refine Met.ofW (cc := cX4_endOf) (maxL := 2) (ret := (some .int)) (by decide) rfl ?_
  intro p e s m args below meth c s₁ B hml hv
  obtain ⟨rfl, hWK, hR⟩ := hv
  have hx := B.exec
  have hb := B.bytes
  have hr := B.returns
  have hts := atoms_spec (ws := ws_ yX4_endOf cX4_endOf 2 (some .int)) B.pre
  have hts : ∀ w ∈ lw_all, w.before _ s = true := fun w h => hts w (List.mem_cons_of_mem _ h)
  have hown : s.vm.findClass "LendlatheModel" = some m.cls := findClass_of_methodNamed B.named
  have hlocks := B.notSynchronized
  have hK := hWK.K g
  have F : CallFix p m c cX4_endOf 2 s _ lw_all "LendlatheModel" := ⟨hx, hb, hml, hown, hts⟩
  have hS : va_S A s.heap s.heap [] := va_S.rf
  have hl := lv_entry ([.ref (ad (0, 0)), .int en]) (n := 2) (Nat.le_of_ble_eq_true rfl)
  rw [lg_entry_eq]
  generalize (lg_sl ([.ref (ad (0, 0)), .int en]) ++ List.replicate (2 - (lg_sl ([.ref (ad (0, 0)), .int en])).length) Slot.unset).toArray = ls at hl ⊢
  have hl : lv_has ls 2 [(0, .ref (ad (0, 0))), (1, .int en)] := hl
  refine lv_aload_n hx hb dX4_endOf_0 rfl (lv_at hl 0 rfl) ?_
  refine g_X4_39 F hK (mw_0 hR) (v := .ref (ad (11, 0))) rfl dX4_endOf_1 ?_
  refine lv_iload_n hx hb dX4_endOf_4 rfl (lv_at hl 1 rfl) ?_
  refine x_iald hx hb hK (mw_11 hR) (v := .int (S.2.1 13 ei 0)) (xi.up h_en (by omega)) (rfl) dX4_endOf_5 ?_
  refine lv_aload_n hx hb dX4_endOf_6 rfl (lv_at hl 0 rfl) ?_
  refine g_X4_42 F hK (mw_0 hR) (v := .ref (ad (12, 0))) rfl dX4_endOf_7 ?_
  refine lv_iload_n hx hb dX4_endOf_10 rfl (lv_at hl 1 rfl) ?_
  refine x_iald hx hb hK (mw_12 hR) (v := .int (S.2.1 14 ei 0)) (xi.up h_en (by omega)) (rfl) dX4_endOf_11 ?_
  refine lv_iadd hx hb dX4_endOf_12 ?_
  exact xr_Pi hx hb hr hlocks (rfl) dX4_endOf_13

set_option maxHeartbeats 4000000 in
theorem mX4_overlaps {l : Launch} {G : xG} {s0 : State} {b0 : Nat} (g : xG0 G s0 b0) {A : Nat → Prop} {S : xS} {ad : Nat × Nat → Nat} {z : xZ} (day start minutes : Int32) {en : Int32} {ei : Nat} (h_en : xi en ei 150) : Met l yX4_overlaps (ws_ yX4_overlaps cX4_overlaps 5 (some .boolean)) ({ frames := 1, cells := 0, slots := 0, locals := 21 } : Room) (xP s0 A [.ref (ad (0, 0)), .int en, .int day, .int start, .int minutes] (fun H => xRM G A S ad z H)) (xQp (some (.int (bI (mOver S.2.1 ei day start minutes))))) 0 0 (fun _ => False) := by
  refine Met.ofW (cc := cX4_overlaps) (maxL := 5) (ret := (some .boolean)) (by decide) rfl ?_
  intro p e s m args below meth c s₁ B hml hv
  obtain ⟨rfl, hWK, hR⟩ := hv
  have hx := B.exec
  have hb := B.bytes
  have hr := B.returns
  have hts := atoms_spec (ws := ws_ yX4_overlaps cX4_overlaps 5 (some .boolean)) B.pre
  have hts : ∀ w ∈ lw_all, w.before _ s = true := fun w h => hts w (List.mem_cons_of_mem _ h)
  have hown : s.vm.findClass "LendlatheModel" = some m.cls := findClass_of_methodNamed B.named
  have hlocks := B.notSynchronized
  have hK := hWK.K g
  have F : CallFix p m c cX4_overlaps 5 s _ lw_all "LendlatheModel" := ⟨hx, hb, hml, hown, hts⟩
  have hS : va_S A s.heap s.heap [] := va_S.rf
  have hl := lv_entry ([.ref (ad (0, 0)), .int en, .int day, .int start, .int minutes]) (n := 5) (Nat.le_of_ble_eq_true rfl)
  rw [lg_entry_eq]
  generalize (lg_sl ([.ref (ad (0, 0)), .int en, .int day, .int start, .int minutes]) ++ List.replicate (5 - (lg_sl ([.ref (ad (0, 0)), .int en, .int day, .int start, .int minutes])).length) Slot.unset).toArray = ls at hl ⊢
  have hl : lv_has ls 5 [(0, .ref (ad (0, 0))), (1, .int en), (2, .int day), (3, .int start), (4, .int minutes)] := hl
  refine lv_aload_n hx hb dX4_overlaps_0 rfl (lv_at hl 0 rfl) ?_
  refine g_X4_49 F hK (mw_0 hR) (v := .ref (ad (14, 0))) rfl dX4_overlaps_1 ?_
  refine lv_iload_n hx hb dX4_overlaps_4 rfl (lv_at hl 1 rfl) ?_
  refine x_cald hx hb hK (mw_14 hR) (v := .int (S.2.1 16 ei 0)) (xi.up h_en (by omega)) (rfl) dX4_overlaps_5 ?_
  refine lv_bipush (v := 98) hx hb dX4_overlaps_6 (by decide) ?_
  refine lv_icmp_ne (tgt := 47) hx hb dX4_overlaps_8 (by decide) (fun c_8 => ?_) (fun c_8 => ?_)
  · refine lv_iconst (v := 0) hx hb dX4_overlaps_47 (by decide) ?_
    exact xr_Pz hx hb hr hlocks ((bI_f (by first | rfl | simp [mOver, c_8])).symm) dX4_overlaps_48
  · refine lv_aload_n hx hb dX4_overlaps_11 rfl (lv_at hl 0 rfl) ?_
    refine g_X4_36 F hK (mw_0 hR) (v := .ref (ad (10, 0))) rfl dX4_overlaps_12 ?_
    refine lv_iload_n hx hb dX4_overlaps_15 rfl (lv_at hl 1 rfl) ?_
    refine x_iald hx hb hK (mw_10 hR) (v := .int (S.2.1 12 ei 0)) (xi.up h_en (by omega)) (rfl) dX4_overlaps_16 ?_
    refine lv_iload_n hx hb dX4_overlaps_17 rfl (lv_at hl 2 rfl) ?_
    refine lv_icmp_ne (tgt := 47) hx hb dX4_overlaps_18 (by decide) (fun c_18 => ?_) (fun c_18 => ?_)
    · refine lv_iconst (v := 0) hx hb dX4_overlaps_47 (by decide) ?_
      exact xr_Pz hx hb hr hlocks ((bI_f (by first | rfl | simp [mOver, c_8, c_18])).symm) dX4_overlaps_48
    · refine lv_aload_n hx hb dX4_overlaps_21 rfl (lv_at hl 0 rfl) ?_
      refine g_X4_39 F hK (mw_0 hR) (v := .ref (ad (11, 0))) rfl dX4_overlaps_22 ?_
      refine lv_iload_n hx hb dX4_overlaps_25 rfl (lv_at hl 1 rfl) ?_
      refine x_iald hx hb hK (mw_11 hR) (v := .int (S.2.1 13 ei 0)) (xi.up h_en (by omega)) (rfl) dX4_overlaps_26 ?_
      refine lv_iload_n hx hb dX4_overlaps_27 rfl (lv_at hl 3 rfl) ?_
      refine lv_iload hx hb dX4_overlaps_28 (lv_at hl 4 rfl) ?_
      refine lv_iadd hx hb dX4_overlaps_30 ?_
      refine lv_icmp_ge (tgt := 47) hx hb dX4_overlaps_31 (by decide) (fun c_31 => ?_) (fun c_31 => ?_)
      · refine lv_iconst (v := 0) hx hb dX4_overlaps_47 (by decide) ?_
        exact xr_Pz hx hb hr hlocks ((bI_f (by first | rfl | simp [mOver, c_8, c_18, c_31])).symm) dX4_overlaps_48
      · refine lv_iload_n hx hb dX4_overlaps_34 rfl (lv_at hl 3 rfl) ?_
        refine lv_aload_n hx hb dX4_overlaps_35 rfl (lv_at hl 0 rfl) ?_
        refine lv_iload_n hx hb dX4_overlaps_36 rfl (lv_at hl 1 rfl) ?_
        refine xc_P (va_runV (As := [.int en]) (rest := [.int start]) F (mX4_endOf g (A := A) (S := S) (ad := ad) (z := z) (xi.up h_en (by omega))) (cwV 1 hts (lw_V q1605 q1607 qs38 q80 q1608) rfl rfl rfl hdV_X4_endOf ⟨Nat.le_of_ble_eq_true rfl, Nat.le_of_ble_eq_true rfl⟩) (xpreV (xrecv hK (mw_0 hR) rfl) hWK hS hR) rfl rfl hl.1 rfl (lv_room (Nat.le_of_ble_eq_true rfl)) dX4_overlaps_37 ⟨Nat.le_of_ble_eq_true rfl, Nat.le_of_ble_eq_true rfl⟩) ?_
        refine lv_icmp_ge (tgt := 47) hx hb dX4_overlaps_40 (by decide) (fun c_40 => ?_) (fun c_40 => ?_)
        · refine lv_iconst (v := 0) hx hb dX4_overlaps_47 (by decide) ?_
          exact xr_Pz hx hb hr hlocks ((bI_f (by first | rfl | simp [mOver, c_8, c_18, c_31, c_40])).symm) dX4_overlaps_48
        · refine lv_iconst (v := 1) hx hb dX4_overlaps_43 (by decide) ?_
          refine lv_goto (tgt := 48) hx hb dX4_overlaps_44 (by decide) ?_
          exact xr_Pz hx hb hr hlocks ((bI_t (by first | rfl | simp [mOver, c_8, c_18, c_31, c_40])).symm) dX4_overlaps_48

set_option maxHeartbeats 4000000 in
theorem mX4_setup {l : Launch} {G : xG} {s0 : State} {b0 : Nat} (g : xG0 G s0 b0) {A : Nat → Prop} {S : xS} {ad : Nat × Nat → Nat} {z : xZ} (one other : Int32) {machine : Int32} {mac : Nat} (h_machine : xi machine mac 6) : Met l yX4_setup (ws_ yX4_setup cX4_setup 4 (some .int)) ({ frames := 0, cells := 0, slots := 0, locals := 0 } : Room) (xP s0 A [.ref (ad (0, 0)), .int machine, .int one, .int other] (fun H => xRM G A S ad z H)) (xQp (some (.int (mSetup S.2.1 mac one other)))) 0 0 (fun _ => False) := by
  refine Met.ofW (cc := cX4_setup) (maxL := 4) (ret := (some .int)) (by decide) rfl ?_
  intro p e s m args below meth c s₁ B hml hv
  obtain ⟨rfl, hWK, hR⟩ := hv
  have hx := B.exec
  have hb := B.bytes
  have hr := B.returns
  have hts := atoms_spec (ws := ws_ yX4_setup cX4_setup 4 (some .int)) B.pre
  have hts : ∀ w ∈ lw_all, w.before _ s = true := fun w h => hts w (List.mem_cons_of_mem _ h)
  have hown : s.vm.findClass "LendlatheModel" = some m.cls := findClass_of_methodNamed B.named
  have hlocks := B.notSynchronized
  have hK := hWK.K g
  have F : CallFix p m c cX4_setup 4 s _ lw_all "LendlatheModel" := ⟨hx, hb, hml, hown, hts⟩
  have hS : va_S A s.heap s.heap [] := va_S.rf
  have hl := lv_entry ([.ref (ad (0, 0)), .int machine, .int one, .int other]) (n := 4) (Nat.le_of_ble_eq_true rfl)
  rw [lg_entry_eq]
  generalize (lg_sl ([.ref (ad (0, 0)), .int machine, .int one, .int other]) ++ List.replicate (4 - (lg_sl ([.ref (ad (0, 0)), .int machine, .int one, .int other])).length) Slot.unset).toArray = ls at hl ⊢
  have hl : lv_has ls 4 [(0, .ref (ad (0, 0))), (1, .int machine), (2, .int one), (3, .int other)] := hl
  refine lv_iload_n hx hb dX4_setup_0 rfl (lv_at hl 2 rfl) ?_
  refine lv_iload_n hx hb dX4_setup_1 rfl (lv_at hl 3 rfl) ?_
  refine lv_icmp_ne (tgt := 9) hx hb dX4_setup_2 (by decide) (fun c_2 => ?_) (fun c_2 => ?_)
  · refine lv_aload_n hx hb dX4_setup_9 rfl (lv_at hl 0 rfl) ?_
    refine g_X4_13 F hK (mw_0 hR) (v := .ref (ad (2, 0))) rfl dX4_setup_10 ?_
    refine lv_iload_n hx hb dX4_setup_13 rfl (lv_at hl 1 rfl) ?_
    refine x_iald hx hb hK (mw_2 hR) (v := .int (S.2.1 1 mac 0)) (xi.up h_machine (by omega)) (rfl) dX4_setup_14 ?_
    exact xr_Pi hx hb hr hlocks ((by first | rfl | simp [mSetup, c_2])) dX4_setup_15
  · refine lv_iconst (v := 0) hx hb dX4_setup_5 (by decide) ?_
    refine lv_goto (tgt := 15) hx hb dX4_setup_6 (by decide) ?_
    exact xr_Pi hx hb hr hlocks ((by first | rfl | simp [mSetup, c_2])) dX4_setup_15

set_option maxHeartbeats 4000000 in
theorem mX4_stands {l : Launch} {G : xG} {s0 : State} {b0 : Nat} (g : xG0 G s0 b0) {A : Nat → Prop} {S : xS} {ad : Nat × Nat → Nat} {z : xZ} (machine day : Int32) {en : Int32} {ei : Nat} (h_en : xi en ei 150) : Met l yX4_stands (ws_ yX4_stands cX4_stands 4 (some .boolean)) ({ frames := 0, cells := 0, slots := 0, locals := 0 } : Room) (xP s0 A [.ref (ad (0, 0)), .int en, .int machine, .int day] (fun H => xRM G A S ad z H)) (xQp (some (.int (bI (mStands S.2.1 ei machine day))))) 0 0 (fun _ => False) := by
  refine Met.ofW (cc := cX4_stands) (maxL := 4) (ret := (some .boolean)) (by decide) rfl ?_
  intro p e s m args below meth c s₁ B hml hv
  obtain ⟨rfl, hWK, hR⟩ := hv
  have hx := B.exec
  have hb := B.bytes
  have hr := B.returns
  have hts := atoms_spec (ws := ws_ yX4_stands cX4_stands 4 (some .boolean)) B.pre
  have hts : ∀ w ∈ lw_all, w.before _ s = true := fun w h => hts w (List.mem_cons_of_mem _ h)
  have hown : s.vm.findClass "LendlatheModel" = some m.cls := findClass_of_methodNamed B.named
  have hlocks := B.notSynchronized
  have hK := hWK.K g
  have F : CallFix p m c cX4_stands 4 s _ lw_all "LendlatheModel" := ⟨hx, hb, hml, hown, hts⟩
  have hS : va_S A s.heap s.heap [] := va_S.rf
  have hl := lv_entry ([.ref (ad (0, 0)), .int en, .int machine, .int day]) (n := 4) (Nat.le_of_ble_eq_true rfl)
  rw [lg_entry_eq]
  generalize (lg_sl ([.ref (ad (0, 0)), .int en, .int machine, .int day]) ++ List.replicate (4 - (lg_sl ([.ref (ad (0, 0)), .int en, .int machine, .int day])).length) Slot.unset).toArray = ls at hl ⊢
  have hl : lv_has ls 4 [(0, .ref (ad (0, 0))), (1, .int en), (2, .int machine), (3, .int day)] := hl
  refine lv_aload_n hx hb dX4_stands_0 rfl (lv_at hl 0 rfl) ?_
  refine g_X4_49 F hK (mw_0 hR) (v := .ref (ad (14, 0))) rfl dX4_stands_1 ?_
  refine lv_iload_n hx hb dX4_stands_4 rfl (lv_at hl 1 rfl) ?_
  refine x_cald hx hb hK (mw_14 hR) (v := .int (S.2.1 16 ei 0)) (xi.up h_en (by omega)) (rfl) dX4_stands_5 ?_
  refine lv_bipush (v := 98) hx hb dX4_stands_6 (by decide) ?_
  refine lv_icmp_eq (tgt := 22) hx hb dX4_stands_8 (by decide) (fun c_8 => ?_) (fun c_8 => ?_)
  · refine lv_aload_n hx hb dX4_stands_22 rfl (lv_at hl 0 rfl) ?_
    refine g_X4_33 F hK (mw_0 hR) (v := .ref (ad (9, 0))) rfl dX4_stands_23 ?_
    refine lv_iload_n hx hb dX4_stands_26 rfl (lv_at hl 1 rfl) ?_
    refine x_iald hx hb hK (mw_9 hR) (v := .int (S.2.1 11 ei 0)) (xi.up h_en (by omega)) (rfl) dX4_stands_27 ?_
    refine lv_iload_n hx hb dX4_stands_28 rfl (lv_at hl 2 rfl) ?_
    refine lv_icmp_ne (tgt := 46) hx hb dX4_stands_29 (by decide) (fun c_29 => ?_) (fun c_29 => ?_)
    · refine lv_iconst (v := 0) hx hb dX4_stands_46 (by decide) ?_
      exact xr_Pz hx hb hr hlocks ((bI_f (by first | rfl | simp [mStands, c_8, c_29])).symm) dX4_stands_47
    · refine lv_aload_n hx hb dX4_stands_32 rfl (lv_at hl 0 rfl) ?_
      refine g_X4_36 F hK (mw_0 hR) (v := .ref (ad (10, 0))) rfl dX4_stands_33 ?_
      refine lv_iload_n hx hb dX4_stands_36 rfl (lv_at hl 1 rfl) ?_
      refine x_iald hx hb hK (mw_10 hR) (v := .int (S.2.1 12 ei 0)) (xi.up h_en (by omega)) (rfl) dX4_stands_37 ?_
      refine lv_iload_n hx hb dX4_stands_38 rfl (lv_at hl 3 rfl) ?_
      refine lv_icmp_ne (tgt := 46) hx hb dX4_stands_39 (by decide) (fun c_39 => ?_) (fun c_39 => ?_)
      · refine lv_iconst (v := 0) hx hb dX4_stands_46 (by decide) ?_
        exact xr_Pz hx hb hr hlocks ((bI_f (by first | rfl | simp [mStands, c_8, c_29, c_39])).symm) dX4_stands_47
      · refine lv_iconst (v := 1) hx hb dX4_stands_42 (by decide) ?_
        refine lv_goto (tgt := 47) hx hb dX4_stands_43 (by decide) ?_
        exact xr_Pz hx hb hr hlocks ((bI_t (by first | rfl | simp [mStands, c_8, c_29, c_39])).symm) dX4_stands_47
  · refine lv_aload_n hx hb dX4_stands_11 rfl (lv_at hl 0 rfl) ?_
    refine g_X4_49 F hK (mw_0 hR) (v := .ref (ad (14, 0))) rfl dX4_stands_12 ?_
    refine lv_iload_n hx hb dX4_stands_15 rfl (lv_at hl 1 rfl) ?_
    refine x_cald hx hb hK (mw_14 hR) (v := .int (S.2.1 16 ei 0)) (xi.up h_en (by omega)) (rfl) dX4_stands_16 ?_
    refine lv_bipush (v := 100) hx hb dX4_stands_17 (by decide) ?_
    refine lv_icmp_ne (tgt := 46) hx hb dX4_stands_19 (by decide) (fun c_19 => ?_) (fun c_19 => ?_)
    · refine lv_iconst (v := 0) hx hb dX4_stands_46 (by decide) ?_
      exact xr_Pz hx hb hr hlocks ((bI_f (by first | rfl | simp [mStands, c_8, c_19])).symm) dX4_stands_47
    · refine lv_aload_n hx hb dX4_stands_22 rfl (lv_at hl 0 rfl) ?_
      refine g_X4_33 F hK (mw_0 hR) (v := .ref (ad (9, 0))) rfl dX4_stands_23 ?_
      refine lv_iload_n hx hb dX4_stands_26 rfl (lv_at hl 1 rfl) ?_
      refine x_iald hx hb hK (mw_9 hR) (v := .int (S.2.1 11 ei 0)) (xi.up h_en (by omega)) (rfl) dX4_stands_27 ?_
      refine lv_iload_n hx hb dX4_stands_28 rfl (lv_at hl 2 rfl) ?_
      refine lv_icmp_ne (tgt := 46) hx hb dX4_stands_29 (by decide) (fun c_29 => ?_) (fun c_29 => ?_)
      · refine lv_iconst (v := 0) hx hb dX4_stands_46 (by decide) ?_
        exact xr_Pz hx hb hr hlocks ((bI_f (by first | rfl | simp [mStands, c_8, c_19, c_29])).symm) dX4_stands_47
      · refine lv_aload_n hx hb dX4_stands_32 rfl (lv_at hl 0 rfl) ?_
        refine g_X4_36 F hK (mw_0 hR) (v := .ref (ad (10, 0))) rfl dX4_stands_33 ?_
        refine lv_iload_n hx hb dX4_stands_36 rfl (lv_at hl 1 rfl) ?_
        refine x_iald hx hb hK (mw_10 hR) (v := .int (S.2.1 12 ei 0)) (xi.up h_en (by omega)) (rfl) dX4_stands_37 ?_
        refine lv_iload_n hx hb dX4_stands_38 rfl (lv_at hl 3 rfl) ?_
        refine lv_icmp_ne (tgt := 46) hx hb dX4_stands_39 (by decide) (fun c_39 => ?_) (fun c_39 => ?_)
        · refine lv_iconst (v := 0) hx hb dX4_stands_46 (by decide) ?_
          exact xr_Pz hx hb hr hlocks ((bI_f (by first | rfl | simp [mStands, c_8, c_19, c_29, c_39])).symm) dX4_stands_47
        · refine lv_iconst (v := 1) hx hb dX4_stands_42 (by decide) ?_
          refine lv_goto (tgt := 47) hx hb dX4_stands_43 (by decide) ?_
          exact xr_Pz hx hb hr hlocks ((bI_t (by first | rfl | simp [mStands, c_8, c_19, c_29, c_39])).symm) dX4_stands_47

set_option maxHeartbeats 4000000 in
theorem mX4_isWork {l : Launch} {G : xG} {s0 : State} {b0 : Nat} (g : xG0 G s0 b0) {A : Nat → Prop} (v : Int32) : Met l yX4_isWork (ws_ yX4_isWork cX4_isWork 1 (some .boolean)) ({ frames := 0, cells := 0, slots := 0, locals := 0 } : Room) (xP s0 A [.int v] (fun H => True)) (xQp (some (.int (bI (isWorkI v))))) 0 0 (fun _ => False) := by
  refine Met.ofW (cc := cX4_isWork) (maxL := 1) (ret := (some .boolean)) (by decide) rfl ?_
  intro p e s m args below meth c s₁ B hml hv
  obtain ⟨rfl, hWK, hR⟩ := hv
  have hx := B.exec
  have hb := B.bytes
  have hr := B.returns
  have hts := atoms_spec (ws := ws_ yX4_isWork cX4_isWork 1 (some .boolean)) B.pre
  have hts : ∀ w ∈ lw_all, w.before _ s = true := fun w h => hts w (List.mem_cons_of_mem _ h)
  have hown : s.vm.findClass "LendlatheModel" = some m.cls := findClass_of_methodNamed B.named
  have hlocks := B.notSynchronized
  have hK := hWK.K g
  have F : CallFix p m c cX4_isWork 1 s _ lw_all "LendlatheModel" := ⟨hx, hb, hml, hown, hts⟩
  have hS : va_S A s.heap s.heap [] := va_S.rf
  have hl := lv_entry ([.int v]) (n := 1) (Nat.le_of_ble_eq_true rfl)
  rw [lg_entry_eq]
  generalize (lg_sl ([.int v]) ++ List.replicate (1 - (lg_sl ([.int v])).length) Slot.unset).toArray = ls at hl ⊢
  have hl : lv_has ls 1 [(0, .int v)] := hl
  refine lv_iload_n hx hb dX4_isWork_0 rfl (lv_at hl 0 rfl) ?_
  refine lv_bipush (v := 97) hx hb dX4_isWork_1 (by decide) ?_
  refine lv_icmp_eq (tgt := 18) hx hb dX4_isWork_3 (by decide) (fun c_3 => ?_) (fun c_3 => ?_)
  · refine lv_iconst (v := 1) hx hb dX4_isWork_18 (by decide) ?_
    refine lv_goto (tgt := 23) hx hb dX4_isWork_19 (by decide) ?_
    exact xr_Pz hx hb hr hlocks ((bI_t (by first | rfl | simp [isWorkI, c_3])).symm) dX4_isWork_23
  · refine lv_iload_n hx hb dX4_isWork_6 rfl (lv_at hl 0 rfl) ?_
    refine lv_bipush (v := 98) hx hb dX4_isWork_7 (by decide) ?_
    refine lv_icmp_eq (tgt := 18) hx hb dX4_isWork_9 (by decide) (fun c_9 => ?_) (fun c_9 => ?_)
    · refine lv_iconst (v := 1) hx hb dX4_isWork_18 (by decide) ?_
      refine lv_goto (tgt := 23) hx hb dX4_isWork_19 (by decide) ?_
      exact xr_Pz hx hb hr hlocks ((bI_t (by first | rfl | simp [isWorkI, c_3, c_9])).symm) dX4_isWork_23
    · refine lv_iload_n hx hb dX4_isWork_12 rfl (lv_at hl 0 rfl) ?_
      refine lv_bipush (v := 99) hx hb dX4_isWork_13 (by decide) ?_
      refine lv_icmp_ne (tgt := 22) hx hb dX4_isWork_15 (by decide) (fun c_15 => ?_) (fun c_15 => ?_)
      · refine lv_iconst (v := 0) hx hb dX4_isWork_22 (by decide) ?_
        exact xr_Pz hx hb hr hlocks ((bI_f (by first | rfl | simp [isWorkI, c_3, c_9, c_15])).symm) dX4_isWork_23
      · refine lv_iconst (v := 1) hx hb dX4_isWork_18 (by decide) ?_
        refine lv_goto (tgt := 23) hx hb dX4_isWork_19 (by decide) ?_
        exact xr_Pz hx hb hr hlocks ((bI_t (by first | rfl | simp [isWorkI, c_3, c_9, c_15])).symm) dX4_isWork_23

set_option maxHeartbeats 4000000 in
theorem mX4_lacks {l : Launch} {G : xG} {s0 : State} {b0 : Nat} (g : xG0 G s0 b0) {A : Nat → Prop} {S : xS} {ad : Nat × Nat → Nat} {z : xZ} (member machine day start minutes work : Int32) : Met l yX4_lacks (ws_ yX4_lacks cX4_lacks 8 (some .int)) ({ frames := 2, cells := 0, slots := 0, locals := 43 } : Room) (xP s0 A [.ref (ad (0, 0)), .int member, .int machine, .int day, .int start, .int minutes, .int work] (fun H => xRM G A S ad z H)) (xQp (some (.int (mLacks S member machine day start minutes work)))) 0 0 (fun _ => False) := by
  refine Met.ofW (cc := cX4_lacks) (maxL := 8) (ret := (some .int)) (by decide) rfl ?_
  intro p e s m args below meth c s₁ B hml hv
  obtain ⟨rfl, hWK, hR⟩ := hv
  have hx := B.exec
  have hb := B.bytes
  have hr := B.returns
  have hts := atoms_spec (ws := ws_ yX4_lacks cX4_lacks 8 (some .int)) B.pre
  have hts : ∀ w ∈ lw_all, w.before _ s = true := fun w h => hts w (List.mem_cons_of_mem _ h)
  have hown : s.vm.findClass "LendlatheModel" = some m.cls := findClass_of_methodNamed B.named
  have hlocks := B.notSynchronized
  have hK := hWK.K g
  have F : CallFix p m c cX4_lacks 8 s _ lw_all "LendlatheModel" := ⟨hx, hb, hml, hown, hts⟩
  have hS : va_S A s.heap s.heap [] := va_S.rf
  have hl := lv_entry ([.ref (ad (0, 0)), .int member, .int machine, .int day, .int start, .int minutes, .int work]) (n := 8) (Nat.le_of_ble_eq_true rfl)
  rw [lg_entry_eq]
  generalize (lg_sl ([.ref (ad (0, 0)), .int member, .int machine, .int day, .int start, .int minutes, .int work]) ++ List.replicate (8 - (lg_sl ([.ref (ad (0, 0)), .int member, .int machine, .int day, .int start, .int minutes, .int work])).length) Slot.unset).toArray = ls at hl ⊢
  have hl : lv_has ls 8 [(0, .ref (ad (0, 0))), (1, .int member), (2, .int machine), (3, .int day), (4, .int start), (5, .int minutes), (6, .int work)] := hl
  refine lv_iload_n hx hb dX4_lacks_0 rfl (lv_at hl 3 rfl) ?_
  refine lv_aload_n hx hb dX4_lacks_1 rfl (lv_at hl 0 rfl) ?_
  refine g_X4_112 F hK (mw_0 hR) (v := .int (S.2.1 7 0 0)) rfl dX4_lacks_2 ?_
  refine lv_aload_n hx hb dX4_lacks_5 rfl (lv_at hl 0 rfl) ?_
  refine g_X4_112 F hK (mw_0 hR) (v := .int (S.2.1 7 0 0)) rfl dX4_lacks_6 ?_
  refine lv_bipush (v := 6) hx hb dX4_lacks_9 (by decide) ?_
  refine lv_iadd hx hb dX4_lacks_11 ?_
  refine xc_P (va_runS (As := [.int day, .int (S.2.1 7 0 0), .int ((S.2.1 7 0 0) + 6)]) (rest := []) F (mX4_in g (A := A) day (S.2.1 7 0 0) ((S.2.1 7 0 0) + 6)) (va_cwS 3 hts (lw_S q1558 q1559 q80 q1560) rfl rfl rfl hdS_X4_in ⟨Nat.le_of_ble_eq_true rfl, Nat.le_of_ble_eq_true rfl⟩) (xpre hWK hS trivial) rfl rfl hl.1 rfl (lv_room (Nat.le_of_ble_eq_true rfl)) dX4_lacks_12 ⟨Nat.le_of_ble_eq_true rfl, Nat.le_of_ble_eq_true rfl⟩) ?_
  refine x_ifeq (tgt := 58) hx hb dX4_lacks_15 (by decide) (fun c_15 => ?_) (fun c_15 => ?_)
  · refine lv_iconst (v := 0) hx hb dX4_lacks_58 (by decide) ?_
    refine lv_istore (lv' := [(7, .int 0), (0, .ref (ad (0, 0))), (1, .int member), (2, .int machine), (3, .int day), (4, .int start), (5, .int minutes), (6, .int work)]) hx hb dX4_lacks_59 hl (by decide) rfl (fun ls hl => ?_)
    refine lv_aload_n hx hb dX4_lacks_61 rfl (lv_at hl 1 rfl) ?_
    refine lv_iload_n hx hb dX4_lacks_62 rfl (lv_at hl 2 rfl) ?_
    refine xc_P (va_runV (As := [.int member]) (rest := []) F (mX4_isMember g (A := A) (S := S) (ad := ad) (z := z) member) (cwV 1 hts (lw_V q1621 q1623 qs41 q80 q1624) rfl rfl rfl hdV_X4_isMember ⟨Nat.le_of_ble_eq_true rfl, Nat.le_of_ble_eq_true rfl⟩) (xpreV (xrecv hK (mw_0 hR) rfl) hWK hS hR) rfl rfl hl.1 rfl (lv_room (Nat.le_of_ble_eq_true rfl)) dX4_lacks_63 ⟨Nat.le_of_ble_eq_true rfl, Nat.le_of_ble_eq_true rfl⟩) ?_
    refine x_ifeq (tgt := 77) hx hb dX4_lacks_66 (by decide) (fun c_66 => ?_) (fun c_66 => ?_)
    · refine lv_iconst (v := 1) hx hb dX4_lacks_77 (by decide) ?_
      refine lv_goto (tgt := 91) hx hb dX4_lacks_78 (by decide) ?_
      exact xr_Pi hx hb hr hlocks ((by first | rfl | simp [mLacks, mGood, c_15, c_66])) dX4_lacks_91
    · refine lv_aload_n hx hb dX4_lacks_69 rfl (lv_at hl 1 rfl) ?_
      refine lv_iload_n hx hb dX4_lacks_70 rfl (lv_at hl 3 rfl) ?_
      refine xc_P (va_runV (As := [.int machine]) (rest := []) F (mX4_isMachine g (A := A) (S := S) (ad := ad) (z := z) machine) (cwV 1 hts (lw_V q1640 q1642 qs43 q80 q1643) rfl rfl rfl hdV_X4_isMachine ⟨Nat.le_of_ble_eq_true rfl, Nat.le_of_ble_eq_true rfl⟩) (xpreV (xrecv hK (mw_0 hR) rfl) hWK hS hR) rfl rfl hl.1 rfl (lv_room (Nat.le_of_ble_eq_true rfl)) dX4_lacks_71 ⟨Nat.le_of_ble_eq_true rfl, Nat.le_of_ble_eq_true rfl⟩) ?_
      refine x_ifne (tgt := 81) hx hb dX4_lacks_74 (by decide) (fun c_74 => ?_) (fun c_74 => ?_)
      · refine lv_iload hx hb dX4_lacks_81 (lv_at hl 0 rfl) ?_
        refine lv_if_eq (tgt := 90) hx hb dX4_lacks_83 (by decide) (fun c_83 => ?_) (fun c_83 => (by first | exact absurd c_83 (by decide) | exact absurd (by decide) c_83))
        refine lv_iconst (v := 2) hx hb dX4_lacks_90 (by decide) ?_
        exact xr_Pi hx hb hr hlocks ((by first | rfl | simp [mLacks, mGood, c_15, c_66, c_74])) dX4_lacks_91
      · refine lv_iconst (v := 1) hx hb dX4_lacks_77 (by decide) ?_
        refine lv_goto (tgt := 91) hx hb dX4_lacks_78 (by decide) ?_
        exact xr_Pi hx hb hr hlocks ((by first | rfl | simp [mLacks, mGood, c_15, c_66, c_74])) dX4_lacks_91
  · refine lv_iload hx hb dX4_lacks_18 (lv_at hl 4 rfl) ?_
    refine lv_if_lt (tgt := 58) hx hb dX4_lacks_20 (by decide) (fun c_20 => ?_) (fun c_20 => ?_)
    · refine lv_iconst (v := 0) hx hb dX4_lacks_58 (by decide) ?_
      refine lv_istore (lv' := [(7, .int 0), (0, .ref (ad (0, 0))), (1, .int member), (2, .int machine), (3, .int day), (4, .int start), (5, .int minutes), (6, .int work)]) hx hb dX4_lacks_59 hl (by decide) rfl (fun ls hl => ?_)
      refine lv_aload_n hx hb dX4_lacks_61 rfl (lv_at hl 1 rfl) ?_
      refine lv_iload_n hx hb dX4_lacks_62 rfl (lv_at hl 2 rfl) ?_
      refine xc_P (va_runV (As := [.int member]) (rest := []) F (mX4_isMember g (A := A) (S := S) (ad := ad) (z := z) member) (cwV 1 hts (lw_V q1621 q1623 qs41 q80 q1624) rfl rfl rfl hdV_X4_isMember ⟨Nat.le_of_ble_eq_true rfl, Nat.le_of_ble_eq_true rfl⟩) (xpreV (xrecv hK (mw_0 hR) rfl) hWK hS hR) rfl rfl hl.1 rfl (lv_room (Nat.le_of_ble_eq_true rfl)) dX4_lacks_63 ⟨Nat.le_of_ble_eq_true rfl, Nat.le_of_ble_eq_true rfl⟩) ?_
      refine x_ifeq (tgt := 77) hx hb dX4_lacks_66 (by decide) (fun c_66 => ?_) (fun c_66 => ?_)
      · refine lv_iconst (v := 1) hx hb dX4_lacks_77 (by decide) ?_
        refine lv_goto (tgt := 91) hx hb dX4_lacks_78 (by decide) ?_
        exact xr_Pi hx hb hr hlocks ((by first | rfl | simp [mLacks, mGood, c_15, c_20, c_66])) dX4_lacks_91
      · refine lv_aload_n hx hb dX4_lacks_69 rfl (lv_at hl 1 rfl) ?_
        refine lv_iload_n hx hb dX4_lacks_70 rfl (lv_at hl 3 rfl) ?_
        refine xc_P (va_runV (As := [.int machine]) (rest := []) F (mX4_isMachine g (A := A) (S := S) (ad := ad) (z := z) machine) (cwV 1 hts (lw_V q1640 q1642 qs43 q80 q1643) rfl rfl rfl hdV_X4_isMachine ⟨Nat.le_of_ble_eq_true rfl, Nat.le_of_ble_eq_true rfl⟩) (xpreV (xrecv hK (mw_0 hR) rfl) hWK hS hR) rfl rfl hl.1 rfl (lv_room (Nat.le_of_ble_eq_true rfl)) dX4_lacks_71 ⟨Nat.le_of_ble_eq_true rfl, Nat.le_of_ble_eq_true rfl⟩) ?_
        refine x_ifne (tgt := 81) hx hb dX4_lacks_74 (by decide) (fun c_74 => ?_) (fun c_74 => ?_)
        · refine lv_iload hx hb dX4_lacks_81 (lv_at hl 0 rfl) ?_
          refine lv_if_eq (tgt := 90) hx hb dX4_lacks_83 (by decide) (fun c_83 => ?_) (fun c_83 => (by first | exact absurd c_83 (by decide) | exact absurd (by decide) c_83))
          refine lv_iconst (v := 2) hx hb dX4_lacks_90 (by decide) ?_
          exact xr_Pi hx hb hr hlocks ((by first | rfl | simp [mLacks, mGood, c_15, c_20, c_66, c_74])) dX4_lacks_91
        · refine lv_iconst (v := 1) hx hb dX4_lacks_77 (by decide) ?_
          refine lv_goto (tgt := 91) hx hb dX4_lacks_78 (by decide) ?_
          exact xr_Pi hx hb hr hlocks ((by first | rfl | simp [mLacks, mGood, c_15, c_20, c_66, c_74])) dX4_lacks_91
    · refine lv_iload hx hb dX4_lacks_23 (lv_at hl 5 rfl) ?_
      refine lv_iconst (v := 1) hx hb dX4_lacks_25 (by decide) ?_
      refine lv_sipush (v := 240) hx hb dX4_lacks_26 (by decide) ?_
      refine xc_P (va_runS (As := [.int minutes, .int 1, .int 240]) (rest := []) F (mX4_in g (A := A) minutes 1 240) (va_cwS 3 hts (lw_S q1558 q1559 q80 q1560) rfl rfl rfl hdS_X4_in ⟨Nat.le_of_ble_eq_true rfl, Nat.le_of_ble_eq_true rfl⟩) (xpre hWK hS trivial) rfl rfl hl.1 rfl (lv_room (Nat.le_of_ble_eq_true rfl)) dX4_lacks_29 ⟨Nat.le_of_ble_eq_true rfl, Nat.le_of_ble_eq_true rfl⟩) ?_
      refine x_ifeq (tgt := 58) hx hb dX4_lacks_32 (by decide) (fun c_32 => ?_) (fun c_32 => ?_)
      · refine lv_iconst (v := 0) hx hb dX4_lacks_58 (by decide) ?_
        refine lv_istore (lv' := [(7, .int 0), (0, .ref (ad (0, 0))), (1, .int member), (2, .int machine), (3, .int day), (4, .int start), (5, .int minutes), (6, .int work)]) hx hb dX4_lacks_59 hl (by decide) rfl (fun ls hl => ?_)
        refine lv_aload_n hx hb dX4_lacks_61 rfl (lv_at hl 1 rfl) ?_
        refine lv_iload_n hx hb dX4_lacks_62 rfl (lv_at hl 2 rfl) ?_
        refine xc_P (va_runV (As := [.int member]) (rest := []) F (mX4_isMember g (A := A) (S := S) (ad := ad) (z := z) member) (cwV 1 hts (lw_V q1621 q1623 qs41 q80 q1624) rfl rfl rfl hdV_X4_isMember ⟨Nat.le_of_ble_eq_true rfl, Nat.le_of_ble_eq_true rfl⟩) (xpreV (xrecv hK (mw_0 hR) rfl) hWK hS hR) rfl rfl hl.1 rfl (lv_room (Nat.le_of_ble_eq_true rfl)) dX4_lacks_63 ⟨Nat.le_of_ble_eq_true rfl, Nat.le_of_ble_eq_true rfl⟩) ?_
        refine x_ifeq (tgt := 77) hx hb dX4_lacks_66 (by decide) (fun c_66 => ?_) (fun c_66 => ?_)
        · refine lv_iconst (v := 1) hx hb dX4_lacks_77 (by decide) ?_
          refine lv_goto (tgt := 91) hx hb dX4_lacks_78 (by decide) ?_
          exact xr_Pi hx hb hr hlocks ((by first | rfl | simp [mLacks, mGood, c_15, c_20, c_32, c_66])) dX4_lacks_91
        · refine lv_aload_n hx hb dX4_lacks_69 rfl (lv_at hl 1 rfl) ?_
          refine lv_iload_n hx hb dX4_lacks_70 rfl (lv_at hl 3 rfl) ?_
          refine xc_P (va_runV (As := [.int machine]) (rest := []) F (mX4_isMachine g (A := A) (S := S) (ad := ad) (z := z) machine) (cwV 1 hts (lw_V q1640 q1642 qs43 q80 q1643) rfl rfl rfl hdV_X4_isMachine ⟨Nat.le_of_ble_eq_true rfl, Nat.le_of_ble_eq_true rfl⟩) (xpreV (xrecv hK (mw_0 hR) rfl) hWK hS hR) rfl rfl hl.1 rfl (lv_room (Nat.le_of_ble_eq_true rfl)) dX4_lacks_71 ⟨Nat.le_of_ble_eq_true rfl, Nat.le_of_ble_eq_true rfl⟩) ?_
          refine x_ifne (tgt := 81) hx hb dX4_lacks_74 (by decide) (fun c_74 => ?_) (fun c_74 => ?_)
          · refine lv_iload hx hb dX4_lacks_81 (lv_at hl 0 rfl) ?_
            refine lv_if_eq (tgt := 90) hx hb dX4_lacks_83 (by decide) (fun c_83 => ?_) (fun c_83 => (by first | exact absurd c_83 (by decide) | exact absurd (by decide) c_83))
            refine lv_iconst (v := 2) hx hb dX4_lacks_90 (by decide) ?_
            exact xr_Pi hx hb hr hlocks ((by first | rfl | simp [mLacks, mGood, c_15, c_20, c_32, c_66, c_74])) dX4_lacks_91
          · refine lv_iconst (v := 1) hx hb dX4_lacks_77 (by decide) ?_
            refine lv_goto (tgt := 91) hx hb dX4_lacks_78 (by decide) ?_
            exact xr_Pi hx hb hr hlocks ((by first | rfl | simp [mLacks, mGood, c_15, c_20, c_32, c_66, c_74])) dX4_lacks_91
      · refine lv_iload hx hb dX4_lacks_35 (lv_at hl 4 rfl) ?_
        refine lv_sipush (v := 480) hx hb dX4_lacks_37 (by decide) ?_
        refine lv_iload hx hb dX4_lacks_40 (lv_at hl 5 rfl) ?_
        refine lv_isub hx hb dX4_lacks_42 ?_
        refine lv_icmp_gt (tgt := 58) hx hb dX4_lacks_43 (by decide) (fun c_43 => ?_) (fun c_43 => ?_)
        · refine lv_iconst (v := 0) hx hb dX4_lacks_58 (by decide) ?_
          refine lv_istore (lv' := [(7, .int 0), (0, .ref (ad (0, 0))), (1, .int member), (2, .int machine), (3, .int day), (4, .int start), (5, .int minutes), (6, .int work)]) hx hb dX4_lacks_59 hl (by decide) rfl (fun ls hl => ?_)
          refine lv_aload_n hx hb dX4_lacks_61 rfl (lv_at hl 1 rfl) ?_
          refine lv_iload_n hx hb dX4_lacks_62 rfl (lv_at hl 2 rfl) ?_
          refine xc_P (va_runV (As := [.int member]) (rest := []) F (mX4_isMember g (A := A) (S := S) (ad := ad) (z := z) member) (cwV 1 hts (lw_V q1621 q1623 qs41 q80 q1624) rfl rfl rfl hdV_X4_isMember ⟨Nat.le_of_ble_eq_true rfl, Nat.le_of_ble_eq_true rfl⟩) (xpreV (xrecv hK (mw_0 hR) rfl) hWK hS hR) rfl rfl hl.1 rfl (lv_room (Nat.le_of_ble_eq_true rfl)) dX4_lacks_63 ⟨Nat.le_of_ble_eq_true rfl, Nat.le_of_ble_eq_true rfl⟩) ?_
          refine x_ifeq (tgt := 77) hx hb dX4_lacks_66 (by decide) (fun c_66 => ?_) (fun c_66 => ?_)
          · refine lv_iconst (v := 1) hx hb dX4_lacks_77 (by decide) ?_
            refine lv_goto (tgt := 91) hx hb dX4_lacks_78 (by decide) ?_
            exact xr_Pi hx hb hr hlocks ((by first | rfl | simp [mLacks, mGood, c_15, c_20, c_32, c_43, c_66])) dX4_lacks_91
          · refine lv_aload_n hx hb dX4_lacks_69 rfl (lv_at hl 1 rfl) ?_
            refine lv_iload_n hx hb dX4_lacks_70 rfl (lv_at hl 3 rfl) ?_
            refine xc_P (va_runV (As := [.int machine]) (rest := []) F (mX4_isMachine g (A := A) (S := S) (ad := ad) (z := z) machine) (cwV 1 hts (lw_V q1640 q1642 qs43 q80 q1643) rfl rfl rfl hdV_X4_isMachine ⟨Nat.le_of_ble_eq_true rfl, Nat.le_of_ble_eq_true rfl⟩) (xpreV (xrecv hK (mw_0 hR) rfl) hWK hS hR) rfl rfl hl.1 rfl (lv_room (Nat.le_of_ble_eq_true rfl)) dX4_lacks_71 ⟨Nat.le_of_ble_eq_true rfl, Nat.le_of_ble_eq_true rfl⟩) ?_
            refine x_ifne (tgt := 81) hx hb dX4_lacks_74 (by decide) (fun c_74 => ?_) (fun c_74 => ?_)
            · refine lv_iload hx hb dX4_lacks_81 (lv_at hl 0 rfl) ?_
              refine lv_if_eq (tgt := 90) hx hb dX4_lacks_83 (by decide) (fun c_83 => ?_) (fun c_83 => (by first | exact absurd c_83 (by decide) | exact absurd (by decide) c_83))
              refine lv_iconst (v := 2) hx hb dX4_lacks_90 (by decide) ?_
              exact xr_Pi hx hb hr hlocks ((by first | rfl | simp [mLacks, mGood, c_15, c_20, c_32, c_43, c_66, c_74])) dX4_lacks_91
            · refine lv_iconst (v := 1) hx hb dX4_lacks_77 (by decide) ?_
              refine lv_goto (tgt := 91) hx hb dX4_lacks_78 (by decide) ?_
              exact xr_Pi hx hb hr hlocks ((by first | rfl | simp [mLacks, mGood, c_15, c_20, c_32, c_43, c_66, c_74])) dX4_lacks_91
        · refine lv_iload hx hb dX4_lacks_46 (lv_at hl 6 rfl) ?_
          refine xc_P (va_runS (As := [.int work]) (rest := []) F (mX4_isWork g (A := A) work) (va_cwS 1 hts (lw_S q1637 q1638 q80 q1639) rfl rfl rfl hdS_X4_isWork ⟨Nat.le_of_ble_eq_true rfl, Nat.le_of_ble_eq_true rfl⟩) (xpre hWK hS trivial) rfl rfl hl.1 rfl (lv_room (Nat.le_of_ble_eq_true rfl)) dX4_lacks_48 ⟨Nat.le_of_ble_eq_true rfl, Nat.le_of_ble_eq_true rfl⟩) ?_
          refine x_ifeq (tgt := 58) hx hb dX4_lacks_51 (by decide) (fun c_51 => ?_) (fun c_51 => ?_)
          · refine lv_iconst (v := 0) hx hb dX4_lacks_58 (by decide) ?_
            refine lv_istore (lv' := [(7, .int 0), (0, .ref (ad (0, 0))), (1, .int member), (2, .int machine), (3, .int day), (4, .int start), (5, .int minutes), (6, .int work)]) hx hb dX4_lacks_59 hl (by decide) rfl (fun ls hl => ?_)
            refine lv_aload_n hx hb dX4_lacks_61 rfl (lv_at hl 1 rfl) ?_
            refine lv_iload_n hx hb dX4_lacks_62 rfl (lv_at hl 2 rfl) ?_
            refine xc_P (va_runV (As := [.int member]) (rest := []) F (mX4_isMember g (A := A) (S := S) (ad := ad) (z := z) member) (cwV 1 hts (lw_V q1621 q1623 qs41 q80 q1624) rfl rfl rfl hdV_X4_isMember ⟨Nat.le_of_ble_eq_true rfl, Nat.le_of_ble_eq_true rfl⟩) (xpreV (xrecv hK (mw_0 hR) rfl) hWK hS hR) rfl rfl hl.1 rfl (lv_room (Nat.le_of_ble_eq_true rfl)) dX4_lacks_63 ⟨Nat.le_of_ble_eq_true rfl, Nat.le_of_ble_eq_true rfl⟩) ?_
            refine x_ifeq (tgt := 77) hx hb dX4_lacks_66 (by decide) (fun c_66 => ?_) (fun c_66 => ?_)
            · refine lv_iconst (v := 1) hx hb dX4_lacks_77 (by decide) ?_
              refine lv_goto (tgt := 91) hx hb dX4_lacks_78 (by decide) ?_
              exact xr_Pi hx hb hr hlocks ((by first | rfl | simp [mLacks, mGood, c_15, c_20, c_32, c_43, c_51, c_66])) dX4_lacks_91
            · refine lv_aload_n hx hb dX4_lacks_69 rfl (lv_at hl 1 rfl) ?_
              refine lv_iload_n hx hb dX4_lacks_70 rfl (lv_at hl 3 rfl) ?_
              refine xc_P (va_runV (As := [.int machine]) (rest := []) F (mX4_isMachine g (A := A) (S := S) (ad := ad) (z := z) machine) (cwV 1 hts (lw_V q1640 q1642 qs43 q80 q1643) rfl rfl rfl hdV_X4_isMachine ⟨Nat.le_of_ble_eq_true rfl, Nat.le_of_ble_eq_true rfl⟩) (xpreV (xrecv hK (mw_0 hR) rfl) hWK hS hR) rfl rfl hl.1 rfl (lv_room (Nat.le_of_ble_eq_true rfl)) dX4_lacks_71 ⟨Nat.le_of_ble_eq_true rfl, Nat.le_of_ble_eq_true rfl⟩) ?_
              refine x_ifne (tgt := 81) hx hb dX4_lacks_74 (by decide) (fun c_74 => ?_) (fun c_74 => ?_)
              · refine lv_iload hx hb dX4_lacks_81 (lv_at hl 0 rfl) ?_
                refine lv_if_eq (tgt := 90) hx hb dX4_lacks_83 (by decide) (fun c_83 => ?_) (fun c_83 => (by first | exact absurd c_83 (by decide) | exact absurd (by decide) c_83))
                refine lv_iconst (v := 2) hx hb dX4_lacks_90 (by decide) ?_
                exact xr_Pi hx hb hr hlocks ((by first | rfl | simp [mLacks, mGood, c_15, c_20, c_32, c_43, c_51, c_66, c_74])) dX4_lacks_91
              · refine lv_iconst (v := 1) hx hb dX4_lacks_77 (by decide) ?_
                refine lv_goto (tgt := 91) hx hb dX4_lacks_78 (by decide) ?_
                exact xr_Pi hx hb hr hlocks ((by first | rfl | simp [mLacks, mGood, c_15, c_20, c_32, c_43, c_51, c_66, c_74])) dX4_lacks_91
          · refine lv_iconst (v := 1) hx hb dX4_lacks_54 (by decide) ?_
            refine lv_goto (tgt := 59) hx hb dX4_lacks_55 (by decide) ?_
            refine lv_istore (lv' := [(7, .int 1), (0, .ref (ad (0, 0))), (1, .int member), (2, .int machine), (3, .int day), (4, .int start), (5, .int minutes), (6, .int work)]) hx hb dX4_lacks_59 hl (by decide) rfl (fun ls hl => ?_)
            refine lv_aload_n hx hb dX4_lacks_61 rfl (lv_at hl 1 rfl) ?_
            refine lv_iload_n hx hb dX4_lacks_62 rfl (lv_at hl 2 rfl) ?_
            refine xc_P (va_runV (As := [.int member]) (rest := []) F (mX4_isMember g (A := A) (S := S) (ad := ad) (z := z) member) (cwV 1 hts (lw_V q1621 q1623 qs41 q80 q1624) rfl rfl rfl hdV_X4_isMember ⟨Nat.le_of_ble_eq_true rfl, Nat.le_of_ble_eq_true rfl⟩) (xpreV (xrecv hK (mw_0 hR) rfl) hWK hS hR) rfl rfl hl.1 rfl (lv_room (Nat.le_of_ble_eq_true rfl)) dX4_lacks_63 ⟨Nat.le_of_ble_eq_true rfl, Nat.le_of_ble_eq_true rfl⟩) ?_
            refine x_ifeq (tgt := 77) hx hb dX4_lacks_66 (by decide) (fun c_66 => ?_) (fun c_66 => ?_)
            · refine lv_iconst (v := 1) hx hb dX4_lacks_77 (by decide) ?_
              refine lv_goto (tgt := 91) hx hb dX4_lacks_78 (by decide) ?_
              exact xr_Pi hx hb hr hlocks ((by first | rfl | simp [mLacks, mGood, c_15, c_20, c_32, c_43, c_51, c_66])) dX4_lacks_91
            · refine lv_aload_n hx hb dX4_lacks_69 rfl (lv_at hl 1 rfl) ?_
              refine lv_iload_n hx hb dX4_lacks_70 rfl (lv_at hl 3 rfl) ?_
              refine xc_P (va_runV (As := [.int machine]) (rest := []) F (mX4_isMachine g (A := A) (S := S) (ad := ad) (z := z) machine) (cwV 1 hts (lw_V q1640 q1642 qs43 q80 q1643) rfl rfl rfl hdV_X4_isMachine ⟨Nat.le_of_ble_eq_true rfl, Nat.le_of_ble_eq_true rfl⟩) (xpreV (xrecv hK (mw_0 hR) rfl) hWK hS hR) rfl rfl hl.1 rfl (lv_room (Nat.le_of_ble_eq_true rfl)) dX4_lacks_71 ⟨Nat.le_of_ble_eq_true rfl, Nat.le_of_ble_eq_true rfl⟩) ?_
              refine x_ifne (tgt := 81) hx hb dX4_lacks_74 (by decide) (fun c_74 => ?_) (fun c_74 => ?_)
              · refine lv_iload hx hb dX4_lacks_81 (lv_at hl 0 rfl) ?_
                refine lv_if_eq (tgt := 90) hx hb dX4_lacks_83 (by decide) (fun c_83 => (by first | exact absurd c_83 (by decide) | exact absurd (by decide) c_83)) (fun c_83 => ?_)
                refine lv_iconst (v := 0) hx hb dX4_lacks_86 (by decide) ?_
                refine lv_goto (tgt := 91) hx hb dX4_lacks_87 (by decide) ?_
                exact xr_Pi hx hb hr hlocks ((by first | rfl | simp [mLacks, mGood, c_15, c_20, c_32, c_43, c_51, c_66, c_74])) dX4_lacks_91
              · refine lv_iconst (v := 1) hx hb dX4_lacks_77 (by decide) ?_
                refine lv_goto (tgt := 91) hx hb dX4_lacks_78 (by decide) ?_
                exact xr_Pi hx hb hr hlocks ((by first | rfl | simp [mLacks, mGood, c_15, c_20, c_32, c_43, c_51, c_66, c_74])) dX4_lacks_91

set_option maxHeartbeats 4000000 in
theorem mX4_isBusy {l : Launch} {G : xG} {s0 : State} {b0 : Nat} (g : xG0 G s0 b0) {A : Nat → Prop} {S : xS} {ad : Nat × Nat → Nat} {z : xZ} (member day start minutes : Int32) (hW : mWF S) : Met l yX4_isBusy (ws_ yX4_isBusy cX4_isBusy 7 (some .boolean)) ({ frames := 2, cells := 0, slots := 0, locals := 45 } : Room) (xP s0 A [.ref (ad (0, 0)), .int member, .int day, .int start, .int minutes] (fun H => xRM G A S ad z H)) (xQp (some (.int (bI (mBusy S.2.1 (S.1 2 0) member day start minutes))))) 0 0 (fun _ => False) := by
  refine Met.ofW (cc := cX4_isBusy) (maxL := 7) (ret := (some .boolean)) (by decide) rfl ?_
  intro p e s m args below meth c s₁ B hml hv
  obtain ⟨rfl, hWK, hR⟩ := hv
  have hx := B.exec
  have hb := B.bytes
  have hr := B.returns
  have hts := atoms_spec (ws := ws_ yX4_isBusy cX4_isBusy 7 (some .boolean)) B.pre
  have hts : ∀ w ∈ lw_all, w.before _ s = true := fun w h => hts w (List.mem_cons_of_mem _ h)
  have hown : s.vm.findClass "LendlatheModel" = some m.cls := findClass_of_methodNamed B.named
  have hlocks := B.notSynchronized
  have hK := hWK.K g
  have F : CallFix p m c cX4_isBusy 7 s _ lw_all "LendlatheModel" := ⟨hx, hb, hml, hown, hts⟩
  have hS : va_S A s.heap s.heap [] := va_S.rf
  have hl := lv_entry ([.ref (ad (0, 0)), .int member, .int day, .int start, .int minutes]) (n := 7) (Nat.le_of_ble_eq_true rfl)
  rw [lg_entry_eq]
  generalize (lg_sl ([.ref (ad (0, 0)), .int member, .int day, .int start, .int minutes]) ++ List.replicate (7 - (lg_sl ([.ref (ad (0, 0)), .int member, .int day, .int start, .int minutes])).length) Slot.unset).toArray = ls at hl ⊢
  have hl : lv_has ls 7 [(0, .ref (ad (0, 0))), (1, .int member), (2, .int day), (3, .int start), (4, .int minutes)] := hl
  have hn0 := hW.1
  have hn1 := hW.2.1
  have hn2 := hW.2.2.1
  have hn3 := hW.2.2.2.1
  have hn4 := hW.2.2.2.2.1
  refine lv_iconst (v := 0) hx hb dX4_isBusy_0 (by decide) ?_
  refine lv_istore (lv' := [(5, .int 0), (0, .ref (ad (0, 0))), (1, .int member), (2, .int day), (3, .int start), (4, .int minutes)]) hx hb dX4_isBusy_1 hl (by decide) rfl (fun ls hl => ?_)
  refine lv_iconst (v := 0) hx hb dX4_isBusy_3 (by decide) ?_
  refine lv_istore (lv' := [(6, .int 0), (5, .int 0), (0, .ref (ad (0, 0))), (1, .int member), (2, .int day), (3, .int start), (4, .int minutes)]) hx hb dX4_isBusy_4 hl (by decide) rfl (fun ls hl => ?_)
  have L6 : ∀ (n : Nat) (k : Nat) (b : Bool), S.1 2 0 - k < n → (b = anyN k (fun e => decide (S.2.1 10 e 0 = member) && mOver S.2.1 e day start minutes)) → (k ≤ S.1 2 0) → ∀ (ls : Array Slot), lv_has ls 7 [(6, .int (nI k)), (5, .int (bI b)), (0, .ref (ad (0, 0))), (1, .int member), (2, .int day), (3, .int start), (4, .int minutes)] → W p l e (headSpec (ws_ yX4_isBusy cX4_isBusy 7 (some .boolean)) ({ frames := 2, cells := 0, slots := 0, locals := 45 } : Room)).room s m ([.ref (ad (0, 0)), .int member, .int day, .int start, .int minutes] : List Value).toArray below meth c s.heap [] 0 0 (MQ below (xQp (some (.int (bI (mBusy S.2.1 (S.1 2 0) member day start minutes))))) ([.ref (ad (0, 0)), .int member, .int day, .int start, .int minutes] : List Value).toArray s 0 0 (fun _ => False)) (F0 m 6 ls []) := by
    intro n6
    induction n6 with
    | zero =>
      intro k b hn6
      exact absurd hn6 (Nat.not_lt_zero _)
    | succ n6 ih6 =>
      intro k b hn6 eb hkn ls hl
      refine lv_iload hx hb dX4_isBusy_6 (lv_at hl 0 rfl) ?_
      refine lv_aload_n hx hb dX4_isBusy_8 rfl (lv_at hl 2 rfl) ?_
      refine g_X4_101 F hK (mw_0 hR) (v := .int (nI (S.1 2 0))) rfl dX4_isBusy_9 ?_
      refine xn_ge (tgt := 57) k (S.1 2 0) rfl rfl (by omega) (by omega) hx hb dX4_isBusy_12 (by decide) (fun c_12 => ?_) (fun c_12 => ?_)
      · refine lv_iload hx hb dX4_isBusy_57 (lv_at hl 1 rfl) ?_
        exact xr_Pz hx hb hr hlocks (congrArg bI (by rw [eb, show k = S.1 2 0 by omega]; rfl)) dX4_isBusy_59
      · refine lv_iload hx hb dX4_isBusy_15 (lv_at hl 1 rfl) ?_
        refine x_ifne (tgt := 44) hx hb dX4_isBusy_17 (by decide) (fun c_17 => ?_) (fun c_17 => ?_)
        · refine lv_iconst (v := 1) hx hb dX4_isBusy_44 (by decide) ?_
          refine lv_goto (tgt := 49) hx hb dX4_isBusy_45 (by decide) ?_
          refine lv_istore (lv' := [(5, .int 1), (6, .int (nI k)), (0, .ref (ad (0, 0))), (1, .int member), (2, .int day), (3, .int start), (4, .int minutes)]) hx hb dX4_isBusy_49 hl (by decide) rfl (fun ls hl => ?_)
          refine lv_iinc (v := nI (k + 1)) (lv' := [(6, .int (nI (k + 1))), (5, .int 1), (0, .ref (ad (0, 0))), (1, .int member), (2, .int day), (3, .int start), (4, .int minutes)]) hx hb dX4_isBusy_51 hl (k := 1) rfl (nI_1 _) (by decide) rfl (fun ls hl => ?_)
          refine lv_goto (tgt := 6) hx hb dX4_isBusy_54 (by decide) ?_
          exact ih6 (k + 1) true (by omega) (by simp [anyN, ← eb, c_17]) (by omega) ls (lv_sub hl [0, 1, 2, 3, 4, 5, 6] rfl)
        · refine lv_aload_n hx hb dX4_isBusy_20 rfl (lv_at hl 2 rfl) ?_
          refine g_X4_30 F hK (mw_0 hR) (v := .ref (ad (8, 0))) rfl dX4_isBusy_21 ?_
          refine lv_iload hx hb dX4_isBusy_24 (lv_at hl 0 rfl) ?_
          refine x_iald hx hb hK (mw_8 hR) (v := .int (S.2.1 10 k 0)) (xi_nI (n := 150) (by omega) (by omega)) (rfl) dX4_isBusy_26 ?_
          refine lv_iload_n hx hb dX4_isBusy_27 rfl (lv_at hl 3 rfl) ?_
          refine lv_icmp_ne (tgt := 48) hx hb dX4_isBusy_28 (by decide) (fun c_28 => ?_) (fun c_28 => ?_)
          · refine lv_iconst (v := 0) hx hb dX4_isBusy_48 (by decide) ?_
            refine lv_istore (lv' := [(5, .int 0), (6, .int (nI k)), (0, .ref (ad (0, 0))), (1, .int member), (2, .int day), (3, .int start), (4, .int minutes)]) hx hb dX4_isBusy_49 hl (by decide) rfl (fun ls hl => ?_)
            refine lv_iinc (v := nI (k + 1)) (lv' := [(6, .int (nI (k + 1))), (5, .int 0), (0, .ref (ad (0, 0))), (1, .int member), (2, .int day), (3, .int start), (4, .int minutes)]) hx hb dX4_isBusy_51 hl (k := 1) rfl (nI_1 _) (by decide) rfl (fun ls hl => ?_)
            refine lv_goto (tgt := 6) hx hb dX4_isBusy_54 (by decide) ?_
            exact ih6 (k + 1) false (by omega) (by simp [anyN, ← eb, c_17, c_28]) (by omega) ls (lv_sub hl [0, 1, 2, 3, 4, 5, 6] rfl)
          · refine lv_aload_n hx hb dX4_isBusy_31 rfl (lv_at hl 2 rfl) ?_
            refine lv_iload hx hb dX4_isBusy_32 (lv_at hl 0 rfl) ?_
            refine lv_iload_n hx hb dX4_isBusy_34 rfl (lv_at hl 4 rfl) ?_
            refine lv_iload_n hx hb dX4_isBusy_35 rfl (lv_at hl 5 rfl) ?_
            refine lv_iload hx hb dX4_isBusy_36 (lv_at hl 6 rfl) ?_
            refine xc_P (va_runV (As := [.int (nI k), .int day, .int start, .int minutes]) (rest := []) F (mX4_overlaps g (A := A) (S := S) (ad := ad) (z := z) day start minutes (xi_nI (n := 150) (by omega) (by omega))) (cwV 4 hts (lw_V q1601 q1603 qs37 q80 q1604) rfl rfl rfl hdV_X4_overlaps ⟨Nat.le_of_ble_eq_true rfl, Nat.le_of_ble_eq_true rfl⟩) (xpreV (xrecv hK (mw_0 hR) rfl) hWK hS hR) rfl rfl hl.1 rfl (lv_room (Nat.le_of_ble_eq_true rfl)) dX4_isBusy_38 ⟨Nat.le_of_ble_eq_true rfl, Nat.le_of_ble_eq_true rfl⟩) ?_
            refine x_ifeq (tgt := 48) hx hb dX4_isBusy_41 (by decide) (fun c_41 => ?_) (fun c_41 => ?_)
            · refine lv_iconst (v := 0) hx hb dX4_isBusy_48 (by decide) ?_
              refine lv_istore (lv' := [(5, .int 0), (6, .int (nI k)), (0, .ref (ad (0, 0))), (1, .int member), (2, .int day), (3, .int start), (4, .int minutes)]) hx hb dX4_isBusy_49 hl (by decide) rfl (fun ls hl => ?_)
              refine lv_iinc (v := nI (k + 1)) (lv' := [(6, .int (nI (k + 1))), (5, .int 0), (0, .ref (ad (0, 0))), (1, .int member), (2, .int day), (3, .int start), (4, .int minutes)]) hx hb dX4_isBusy_51 hl (k := 1) rfl (nI_1 _) (by decide) rfl (fun ls hl => ?_)
              refine lv_goto (tgt := 6) hx hb dX4_isBusy_54 (by decide) ?_
              exact ih6 (k + 1) false (by omega) (by simp [anyN, ← eb, c_17, c_28, c_41]) (by omega) ls (lv_sub hl [0, 1, 2, 3, 4, 5, 6] rfl)
            · refine lv_iconst (v := 1) hx hb dX4_isBusy_44 (by decide) ?_
              refine lv_goto (tgt := 49) hx hb dX4_isBusy_45 (by decide) ?_
              refine lv_istore (lv' := [(5, .int 1), (6, .int (nI k)), (0, .ref (ad (0, 0))), (1, .int member), (2, .int day), (3, .int start), (4, .int minutes)]) hx hb dX4_isBusy_49 hl (by decide) rfl (fun ls hl => ?_)
              refine lv_iinc (v := nI (k + 1)) (lv' := [(6, .int (nI (k + 1))), (5, .int 1), (0, .ref (ad (0, 0))), (1, .int member), (2, .int day), (3, .int start), (4, .int minutes)]) hx hb dX4_isBusy_51 hl (k := 1) rfl (nI_1 _) (by decide) rfl (fun ls hl => ?_)
              refine lv_goto (tgt := 6) hx hb dX4_isBusy_54 (by decide) ?_
              exact ih6 (k + 1) true (by omega) (by simp [anyN, ← eb, c_17, c_28, c_41]) (by omega) ls (lv_sub hl [0, 1, 2, 3, 4, 5, 6] rfl)
  exact L6 (S.1 2 0 + 1) 0 false (by omega) rfl (by omega) ls (lv_sub hl [0, 1, 2, 3, 4, 5, 6] rfl)

set_option maxHeartbeats 4000000 in
theorem mX4_isFree {l : Launch} {G : xG} {s0 : State} {b0 : Nat} (g : xG0 G s0 b0) {A : Nat → Prop} {S : xS} {ad : Nat × Nat → Nat} {z : xZ} (day start minutes work : Int32) {machine : Int32} {mac : Nat} (h_machine : xi machine mac 6) (hW : mWF S) : Met l yX4_isFree (ws_ yX4_isFree cX4_isFree 9 (some .boolean)) ({ frames := 2, cells := 0, slots := 0, locals := 45 } : Room) (xP s0 A [.ref (ad (0, 0)), .int machine, .int day, .int start, .int minutes, .int work] (fun H => xRM G A S ad z H)) (xQp (some (.int (bI (mFree S.2.1 (S.1 2 0) machine mac day start minutes work))))) 0 0 (fun _ => False) := by
  refine Met.ofW (cc := cX4_isFree) (maxL := 9) (ret := (some .boolean)) (by decide) rfl ?_
  intro p e s m args below meth c s₁ B hml hv
  obtain ⟨rfl, hWK, hR⟩ := hv
  have hx := B.exec
  have hb := B.bytes
  have hr := B.returns
  have hts := atoms_spec (ws := ws_ yX4_isFree cX4_isFree 9 (some .boolean)) B.pre
  have hts : ∀ w ∈ lw_all, w.before _ s = true := fun w h => hts w (List.mem_cons_of_mem _ h)
  have hown : s.vm.findClass "LendlatheModel" = some m.cls := findClass_of_methodNamed B.named
  have hlocks := B.notSynchronized
  have hK := hWK.K g
  have F : CallFix p m c cX4_isFree 9 s _ lw_all "LendlatheModel" := ⟨hx, hb, hml, hown, hts⟩
  have hS : va_S A s.heap s.heap [] := va_S.rf
  have hl := lv_entry ([.ref (ad (0, 0)), .int machine, .int day, .int start, .int minutes, .int work]) (n := 9) (Nat.le_of_ble_eq_true rfl)
  rw [lg_entry_eq]
  generalize (lg_sl ([.ref (ad (0, 0)), .int machine, .int day, .int start, .int minutes, .int work]) ++ List.replicate (9 - (lg_sl ([.ref (ad (0, 0)), .int machine, .int day, .int start, .int minutes, .int work])).length) Slot.unset).toArray = ls at hl ⊢
  have hl : lv_has ls 9 [(0, .ref (ad (0, 0))), (1, .int machine), (2, .int day), (3, .int start), (4, .int minutes), (5, .int work)] := hl
  have hn0 := hW.1
  have hn1 := hW.2.1
  have hn2 := hW.2.2.1
  have hn3 := hW.2.2.2.1
  have hn4 := hW.2.2.2.2.1
  refine lv_iconst (v := (-1)) hx hb dX4_isFree_0 (by decide) ?_
  refine lv_istore (lv' := [(6, .int (-1)), (0, .ref (ad (0, 0))), (1, .int machine), (2, .int day), (3, .int start), (4, .int minutes), (5, .int work)]) hx hb dX4_isFree_1 hl (by decide) rfl (fun ls hl => ?_)
  refine lv_iconst (v := (-1)) hx hb dX4_isFree_3 (by decide) ?_
  refine lv_istore (lv' := [(7, .int (-1)), (6, .int (-1)), (0, .ref (ad (0, 0))), (1, .int machine), (2, .int day), (3, .int start), (4, .int minutes), (5, .int work)]) hx hb dX4_isFree_4 hl (by decide) rfl (fun ls hl => ?_)
  refine lv_iconst (v := 0) hx hb dX4_isFree_6 (by decide) ?_
  refine lv_istore (lv' := [(8, .int 0), (7, .int (-1)), (6, .int (-1)), (0, .ref (ad (0, 0))), (1, .int machine), (2, .int day), (3, .int start), (4, .int minutes), (5, .int work)]) hx hb dX4_isFree_7 hl (by decide) rfl (fun ls hl => ?_)
  have L9 : ∀ (n : Nat) (k : Nat) (b : Int32) (h : Int32), S.1 2 0 - k < n → (k ≤ S.1 2 0) → (b = -1 ∨ vp_in b k) → (h = -1 ∨ vp_in h k) → (foldO (mFreeStep S.2.1 machine day start minutes) (-1, -1) k = some (b, h)) → ∀ (ls : Array Slot), lv_has ls 9 [(8, .int (nI k)), (7, .int h), (6, .int b), (0, .ref (ad (0, 0))), (1, .int machine), (2, .int day), (3, .int start), (4, .int minutes), (5, .int work)] → W p l e (headSpec (ws_ yX4_isFree cX4_isFree 9 (some .boolean)) ({ frames := 2, cells := 0, slots := 0, locals := 45 } : Room)).room s m ([.ref (ad (0, 0)), .int machine, .int day, .int start, .int minutes, .int work] : List Value).toArray below meth c s.heap [] 0 0 (MQ below (xQp (some (.int (bI (mFree S.2.1 (S.1 2 0) machine mac day start minutes work))))) ([.ref (ad (0, 0)), .int machine, .int day, .int start, .int minutes, .int work] : List Value).toArray s 0 0 (fun _ => False)) (F0 m 9 ls []) := by
    intro n9
    induction n9 with
    | zero =>
      intro k b h hn9
      exact absurd hn9 (Nat.not_lt_zero _)
    | succ n9 ih9 =>
      intro k b h hn9 hkn ob oh hf ls hl
      refine lv_iload hx hb dX4_isFree_9 (lv_at hl 0 rfl) ?_
      refine lv_aload_n hx hb dX4_isFree_11 rfl (lv_at hl 3 rfl) ?_
      refine g_X4_101 F hK (mw_0 hR) (v := .int (nI (S.1 2 0))) rfl dX4_isFree_12 ?_
      refine xn_ge (tgt := 151) k (S.1 2 0) rfl rfl (by omega) (by omega) hx hb dX4_isFree_15 (by decide) (fun c_15 => ?_) (fun c_15 => ?_)
      · refine lv_iload hx hb dX4_isFree_151 (lv_at hl 2 rfl) ?_
        refine lv_iconst (v := (-1)) hx hb dX4_isFree_153 (by decide) ?_
        refine lv_icmp_eq (tgt := 182) hx hb dX4_isFree_154 (by decide) (fun c_154 => ?_) (fun c_154 => ?_)
        · refine lv_iload hx hb dX4_isFree_182 (lv_at hl 1 rfl) ?_
          refine lv_iconst (v := (-1)) hx hb dX4_isFree_184 (by decide) ?_
          refine lv_icmp_eq (tgt := 217) hx hb dX4_isFree_185 (by decide) (fun c_185 => ?_) (fun c_185 => ?_)
          · refine lv_iconst (v := 1) hx hb dX4_isFree_217 (by decide) ?_
            refine lv_goto (tgt := 222) hx hb dX4_isFree_218 (by decide) ?_
            exact xr_Pz hx hb hr hlocks ((bI_t (by have hk9 : k = S.1 2 0 := (by omega); subst hk9; unfold mFree; rw [hf]; simp [mFreeEnd, c_154, c_185])).symm) dX4_isFree_222
          · refine lv_aload_n hx hb dX4_isFree_188 rfl (lv_at hl 3 rfl) ?_
            refine g_X4_39 F hK (mw_0 hR) (v := .ref (ad (11, 0))) rfl dX4_isFree_189 ?_
            refine lv_iload hx hb dX4_isFree_192 (lv_at hl 1 rfl) ?_
            refine x_iald hx hb hK (mw_11 hR) (v := .int (S.2.1 13 h.toNatClampNeg 0)) (xi.up (xi_of (oh.resolve_left c_185)) (by omega)) (rfl) dX4_isFree_194 ?_
            refine lv_iload_n hx hb dX4_isFree_195 rfl (lv_at hl 6 rfl) ?_
            refine lv_isub hx hb dX4_isFree_196 ?_
            refine lv_iload hx hb dX4_isFree_197 (lv_at hl 7 rfl) ?_
            refine lv_isub hx hb dX4_isFree_199 ?_
            refine lv_aload_n hx hb dX4_isFree_200 rfl (lv_at hl 3 rfl) ?_
            refine lv_iload_n hx hb dX4_isFree_201 rfl (lv_at hl 4 rfl) ?_
            refine lv_aload_n hx hb dX4_isFree_202 rfl (lv_at hl 3 rfl) ?_
            refine g_X4_45 F hK (mw_0 hR) (v := .ref (ad (13, 0))) rfl dX4_isFree_203 ?_
            refine lv_iload hx hb dX4_isFree_206 (lv_at hl 1 rfl) ?_
            refine x_cald hx hb hK (mw_13 hR) (v := .int (S.2.1 15 h.toNatClampNeg 0)) (xi.up (xi_of (oh.resolve_left c_185)) (by omega)) (rfl) dX4_isFree_208 ?_
            refine lv_iload hx hb dX4_isFree_209 (lv_at hl 8 rfl) ?_
            refine xc_P (va_runV (As := [.int machine, .int (S.2.1 15 h.toNatClampNeg 0), .int work]) (rest := [.int (((S.2.1 13 h.toNatClampNeg 0) - start) - minutes)]) F (mX4_setup g (A := A) (S := S) (ad := ad) (z := z) (S.2.1 15 h.toNatClampNeg 0) work (xi.up h_machine (by omega))) (cwV 3 hts (lw_V q1613 q1615 qs40 q80 q1616) rfl rfl rfl hdV_X4_setup ⟨Nat.le_of_ble_eq_true rfl, Nat.le_of_ble_eq_true rfl⟩) (xpreV (xrecv hK (mw_0 hR) rfl) hWK hS hR) rfl rfl hl.1 rfl (lv_room (Nat.le_of_ble_eq_true rfl)) dX4_isFree_211 ⟨Nat.le_of_ble_eq_true rfl, Nat.le_of_ble_eq_true rfl⟩) ?_
            refine lv_icmp_lt (tgt := 221) hx hb dX4_isFree_214 (by decide) (fun c_214 => ?_) (fun c_214 => ?_)
            · refine lv_iconst (v := 0) hx hb dX4_isFree_221 (by decide) ?_
              exact xr_Pz hx hb hr hlocks ((bI_f (by have hk9 : k = S.1 2 0 := (by omega); subst hk9; unfold mFree; rw [hf]; simp [mFreeEnd, c_154, c_185, c_214])).symm) dX4_isFree_222
            · refine lv_iconst (v := 1) hx hb dX4_isFree_217 (by decide) ?_
              refine lv_goto (tgt := 222) hx hb dX4_isFree_218 (by decide) ?_
              exact xr_Pz hx hb hr hlocks ((bI_t (by have hk9 : k = S.1 2 0 := (by omega); subst hk9; unfold mFree; rw [hf]; simp [mFreeEnd, c_154, c_185, c_214])).symm) dX4_isFree_222
        · refine lv_iload_n hx hb dX4_isFree_157 rfl (lv_at hl 6 rfl) ?_
          refine lv_aload_n hx hb dX4_isFree_158 rfl (lv_at hl 3 rfl) ?_
          refine lv_iload hx hb dX4_isFree_159 (lv_at hl 2 rfl) ?_
          refine xc_P (va_runV (As := [.int b]) (rest := [.int start]) F (mX4_endOf g (A := A) (S := S) (ad := ad) (z := z) (xi.up (xi_of (ob.resolve_left c_154)) (by omega))) (cwV 1 hts (lw_V q1605 q1607 qs38 q80 q1608) rfl rfl rfl hdV_X4_endOf ⟨Nat.le_of_ble_eq_true rfl, Nat.le_of_ble_eq_true rfl⟩) (xpreV (xrecv hK (mw_0 hR) rfl) hWK hS hR) rfl rfl hl.1 rfl (lv_room (Nat.le_of_ble_eq_true rfl)) dX4_isFree_161 ⟨Nat.le_of_ble_eq_true rfl, Nat.le_of_ble_eq_true rfl⟩) ?_
          refine lv_isub hx hb dX4_isFree_164 ?_
          refine lv_aload_n hx hb dX4_isFree_165 rfl (lv_at hl 3 rfl) ?_
          refine lv_iload_n hx hb dX4_isFree_166 rfl (lv_at hl 4 rfl) ?_
          refine lv_aload_n hx hb dX4_isFree_167 rfl (lv_at hl 3 rfl) ?_
          refine g_X4_45 F hK (mw_0 hR) (v := .ref (ad (13, 0))) rfl dX4_isFree_168 ?_
          refine lv_iload hx hb dX4_isFree_171 (lv_at hl 2 rfl) ?_
          refine x_cald hx hb hK (mw_13 hR) (v := .int (S.2.1 15 b.toNatClampNeg 0)) (xi.up (xi_of (ob.resolve_left c_154)) (by omega)) (rfl) dX4_isFree_173 ?_
          refine lv_iload hx hb dX4_isFree_174 (lv_at hl 8 rfl) ?_
          refine xc_P (va_runV (As := [.int machine, .int (S.2.1 15 b.toNatClampNeg 0), .int work]) (rest := [.int (start - (mEnd S.2.1 b.toNatClampNeg))]) F (mX4_setup g (A := A) (S := S) (ad := ad) (z := z) (S.2.1 15 b.toNatClampNeg 0) work (xi.up h_machine (by omega))) (cwV 3 hts (lw_V q1613 q1615 qs40 q80 q1616) rfl rfl rfl hdV_X4_setup ⟨Nat.le_of_ble_eq_true rfl, Nat.le_of_ble_eq_true rfl⟩) (xpreV (xrecv hK (mw_0 hR) rfl) hWK hS hR) rfl rfl hl.1 rfl (lv_room (Nat.le_of_ble_eq_true rfl)) dX4_isFree_176 ⟨Nat.le_of_ble_eq_true rfl, Nat.le_of_ble_eq_true rfl⟩) ?_
          refine lv_icmp_lt (tgt := 221) hx hb dX4_isFree_179 (by decide) (fun c_179 => ?_) (fun c_179 => ?_)
          · refine lv_iconst (v := 0) hx hb dX4_isFree_221 (by decide) ?_
            exact xr_Pz hx hb hr hlocks ((bI_f (by have hk9 : k = S.1 2 0 := (by omega); subst hk9; unfold mFree; rw [hf]; simp [mFreeEnd, c_154, c_179])).symm) dX4_isFree_222
          · refine lv_iload hx hb dX4_isFree_182 (lv_at hl 1 rfl) ?_
            refine lv_iconst (v := (-1)) hx hb dX4_isFree_184 (by decide) ?_
            refine lv_icmp_eq (tgt := 217) hx hb dX4_isFree_185 (by decide) (fun c_185 => ?_) (fun c_185 => ?_)
            · refine lv_iconst (v := 1) hx hb dX4_isFree_217 (by decide) ?_
              refine lv_goto (tgt := 222) hx hb dX4_isFree_218 (by decide) ?_
              exact xr_Pz hx hb hr hlocks ((bI_t (by have hk9 : k = S.1 2 0 := (by omega); subst hk9; unfold mFree; rw [hf]; simp [mFreeEnd, c_154, c_179, c_185])).symm) dX4_isFree_222
            · refine lv_aload_n hx hb dX4_isFree_188 rfl (lv_at hl 3 rfl) ?_
              refine g_X4_39 F hK (mw_0 hR) (v := .ref (ad (11, 0))) rfl dX4_isFree_189 ?_
              refine lv_iload hx hb dX4_isFree_192 (lv_at hl 1 rfl) ?_
              refine x_iald hx hb hK (mw_11 hR) (v := .int (S.2.1 13 h.toNatClampNeg 0)) (xi.up (xi_of (oh.resolve_left c_185)) (by omega)) (rfl) dX4_isFree_194 ?_
              refine lv_iload_n hx hb dX4_isFree_195 rfl (lv_at hl 6 rfl) ?_
              refine lv_isub hx hb dX4_isFree_196 ?_
              refine lv_iload hx hb dX4_isFree_197 (lv_at hl 7 rfl) ?_
              refine lv_isub hx hb dX4_isFree_199 ?_
              refine lv_aload_n hx hb dX4_isFree_200 rfl (lv_at hl 3 rfl) ?_
              refine lv_iload_n hx hb dX4_isFree_201 rfl (lv_at hl 4 rfl) ?_
              refine lv_aload_n hx hb dX4_isFree_202 rfl (lv_at hl 3 rfl) ?_
              refine g_X4_45 F hK (mw_0 hR) (v := .ref (ad (13, 0))) rfl dX4_isFree_203 ?_
              refine lv_iload hx hb dX4_isFree_206 (lv_at hl 1 rfl) ?_
              refine x_cald hx hb hK (mw_13 hR) (v := .int (S.2.1 15 h.toNatClampNeg 0)) (xi.up (xi_of (oh.resolve_left c_185)) (by omega)) (rfl) dX4_isFree_208 ?_
              refine lv_iload hx hb dX4_isFree_209 (lv_at hl 8 rfl) ?_
              refine xc_P (va_runV (As := [.int machine, .int (S.2.1 15 h.toNatClampNeg 0), .int work]) (rest := [.int (((S.2.1 13 h.toNatClampNeg 0) - start) - minutes)]) F (mX4_setup g (A := A) (S := S) (ad := ad) (z := z) (S.2.1 15 h.toNatClampNeg 0) work (xi.up h_machine (by omega))) (cwV 3 hts (lw_V q1613 q1615 qs40 q80 q1616) rfl rfl rfl hdV_X4_setup ⟨Nat.le_of_ble_eq_true rfl, Nat.le_of_ble_eq_true rfl⟩) (xpreV (xrecv hK (mw_0 hR) rfl) hWK hS hR) rfl rfl hl.1 rfl (lv_room (Nat.le_of_ble_eq_true rfl)) dX4_isFree_211 ⟨Nat.le_of_ble_eq_true rfl, Nat.le_of_ble_eq_true rfl⟩) ?_
              refine lv_icmp_lt (tgt := 221) hx hb dX4_isFree_214 (by decide) (fun c_214 => ?_) (fun c_214 => ?_)
              · refine lv_iconst (v := 0) hx hb dX4_isFree_221 (by decide) ?_
                exact xr_Pz hx hb hr hlocks ((bI_f (by have hk9 : k = S.1 2 0 := (by omega); subst hk9; unfold mFree; rw [hf]; simp [mFreeEnd, c_154, c_179, c_185, c_214])).symm) dX4_isFree_222
              · refine lv_iconst (v := 1) hx hb dX4_isFree_217 (by decide) ?_
                refine lv_goto (tgt := 222) hx hb dX4_isFree_218 (by decide) ?_
                exact xr_Pz hx hb hr hlocks ((bI_t (by have hk9 : k = S.1 2 0 := (by omega); subst hk9; unfold mFree; rw [hf]; simp [mFreeEnd, c_154, c_179, c_185, c_214])).symm) dX4_isFree_222
      · refine lv_aload_n hx hb dX4_isFree_18 rfl (lv_at hl 3 rfl) ?_
        refine g_X4_49 F hK (mw_0 hR) (v := .ref (ad (14, 0))) rfl dX4_isFree_19 ?_
        refine lv_iload hx hb dX4_isFree_22 (lv_at hl 0 rfl) ?_
        refine x_cald hx hb hK (mw_14 hR) (v := .int (S.2.1 16 k 0)) (xi_nI (n := 150) (by omega) (by omega)) (rfl) dX4_isFree_24 ?_
        refine lv_bipush (v := 98) hx hb dX4_isFree_25 (by decide) ?_
        refine lv_icmp_ne (tgt := 145) hx hb dX4_isFree_27 (by decide) (fun c_27 => ?_) (fun c_27 => ?_)
        · refine lv_iinc (v := nI (k + 1)) (lv' := [(8, .int (nI (k + 1))), (7, .int h), (6, .int b), (0, .ref (ad (0, 0))), (1, .int machine), (2, .int day), (3, .int start), (4, .int minutes), (5, .int work)]) hx hb dX4_isFree_145 hl (k := 0) rfl (nI_1 _) (by decide) rfl (fun ls hl => ?_)
          refine lv_goto (tgt := 9) hx hb dX4_isFree_148 (by decide) ?_
          exact ih9 (k + 1) b h (by omega) (by omega) (ob.imp id (fun q => vp_up q (by omega))) (oh.imp id (fun q => vp_up q (by omega))) (by rw [foldO_step hf]; simp [mFreeStep, c_27]) ls (lv_sub hl [0, 1, 2, 3, 4, 5, 6, 7, 8] rfl)
        · refine lv_aload_n hx hb dX4_isFree_30 rfl (lv_at hl 3 rfl) ?_
          refine g_X4_33 F hK (mw_0 hR) (v := .ref (ad (9, 0))) rfl dX4_isFree_31 ?_
          refine lv_iload hx hb dX4_isFree_34 (lv_at hl 0 rfl) ?_
          refine x_iald hx hb hK (mw_9 hR) (v := .int (S.2.1 11 k 0)) (xi_nI (n := 150) (by omega) (by omega)) (rfl) dX4_isFree_36 ?_
          refine lv_iload_n hx hb dX4_isFree_37 rfl (lv_at hl 4 rfl) ?_
          refine lv_icmp_ne (tgt := 145) hx hb dX4_isFree_38 (by decide) (fun c_38 => ?_) (fun c_38 => ?_)
          · refine lv_iinc (v := nI (k + 1)) (lv' := [(8, .int (nI (k + 1))), (7, .int h), (6, .int b), (0, .ref (ad (0, 0))), (1, .int machine), (2, .int day), (3, .int start), (4, .int minutes), (5, .int work)]) hx hb dX4_isFree_145 hl (k := 0) rfl (nI_1 _) (by decide) rfl (fun ls hl => ?_)
            refine lv_goto (tgt := 9) hx hb dX4_isFree_148 (by decide) ?_
            exact ih9 (k + 1) b h (by omega) (by omega) (ob.imp id (fun q => vp_up q (by omega))) (oh.imp id (fun q => vp_up q (by omega))) (by rw [foldO_step hf]; simp [mFreeStep, c_27, c_38]) ls (lv_sub hl [0, 1, 2, 3, 4, 5, 6, 7, 8] rfl)
          · refine lv_aload_n hx hb dX4_isFree_41 rfl (lv_at hl 3 rfl) ?_
            refine g_X4_36 F hK (mw_0 hR) (v := .ref (ad (10, 0))) rfl dX4_isFree_42 ?_
            refine lv_iload hx hb dX4_isFree_45 (lv_at hl 0 rfl) ?_
            refine x_iald hx hb hK (mw_10 hR) (v := .int (S.2.1 12 k 0)) (xi_nI (n := 150) (by omega) (by omega)) (rfl) dX4_isFree_47 ?_
            refine lv_iload_n hx hb dX4_isFree_48 rfl (lv_at hl 5 rfl) ?_
            refine lv_icmp_ne (tgt := 145) hx hb dX4_isFree_49 (by decide) (fun c_49 => ?_) (fun c_49 => ?_)
            · refine lv_iinc (v := nI (k + 1)) (lv' := [(8, .int (nI (k + 1))), (7, .int h), (6, .int b), (0, .ref (ad (0, 0))), (1, .int machine), (2, .int day), (3, .int start), (4, .int minutes), (5, .int work)]) hx hb dX4_isFree_145 hl (k := 0) rfl (nI_1 _) (by decide) rfl (fun ls hl => ?_)
              refine lv_goto (tgt := 9) hx hb dX4_isFree_148 (by decide) ?_
              exact ih9 (k + 1) b h (by omega) (by omega) (ob.imp id (fun q => vp_up q (by omega))) (oh.imp id (fun q => vp_up q (by omega))) (by rw [foldO_step hf]; simp [mFreeStep, c_27, c_38, c_49]) ls (lv_sub hl [0, 1, 2, 3, 4, 5, 6, 7, 8] rfl)
            · refine lv_aload_n hx hb dX4_isFree_52 rfl (lv_at hl 3 rfl) ?_
              refine lv_iload hx hb dX4_isFree_53 (lv_at hl 0 rfl) ?_
              refine lv_iload_n hx hb dX4_isFree_55 rfl (lv_at hl 5 rfl) ?_
              refine lv_iload_n hx hb dX4_isFree_56 rfl (lv_at hl 6 rfl) ?_
              refine lv_iload hx hb dX4_isFree_57 (lv_at hl 7 rfl) ?_
              refine xc_P (va_runV (As := [.int (nI k), .int day, .int start, .int minutes]) (rest := []) F (mX4_overlaps g (A := A) (S := S) (ad := ad) (z := z) day start minutes (xi_nI (n := 150) (by omega) (by omega))) (cwV 4 hts (lw_V q1601 q1603 qs37 q80 q1604) rfl rfl rfl hdV_X4_overlaps ⟨Nat.le_of_ble_eq_true rfl, Nat.le_of_ble_eq_true rfl⟩) (xpreV (xrecv hK (mw_0 hR) rfl) hWK hS hR) rfl rfl hl.1 rfl (lv_room (Nat.le_of_ble_eq_true rfl)) dX4_isFree_59 ⟨Nat.le_of_ble_eq_true rfl, Nat.le_of_ble_eq_true rfl⟩) ?_
              refine x_ifeq (tgt := 67) hx hb dX4_isFree_62 (by decide) (fun c_62 => ?_) (fun c_62 => ?_)
              · refine lv_aload_n hx hb dX4_isFree_67 rfl (lv_at hl 3 rfl) ?_
                refine g_X4_39 F hK (mw_0 hR) (v := .ref (ad (11, 0))) rfl dX4_isFree_68 ?_
                refine lv_iload hx hb dX4_isFree_71 (lv_at hl 0 rfl) ?_
                refine x_iald hx hb hK (mw_11 hR) (v := .int (S.2.1 13 k 0)) (xi_nI (n := 150) (by omega) (by omega)) (rfl) dX4_isFree_73 ?_
                refine lv_iload_n hx hb dX4_isFree_74 rfl (lv_at hl 6 rfl) ?_
                refine lv_icmp_ge (tgt := 113) hx hb dX4_isFree_75 (by decide) (fun c_75 => ?_) (fun c_75 => ?_)
                · refine lv_iload hx hb dX4_isFree_113 (lv_at hl 1 rfl) ?_
                  refine lv_iconst (v := (-1)) hx hb dX4_isFree_115 (by decide) ?_
                  refine lv_icmp_eq (tgt := 136) hx hb dX4_isFree_116 (by decide) (fun c_116 => ?_) (fun c_116 => ?_)
                  · refine lv_iload hx hb dX4_isFree_136 (lv_at hl 0 rfl) ?_
                    refine lv_goto (tgt := 143) hx hb dX4_isFree_138 (by decide) ?_
                    refine lv_istore (lv' := [(7, .int (nI k)), (8, .int (nI k)), (6, .int b), (0, .ref (ad (0, 0))), (1, .int machine), (2, .int day), (3, .int start), (4, .int minutes), (5, .int work)]) hx hb dX4_isFree_143 hl (by decide) rfl (fun ls hl => ?_)
                    refine lv_iinc (v := nI (k + 1)) (lv' := [(8, .int (nI (k + 1))), (7, .int (nI k)), (6, .int b), (0, .ref (ad (0, 0))), (1, .int machine), (2, .int day), (3, .int start), (4, .int minutes), (5, .int work)]) hx hb dX4_isFree_145 hl (k := 1) rfl (nI_1 _) (by decide) rfl (fun ls hl => ?_)
                    refine lv_goto (tgt := 9) hx hb dX4_isFree_148 (by decide) ?_
                    exact ih9 (k + 1) b (nI k) (by omega) (by omega) (ob.imp id (fun q => vp_up q (by omega))) (Or.inr (vp_in_nI (by omega) (by omega))) (by rw [foldO_step hf]; simp [mFreeStep, c_27, c_38, c_49, c_62, c_75, c_116]) ls (lv_sub hl [0, 1, 2, 3, 4, 5, 6, 7, 8] rfl)
                  · refine lv_aload_n hx hb dX4_isFree_119 rfl (lv_at hl 3 rfl) ?_
                    refine g_X4_39 F hK (mw_0 hR) (v := .ref (ad (11, 0))) rfl dX4_isFree_120 ?_
                    refine lv_iload hx hb dX4_isFree_123 (lv_at hl 0 rfl) ?_
                    refine x_iald hx hb hK (mw_11 hR) (v := .int (S.2.1 13 k 0)) (xi_nI (n := 150) (by omega) (by omega)) (rfl) dX4_isFree_125 ?_
                    refine lv_aload_n hx hb dX4_isFree_126 rfl (lv_at hl 3 rfl) ?_
                    refine g_X4_39 F hK (mw_0 hR) (v := .ref (ad (11, 0))) rfl dX4_isFree_127 ?_
                    refine lv_iload hx hb dX4_isFree_130 (lv_at hl 1 rfl) ?_
                    refine x_iald hx hb hK (mw_11 hR) (v := .int (S.2.1 13 h.toNatClampNeg 0)) (xi.up (xi_of (oh.resolve_left c_116)) (by omega)) (rfl) dX4_isFree_132 ?_
                    refine lv_icmp_ge (tgt := 141) hx hb dX4_isFree_133 (by decide) (fun c_133 => ?_) (fun c_133 => ?_)
                    · refine lv_iload hx hb dX4_isFree_141 (lv_at hl 1 rfl) ?_
                      refine lv_istore (lv' := [(7, .int h), (8, .int (nI k)), (6, .int b), (0, .ref (ad (0, 0))), (1, .int machine), (2, .int day), (3, .int start), (4, .int minutes), (5, .int work)]) hx hb dX4_isFree_143 hl (by decide) rfl (fun ls hl => ?_)
                      refine lv_iinc (v := nI (k + 1)) (lv' := [(8, .int (nI (k + 1))), (7, .int h), (6, .int b), (0, .ref (ad (0, 0))), (1, .int machine), (2, .int day), (3, .int start), (4, .int minutes), (5, .int work)]) hx hb dX4_isFree_145 hl (k := 1) rfl (nI_1 _) (by decide) rfl (fun ls hl => ?_)
                      refine lv_goto (tgt := 9) hx hb dX4_isFree_148 (by decide) ?_
                      exact ih9 (k + 1) b h (by omega) (by omega) (ob.imp id (fun q => vp_up q (by omega))) (oh.imp id (fun q => vp_up q (by omega))) (by rw [foldO_step hf]; simp [mFreeStep, c_27, c_38, c_49, c_62, c_75, c_116, c_133]) ls (lv_sub hl [0, 1, 2, 3, 4, 5, 6, 7, 8] rfl)
                    · refine lv_iload hx hb dX4_isFree_136 (lv_at hl 0 rfl) ?_
                      refine lv_goto (tgt := 143) hx hb dX4_isFree_138 (by decide) ?_
                      refine lv_istore (lv' := [(7, .int (nI k)), (8, .int (nI k)), (6, .int b), (0, .ref (ad (0, 0))), (1, .int machine), (2, .int day), (3, .int start), (4, .int minutes), (5, .int work)]) hx hb dX4_isFree_143 hl (by decide) rfl (fun ls hl => ?_)
                      refine lv_iinc (v := nI (k + 1)) (lv' := [(8, .int (nI (k + 1))), (7, .int (nI k)), (6, .int b), (0, .ref (ad (0, 0))), (1, .int machine), (2, .int day), (3, .int start), (4, .int minutes), (5, .int work)]) hx hb dX4_isFree_145 hl (k := 1) rfl (nI_1 _) (by decide) rfl (fun ls hl => ?_)
                      refine lv_goto (tgt := 9) hx hb dX4_isFree_148 (by decide) ?_
                      exact ih9 (k + 1) b (nI k) (by omega) (by omega) (ob.imp id (fun q => vp_up q (by omega))) (Or.inr (vp_in_nI (by omega) (by omega))) (by rw [foldO_step hf]; simp [mFreeStep, c_27, c_38, c_49, c_62, c_75, c_116, c_133]) ls (lv_sub hl [0, 1, 2, 3, 4, 5, 6, 7, 8] rfl)
                · refine lv_iload hx hb dX4_isFree_78 (lv_at hl 2 rfl) ?_
                  refine lv_iconst (v := (-1)) hx hb dX4_isFree_80 (by decide) ?_
                  refine lv_icmp_eq (tgt := 101) hx hb dX4_isFree_81 (by decide) (fun c_81 => ?_) (fun c_81 => ?_)
                  · refine lv_iload hx hb dX4_isFree_101 (lv_at hl 0 rfl) ?_
                    refine lv_goto (tgt := 108) hx hb dX4_isFree_103 (by decide) ?_
                    refine lv_istore (lv' := [(6, .int (nI k)), (8, .int (nI k)), (7, .int h), (0, .ref (ad (0, 0))), (1, .int machine), (2, .int day), (3, .int start), (4, .int minutes), (5, .int work)]) hx hb dX4_isFree_108 hl (by decide) rfl (fun ls hl => ?_)
                    refine lv_goto (tgt := 145) hx hb dX4_isFree_110 (by decide) ?_
                    refine lv_iinc (v := nI (k + 1)) (lv' := [(8, .int (nI (k + 1))), (6, .int (nI k)), (7, .int h), (0, .ref (ad (0, 0))), (1, .int machine), (2, .int day), (3, .int start), (4, .int minutes), (5, .int work)]) hx hb dX4_isFree_145 hl (k := 1) rfl (nI_1 _) (by decide) rfl (fun ls hl => ?_)
                    refine lv_goto (tgt := 9) hx hb dX4_isFree_148 (by decide) ?_
                    exact ih9 (k + 1) (nI k) h (by omega) (by omega) (Or.inr (vp_in_nI (by omega) (by omega))) (oh.imp id (fun q => vp_up q (by omega))) (by rw [foldO_step hf]; simp [mFreeStep, c_27, c_38, c_49, c_62, c_75, c_81]) ls (lv_sub hl [0, 2, 1, 3, 4, 5, 6, 7, 8] rfl)
                  · refine lv_aload_n hx hb dX4_isFree_84 rfl (lv_at hl 3 rfl) ?_
                    refine g_X4_39 F hK (mw_0 hR) (v := .ref (ad (11, 0))) rfl dX4_isFree_85 ?_
                    refine lv_iload hx hb dX4_isFree_88 (lv_at hl 0 rfl) ?_
                    refine x_iald hx hb hK (mw_11 hR) (v := .int (S.2.1 13 k 0)) (xi_nI (n := 150) (by omega) (by omega)) (rfl) dX4_isFree_90 ?_
                    refine lv_aload_n hx hb dX4_isFree_91 rfl (lv_at hl 3 rfl) ?_
                    refine g_X4_39 F hK (mw_0 hR) (v := .ref (ad (11, 0))) rfl dX4_isFree_92 ?_
                    refine lv_iload hx hb dX4_isFree_95 (lv_at hl 2 rfl) ?_
                    refine x_iald hx hb hK (mw_11 hR) (v := .int (S.2.1 13 b.toNatClampNeg 0)) (xi.up (xi_of (ob.resolve_left c_81)) (by omega)) (rfl) dX4_isFree_97 ?_
                    refine lv_icmp_le (tgt := 106) hx hb dX4_isFree_98 (by decide) (fun c_98 => ?_) (fun c_98 => ?_)
                    · refine lv_iload hx hb dX4_isFree_106 (lv_at hl 2 rfl) ?_
                      refine lv_istore (lv' := [(6, .int b), (8, .int (nI k)), (7, .int h), (0, .ref (ad (0, 0))), (1, .int machine), (2, .int day), (3, .int start), (4, .int minutes), (5, .int work)]) hx hb dX4_isFree_108 hl (by decide) rfl (fun ls hl => ?_)
                      refine lv_goto (tgt := 145) hx hb dX4_isFree_110 (by decide) ?_
                      refine lv_iinc (v := nI (k + 1)) (lv' := [(8, .int (nI (k + 1))), (6, .int b), (7, .int h), (0, .ref (ad (0, 0))), (1, .int machine), (2, .int day), (3, .int start), (4, .int minutes), (5, .int work)]) hx hb dX4_isFree_145 hl (k := 1) rfl (nI_1 _) (by decide) rfl (fun ls hl => ?_)
                      refine lv_goto (tgt := 9) hx hb dX4_isFree_148 (by decide) ?_
                      exact ih9 (k + 1) b h (by omega) (by omega) (ob.imp id (fun q => vp_up q (by omega))) (oh.imp id (fun q => vp_up q (by omega))) (by rw [foldO_step hf]; simp [mFreeStep, c_27, c_38, c_49, c_62, c_75, c_81, c_98]) ls (lv_sub hl [0, 2, 1, 3, 4, 5, 6, 7, 8] rfl)
                    · refine lv_iload hx hb dX4_isFree_101 (lv_at hl 0 rfl) ?_
                      refine lv_goto (tgt := 108) hx hb dX4_isFree_103 (by decide) ?_
                      refine lv_istore (lv' := [(6, .int (nI k)), (8, .int (nI k)), (7, .int h), (0, .ref (ad (0, 0))), (1, .int machine), (2, .int day), (3, .int start), (4, .int minutes), (5, .int work)]) hx hb dX4_isFree_108 hl (by decide) rfl (fun ls hl => ?_)
                      refine lv_goto (tgt := 145) hx hb dX4_isFree_110 (by decide) ?_
                      refine lv_iinc (v := nI (k + 1)) (lv' := [(8, .int (nI (k + 1))), (6, .int (nI k)), (7, .int h), (0, .ref (ad (0, 0))), (1, .int machine), (2, .int day), (3, .int start), (4, .int minutes), (5, .int work)]) hx hb dX4_isFree_145 hl (k := 1) rfl (nI_1 _) (by decide) rfl (fun ls hl => ?_)
                      refine lv_goto (tgt := 9) hx hb dX4_isFree_148 (by decide) ?_
                      exact ih9 (k + 1) (nI k) h (by omega) (by omega) (Or.inr (vp_in_nI (by omega) (by omega))) (oh.imp id (fun q => vp_up q (by omega))) (by rw [foldO_step hf]; simp [mFreeStep, c_27, c_38, c_49, c_62, c_75, c_81, c_98]) ls (lv_sub hl [0, 2, 1, 3, 4, 5, 6, 7, 8] rfl)
              · refine lv_iconst (v := 0) hx hb dX4_isFree_65 (by decide) ?_
                exact xr_Pz hx hb hr hlocks ((bI_f (by unfold mFree; rw [foldO_none (n := S.1 2 0) (by rw [foldO_step hf]; simp [mFreeStep, c_27, c_38, c_49, c_62]) (by omega)])).symm) dX4_isFree_66
  exact L9 (S.1 2 0 + 1) 0 (-1) (-1) (by omega) (by omega) (Or.inl rfl) (Or.inl rfl) rfl ls (lv_sub hl [0, 1, 2, 3, 4, 5, 6, 7, 8] rfl)

set_option maxHeartbeats 4000000 in
theorem mX4_reaches {l : Launch} {G : xG} {s0 : State} {b0 : Nat} (g : xG0 G s0 b0) {A : Nat → Prop} {S : xS} {ad : Nat × Nat → Nat} {z : xZ} {rk : Nat → Nat} (hrk : rkOK S.2.1 rk) : ∀ (d : Nat) (a o : Nat) (ha : a < 4) (ho : o < 4) (hd : rk a < d), Met l yX4_reaches (ws_ yX4_reaches cX4_reaches 5 (some .boolean)) ({ frames := d, cells := 0, slots := 0, locals := 24 * (d) } : Room) (xP s0 A [.ref (ad (0, 0)), .int (nI a), .int (nI o)] (fun H => xRM G A S ad z H)) (xQp (some (.int (bI (mReach S.2.1 d a o))))) 0 0 (fun _ => False) := by
  intro d
  induction d with
  | zero =>
    intro a o ha ho hd
    exact absurd hd (Nat.not_lt_zero _)
  | succ d ihd =>
    intro a o ha ho hd
    refine Met.ofW (cc := cX4_reaches) (maxL := 5) (ret := (some .boolean)) (by decide) rfl ?_
    intro p e s m args below meth c s₁ B hml hv
    obtain ⟨rfl, hWK, hR⟩ := hv
    have hx := B.exec
    have hb := B.bytes
    have hr := B.returns
    have hts := atoms_spec (ws := ws_ yX4_reaches cX4_reaches 5 (some .boolean)) B.pre
    have hts : ∀ w ∈ lw_all, w.before _ s = true := fun w h => hts w (List.mem_cons_of_mem _ h)
    have hown : s.vm.findClass "LendlatheModel" = some m.cls := findClass_of_methodNamed B.named
    have hlocks := B.notSynchronized
    have hK := hWK.K g
    have F : CallFix p m c cX4_reaches 5 s _ lw_all "LendlatheModel" := ⟨hx, hb, hml, hown, hts⟩
    have hS : va_S A s.heap s.heap [] := va_S.rf
    have hl := lv_entry ([.ref (ad (0, 0)), .int (nI a), .int (nI o)]) (n := 5) (Nat.le_of_ble_eq_true rfl)
    rw [lg_entry_eq]
    generalize (lg_sl ([.ref (ad (0, 0)), .int (nI a), .int (nI o)]) ++ List.replicate (5 - (lg_sl ([.ref (ad (0, 0)), .int (nI a), .int (nI o)])).length) Slot.unset).toArray = ls at hl ⊢
    have hl : lv_has ls 5 [(0, .ref (ad (0, 0))), (1, .int (nI a)), (2, .int (nI o))] := hl
    have L14 : ∀ (n : Nat) (k : Nat) (b : Bool), 4 - k < n → (k ≤ 4) → (b = (decide (a = o) || anyN k (fun j => !decide (S.2.1 5 a j = 0) && mReach S.2.1 d j o))) → ∀ (ls : Array Slot), lv_has ls 5 [(4, .int (nI k)), (3, .int (bI b)), (0, .ref (ad (0, 0))), (1, .int (nI a)), (2, .int (nI o))] → W p l e (headSpec (ws_ yX4_reaches cX4_reaches 5 (some .boolean)) ({ frames := d + 1, cells := 0, slots := 0, locals := 24 * (d + 1) } : Room)).room s m ([.ref (ad (0, 0)), .int (nI a), .int (nI o)] : List Value).toArray below meth c s.heap [] 0 0 (MQ below (xQp (some (.int (bI (mReach S.2.1 (d + 1) a o))))) ([.ref (ad (0, 0)), .int (nI a), .int (nI o)] : List Value).toArray s 0 0 (fun _ => False)) (F0 m 14 ls []) := by
      intro n14
      induction n14 with
      | zero =>
        intro k b hn14
        exact absurd hn14 (Nat.not_lt_zero _)
      | succ n14 ih14 =>
        intro k b hn14 hk4 eb ls hl
        refine lv_iload hx hb dX4_reaches_14 (lv_at hl 0 rfl) ?_
        refine lv_iconst (v := 4) hx hb dX4_reaches_16 (by decide) ?_
        refine xn_ge (tgt := 58) k 4 rfl (by decide) (by omega) (by omega) hx hb dX4_reaches_17 (by decide) (fun c_17 => ?_) (fun c_17 => ?_)
        · refine lv_iload_n hx hb dX4_reaches_58 rfl (lv_at hl 1 rfl) ?_
          exact xr_Pz hx hb hr hlocks (congrArg bI (by have hk9 : k = 4 := (by omega); subst hk9; rw [eb]; rfl)) dX4_reaches_59
        · refine lv_iload_n hx hb dX4_reaches_20 rfl (lv_at hl 1 rfl) ?_
          refine x_ifne (tgt := 58) hx hb dX4_reaches_21 (by decide) (fun c_21 => ?_) (fun c_21 => ?_)
          · refine lv_iload_n hx hb dX4_reaches_58 rfl (lv_at hl 1 rfl) ?_
            exact xr_Pz hx hb hr hlocks (congrArg bI (by rw [c_21]; exact (or_any (eb.symm.trans c_21) hk4).symm)) dX4_reaches_59
          · refine lv_aload_n hx hb dX4_reaches_24 rfl (lv_at hl 2 rfl) ?_
            refine g_X4_27 F hK (mw_0 hR) (v := .ref (ad (6, 0))) rfl dX4_reaches_25 ?_
            refine lv_iload_n hx hb dX4_reaches_28 rfl (lv_at hl 3 rfl) ?_
            refine x_aald hx hb hK (mw_6 hR) rfl rfl (v := .ref (ad (7, a))) (xi_nI (n := 4) (by omega) (by omega)) (rfl) dX4_reaches_29 ?_
            refine lv_iload hx hb dX4_reaches_30 (lv_at hl 0 rfl) ?_
            refine x_zald hx hb hK (mw_7 hR (by omega)) (v := .int (S.2.1 5 a k)) (xi_nI (n := 4) (by omega) (by omega)) (rfl) dX4_reaches_32 ?_
            refine lv_if_eq (tgt := 50) hx hb dX4_reaches_33 (by decide) (fun c_33 => ?_) (fun c_33 => ?_)
            · refine lv_iconst (v := 0) hx hb dX4_reaches_50 (by decide) ?_
              refine lv_istore_n (lv' := [(3, .int 0), (4, .int (nI k)), (0, .ref (ad (0, 0))), (1, .int (nI a)), (2, .int (nI o))]) hx hb dX4_reaches_51 rfl hl (by decide) rfl (fun ls hl => ?_)
              refine lv_iinc (v := nI (k + 1)) (lv' := [(4, .int (nI (k + 1))), (3, .int 0), (0, .ref (ad (0, 0))), (1, .int (nI a)), (2, .int (nI o))]) hx hb dX4_reaches_52 hl (k := 1) rfl (nI_1 _) (by decide) rfl (fun ls hl => ?_)
              refine lv_goto (tgt := 14) hx hb dX4_reaches_55 (by decide) ?_
              exact ih14 (k + 1) false (by omega) (by omega) (by simp [anyN, ← Bool.or_assoc, ← eb, c_21, c_33]) ls (lv_sub hl [0, 1, 2, 3, 4] rfl)
            · refine lv_aload_n hx hb dX4_reaches_36 rfl (lv_at hl 2 rfl) ?_
              refine lv_iload hx hb dX4_reaches_37 (lv_at hl 0 rfl) ?_
              refine lv_iload_n hx hb dX4_reaches_39 rfl (lv_at hl 4 rfl) ?_
              refine xc_P (va_runV (As := [.int (nI k), .int (nI o)]) (rest := []) F (ihd k o (by first | assumption | omega) (by first | assumption | omega) (by have := hrk a k ha c_17 c_33; omega)) (cwV 2 hts (lw_V q1577 q1579 qs31 q80 q1580) rfl rfl rfl hdV_X4_reaches ⟨by simp only [headSpec]; omega, by simp only [headSpec]; omega⟩) (xpreV (xrecv hK (mw_0 hR) rfl) hWK hS hR) rfl rfl hl.1 rfl (lv_room (Nat.le_of_ble_eq_true rfl)) dX4_reaches_40 ⟨Nat.le_of_ble_eq_true rfl, Nat.le_of_ble_eq_true rfl⟩) ?_
              refine x_ifeq (tgt := 50) hx hb dX4_reaches_43 (by decide) (fun c_43 => ?_) (fun c_43 => ?_)
              · refine lv_iconst (v := 0) hx hb dX4_reaches_50 (by decide) ?_
                refine lv_istore_n (lv' := [(3, .int 0), (4, .int (nI k)), (0, .ref (ad (0, 0))), (1, .int (nI a)), (2, .int (nI o))]) hx hb dX4_reaches_51 rfl hl (by decide) rfl (fun ls hl => ?_)
                refine lv_iinc (v := nI (k + 1)) (lv' := [(4, .int (nI (k + 1))), (3, .int 0), (0, .ref (ad (0, 0))), (1, .int (nI a)), (2, .int (nI o))]) hx hb dX4_reaches_52 hl (k := 1) rfl (nI_1 _) (by decide) rfl (fun ls hl => ?_)
                refine lv_goto (tgt := 14) hx hb dX4_reaches_55 (by decide) ?_
                exact ih14 (k + 1) false (by omega) (by omega) (by simp [anyN, ← Bool.or_assoc, ← eb, c_21, c_33, c_43]) ls (lv_sub hl [0, 1, 2, 3, 4] rfl)
              · refine lv_iconst (v := 1) hx hb dX4_reaches_46 (by decide) ?_
                refine lv_goto (tgt := 51) hx hb dX4_reaches_47 (by decide) ?_
                refine lv_istore_n (lv' := [(3, .int 1), (4, .int (nI k)), (0, .ref (ad (0, 0))), (1, .int (nI a)), (2, .int (nI o))]) hx hb dX4_reaches_51 rfl hl (by decide) rfl (fun ls hl => ?_)
                refine lv_iinc (v := nI (k + 1)) (lv' := [(4, .int (nI (k + 1))), (3, .int 1), (0, .ref (ad (0, 0))), (1, .int (nI a)), (2, .int (nI o))]) hx hb dX4_reaches_52 hl (k := 1) rfl (nI_1 _) (by decide) rfl (fun ls hl => ?_)
                refine lv_goto (tgt := 14) hx hb dX4_reaches_55 (by decide) ?_
                exact ih14 (k + 1) true (by omega) (by omega) (by simp [anyN, ← Bool.or_assoc, ← eb, c_21, c_33, c_43]) ls (lv_sub hl [0, 1, 2, 3, 4] rfl)
    refine lv_iload_n hx hb dX4_reaches_0 rfl (lv_at hl 1 rfl) ?_
    refine lv_iload_n hx hb dX4_reaches_1 rfl (lv_at hl 2 rfl) ?_
    refine xn_ne (tgt := 9) a o rfl rfl (by omega) (by omega) hx hb dX4_reaches_2 (by decide) (fun c_2 => ?_) (fun c_2 => ?_)
    · refine lv_iconst (v := 0) hx hb dX4_reaches_9 (by decide) ?_
      refine lv_istore_n (lv' := [(3, .int 0), (0, .ref (ad (0, 0))), (1, .int (nI a)), (2, .int (nI o))]) hx hb dX4_reaches_10 rfl hl (by decide) rfl (fun ls hl => ?_)
      refine lv_iconst (v := 0) hx hb dX4_reaches_11 (by decide) ?_
      refine lv_istore (lv' := [(4, .int 0), (3, .int 0), (0, .ref (ad (0, 0))), (1, .int (nI a)), (2, .int (nI o))]) hx hb dX4_reaches_12 hl (by decide) rfl (fun ls hl => ?_)
      exact L14 5 0 false (by omega) (by omega) (by simp [anyN, c_2]) ls (lv_sub hl [0, 1, 2, 3, 4] rfl)
    · refine lv_iconst (v := 1) hx hb dX4_reaches_5 (by decide) ?_
      refine lv_goto (tgt := 10) hx hb dX4_reaches_6 (by decide) ?_
      refine lv_istore_n (lv' := [(3, .int 1), (0, .ref (ad (0, 0))), (1, .int (nI a)), (2, .int (nI o))]) hx hb dX4_reaches_10 rfl hl (by decide) rfl (fun ls hl => ?_)
      refine lv_iconst (v := 0) hx hb dX4_reaches_11 (by decide) ?_
      refine lv_istore (lv' := [(4, .int 0), (3, .int 1), (0, .ref (ad (0, 0))), (1, .int (nI a)), (2, .int (nI o))]) hx hb dX4_reaches_12 hl (by decide) rfl (fun ls hl => ?_)
      exact L14 5 0 true (by omega) (by omega) (by simp [anyN, c_2]) ls (lv_sub hl [0, 1, 2, 3, 4] rfl)

set_option maxHeartbeats 4000000 in
theorem mX4_live {l : Launch} {G : xG} {s0 : State} {b0 : Nat} (g : xG0 G s0 b0) {A : Nat → Prop} {S : xS} {ad : Nat × Nat → Nat} {z : xZ} {rk : Nat → Nat} (hrk : rkOK S.2.1 rk) : ∀ (d : Nat) (day : Int32) (member : Int32) (mi : Nat) (kd : Int32) (ki : Nat) (h_member : xi member mi 10) (h_kd : xi kd ki 4) (hd : rk ki < d), Met l yX4_live (ws_ yX4_live cX4_live 7 (some .boolean)) ({ frames := d, cells := 0, slots := 0, locals := 30 * (d) } : Room) (xP s0 A [.ref (ad (0, 0)), .int member, .int kd, .int day] (fun H => xRM G A S ad z H)) (xQp (some (.int (bI (mLive S.2.1 day mi d ki))))) 0 0 (fun _ => False) := by
  intro d
  induction d with
  | zero =>
    intro day member mi kd ki h_member h_kd hd
    exact absurd hd (Nat.not_lt_zero _)
  | succ d ihd =>
    intro day member mi kd ki h_member h_kd hd
    refine Met.ofW (cc := cX4_live) (maxL := 7) (ret := (some .boolean)) (by decide) rfl ?_
    intro p e s m args below meth c s₁ B hml hv
    obtain ⟨rfl, hWK, hR⟩ := hv
    have hx := B.exec
    have hb := B.bytes
    have hr := B.returns
    have hts := atoms_spec (ws := ws_ yX4_live cX4_live 7 (some .boolean)) B.pre
    have hts : ∀ w ∈ lw_all, w.before _ s = true := fun w h => hts w (List.mem_cons_of_mem _ h)
    have hown : s.vm.findClass "LendlatheModel" = some m.cls := findClass_of_methodNamed B.named
    have hlocks := B.notSynchronized
    have hK := hWK.K g
    have F : CallFix p m c cX4_live 7 s _ lw_all "LendlatheModel" := ⟨hx, hb, hml, hown, hts⟩
    have hS : va_S A s.heap s.heap [] := va_S.rf
    have hl := lv_entry ([.ref (ad (0, 0)), .int member, .int kd, .int day]) (n := 7) (Nat.le_of_ble_eq_true rfl)
    rw [lg_entry_eq]
    generalize (lg_sl ([.ref (ad (0, 0)), .int member, .int kd, .int day]) ++ List.replicate (7 - (lg_sl ([.ref (ad (0, 0)), .int member, .int kd, .int day])).length) Slot.unset).toArray = ls at hl ⊢
    have hl : lv_has ls 7 [(0, .ref (ad (0, 0))), (1, .int member), (2, .int kd), (3, .int day)] := hl
    have L40 : ∀ (n : Nat) (k : Nat) (b : Bool), 4 - k < n → (k ≤ 4) → (b = ((!decide (S.2.1 2 mi ki = -1) && inI day (S.2.1 2 mi ki) (S.2.1 2 mi ki + 29)) && allN k (fun j => decide (S.2.1 5 ki j = 0) || mLive S.2.1 day mi d j))) → ∀ (ls : Array Slot), lv_has ls 7 [(6, .int (nI k)), (5, .int (bI b)), (0, .ref (ad (0, 0))), (1, .int member), (2, .int kd), (3, .int day)] → W p l e (headSpec (ws_ yX4_live cX4_live 7 (some .boolean)) ({ frames := d + 1, cells := 0, slots := 0, locals := 30 * (d + 1) } : Room)).room s m ([.ref (ad (0, 0)), .int member, .int kd, .int day] : List Value).toArray below meth c s.heap [] 0 0 (MQ below (xQp (some (.int (bI (mLive S.2.1 day mi (d + 1) ki))))) ([.ref (ad (0, 0)), .int member, .int kd, .int day] : List Value).toArray s 0 0 (fun _ => False)) (F0 m 40 ls []) := by
      intro n40
      induction n40 with
      | zero =>
        intro k b hn40
        exact absurd hn40 (Nat.not_lt_zero _)
      | succ n40 ih40 =>
        intro k b hn40 hk4 eb ls hl
        refine lv_iload hx hb dX4_live_40 (lv_at hl 0 rfl) ?_
        refine lv_iconst (v := 4) hx hb dX4_live_42 (by decide) ?_
        refine xn_ge (tgt := 87) k 4 rfl (by decide) (by omega) (by omega) hx hb dX4_live_43 (by decide) (fun c_43 => ?_) (fun c_43 => ?_)
        · refine lv_iload hx hb dX4_live_87 (lv_at hl 1 rfl) ?_
          exact xr_Pz hx hb hr hlocks (congrArg bI (by have hk9 : k = 4 := (by omega); subst hk9; rw [eb]; rfl)) dX4_live_89
        · refine lv_iload hx hb dX4_live_46 (lv_at hl 1 rfl) ?_
          refine x_ifeq (tgt := 87) hx hb dX4_live_48 (by decide) (fun c_48 => ?_) (fun c_48 => ?_)
          · refine lv_iload hx hb dX4_live_87 (lv_at hl 1 rfl) ?_
            exact xr_Pz hx hb hr hlocks (congrArg bI (by rw [c_48]; exact (and_all (eb.symm.trans c_48) hk4).symm)) dX4_live_89
          · refine lv_aload_n hx hb dX4_live_51 rfl (lv_at hl 2 rfl) ?_
            refine g_X4_27 F hK (mw_0 hR) (v := .ref (ad (6, 0))) rfl dX4_live_52 ?_
            refine lv_iload_n hx hb dX4_live_55 rfl (lv_at hl 4 rfl) ?_
            refine x_aald hx hb hK (mw_6 hR) rfl rfl (v := .ref (ad (7, ki))) (xi.up h_kd (by omega)) (rfl) dX4_live_56 ?_
            refine lv_iload hx hb dX4_live_57 (lv_at hl 0 rfl) ?_
            refine x_zald hx hb hK (mw_7 hR (by have := (h_kd).lt; omega)) (v := .int (S.2.1 5 ki k)) (xi_nI (n := 4) (by omega) (by omega)) (rfl) dX4_live_59 ?_
            refine lv_if_eq (tgt := 74) hx hb dX4_live_60 (by decide) (fun c_60 => ?_) (fun c_60 => ?_)
            · refine lv_iconst (v := 1) hx hb dX4_live_74 (by decide) ?_
              refine lv_goto (tgt := 79) hx hb dX4_live_75 (by decide) ?_
              refine lv_istore (lv' := [(5, .int 1), (6, .int (nI k)), (0, .ref (ad (0, 0))), (1, .int member), (2, .int kd), (3, .int day)]) hx hb dX4_live_79 hl (by decide) rfl (fun ls hl => ?_)
              refine lv_iinc (v := nI (k + 1)) (lv' := [(6, .int (nI (k + 1))), (5, .int 1), (0, .ref (ad (0, 0))), (1, .int member), (2, .int kd), (3, .int day)]) hx hb dX4_live_81 hl (k := 1) rfl (nI_1 _) (by decide) rfl (fun ls hl => ?_)
              refine lv_goto (tgt := 40) hx hb dX4_live_84 (by decide) ?_
              exact ih40 (k + 1) true (by omega) (by omega) (by simp [allN, ← Bool.and_assoc, ← eb, c_48, c_60]) ls (lv_sub hl [0, 1, 2, 3, 4, 5] rfl)
            · refine lv_aload_n hx hb dX4_live_63 rfl (lv_at hl 2 rfl) ?_
              refine lv_iload_n hx hb dX4_live_64 rfl (lv_at hl 3 rfl) ?_
              refine lv_iload hx hb dX4_live_65 (lv_at hl 0 rfl) ?_
              refine lv_iload_n hx hb dX4_live_67 rfl (lv_at hl 5 rfl) ?_
              refine xc_P (va_runV (As := [.int member, .int (nI k), .int day]) (rest := []) F (ihd day member mi (nI k) k (xi.up h_member (by omega)) (xi_nI (n := 4) (by omega) (by omega)) (by have := hrk ki k h_kd.lt c_43 c_60; omega)) (cwV 3 hts (lw_V q1585 q1587 qs33 q80 q1588) rfl rfl rfl hdV_X4_live ⟨by simp only [headSpec]; omega, by simp only [headSpec]; omega⟩) (xpreV (xrecv hK (mw_0 hR) rfl) hWK hS hR) rfl rfl hl.1 rfl (lv_room (Nat.le_of_ble_eq_true rfl)) dX4_live_68 ⟨Nat.le_of_ble_eq_true rfl, Nat.le_of_ble_eq_true rfl⟩) ?_
              refine x_ifeq (tgt := 78) hx hb dX4_live_71 (by decide) (fun c_71 => ?_) (fun c_71 => ?_)
              · refine lv_iconst (v := 0) hx hb dX4_live_78 (by decide) ?_
                refine lv_istore (lv' := [(5, .int 0), (6, .int (nI k)), (0, .ref (ad (0, 0))), (1, .int member), (2, .int kd), (3, .int day)]) hx hb dX4_live_79 hl (by decide) rfl (fun ls hl => ?_)
                refine lv_iinc (v := nI (k + 1)) (lv' := [(6, .int (nI (k + 1))), (5, .int 0), (0, .ref (ad (0, 0))), (1, .int member), (2, .int kd), (3, .int day)]) hx hb dX4_live_81 hl (k := 1) rfl (nI_1 _) (by decide) rfl (fun ls hl => ?_)
                refine lv_goto (tgt := 40) hx hb dX4_live_84 (by decide) ?_
                exact ih40 (k + 1) false (by omega) (by omega) (by simp [allN, ← Bool.and_assoc, ← eb, c_48, c_60, c_71]) ls (lv_sub hl [0, 1, 2, 3, 4, 5] rfl)
              · refine lv_iconst (v := 1) hx hb dX4_live_74 (by decide) ?_
                refine lv_goto (tgt := 79) hx hb dX4_live_75 (by decide) ?_
                refine lv_istore (lv' := [(5, .int 1), (6, .int (nI k)), (0, .ref (ad (0, 0))), (1, .int member), (2, .int kd), (3, .int day)]) hx hb dX4_live_79 hl (by decide) rfl (fun ls hl => ?_)
                refine lv_iinc (v := nI (k + 1)) (lv' := [(6, .int (nI (k + 1))), (5, .int 1), (0, .ref (ad (0, 0))), (1, .int member), (2, .int kd), (3, .int day)]) hx hb dX4_live_81 hl (k := 1) rfl (nI_1 _) (by decide) rfl (fun ls hl => ?_)
                refine lv_goto (tgt := 40) hx hb dX4_live_84 (by decide) ?_
                exact ih40 (k + 1) true (by omega) (by omega) (by simp [allN, ← Bool.and_assoc, ← eb, c_48, c_60, c_71]) ls (lv_sub hl [0, 1, 2, 3, 4, 5] rfl)
    refine lv_aload_n hx hb dX4_live_0 rfl (lv_at hl 0 rfl) ?_
    refine g_X4_18 F hK (mw_0 hR) (v := .ref (ad (3, 0))) rfl dX4_live_1 ?_
    refine lv_iload_n hx hb dX4_live_4 rfl (lv_at hl 1 rfl) ?_
    refine x_aald hx hb hK (mw_3 hR) rfl rfl (v := .ref (ad (4, mi))) (xi.up h_member (by omega)) (rfl) dX4_live_5 ?_
    refine lv_iload_n hx hb dX4_live_6 rfl (lv_at hl 2 rfl) ?_
    refine x_iald hx hb hK (mw_4 hR (by have := (h_member).lt; omega)) (v := .int (S.2.1 2 mi ki)) (xi.up h_kd (by omega)) (rfl) dX4_live_7 ?_
    refine lv_istore (lv' := [(4, .int (S.2.1 2 mi ki)), (0, .ref (ad (0, 0))), (1, .int member), (2, .int kd), (3, .int day)]) hx hb dX4_live_8 hl (by decide) rfl (fun ls hl => ?_)
    refine lv_iload hx hb dX4_live_10 (lv_at hl 0 rfl) ?_
    refine lv_iconst (v := (-1)) hx hb dX4_live_12 (by decide) ?_
    refine lv_icmp_eq (tgt := 34) hx hb dX4_live_13 (by decide) (fun c_13 => ?_) (fun c_13 => ?_)
    · refine lv_iconst (v := 0) hx hb dX4_live_34 (by decide) ?_
      refine lv_istore (lv' := [(5, .int 0), (4, .int (S.2.1 2 mi ki)), (0, .ref (ad (0, 0))), (1, .int member), (2, .int kd), (3, .int day)]) hx hb dX4_live_35 hl (by decide) rfl (fun ls hl => ?_)
      refine lv_iconst (v := 0) hx hb dX4_live_37 (by decide) ?_
      refine lv_istore (lv' := [(6, .int 0), (5, .int 0), (4, .int (S.2.1 2 mi ki)), (0, .ref (ad (0, 0))), (1, .int member), (2, .int kd), (3, .int day)]) hx hb dX4_live_38 hl (by decide) rfl (fun ls hl => ?_)
      exact L40 5 0 false (by omega) (by omega) (by simp [allN, c_13]) ls (lv_sub hl [0, 1, 3, 4, 5, 6] rfl)
    · refine lv_iload_n hx hb dX4_live_16 rfl (lv_at hl 4 rfl) ?_
      refine lv_iload hx hb dX4_live_17 (lv_at hl 0 rfl) ?_
      refine lv_iload hx hb dX4_live_19 (lv_at hl 0 rfl) ?_
      refine lv_bipush (v := 29) hx hb dX4_live_21 (by decide) ?_
      refine lv_iadd hx hb dX4_live_23 ?_
      refine xc_P (va_runS (As := [.int day, .int (S.2.1 2 mi ki), .int ((S.2.1 2 mi ki) + 29)]) (rest := []) F (mX4_in g (A := A) day (S.2.1 2 mi ki) ((S.2.1 2 mi ki) + 29)) (va_cwS 3 hts (lw_S q1558 q1559 q80 q1560) rfl rfl rfl hdS_X4_in ⟨by simp only [headSpec]; omega, by simp only [headSpec]; omega⟩) (xpre hWK hS trivial) rfl rfl hl.1 rfl (lv_room (Nat.le_of_ble_eq_true rfl)) dX4_live_24 ⟨Nat.le_of_ble_eq_true rfl, Nat.le_of_ble_eq_true rfl⟩) ?_
      refine x_ifeq (tgt := 34) hx hb dX4_live_27 (by decide) (fun c_27 => ?_) (fun c_27 => ?_)
      · refine lv_iconst (v := 0) hx hb dX4_live_34 (by decide) ?_
        refine lv_istore (lv' := [(5, .int 0), (4, .int (S.2.1 2 mi ki)), (0, .ref (ad (0, 0))), (1, .int member), (2, .int kd), (3, .int day)]) hx hb dX4_live_35 hl (by decide) rfl (fun ls hl => ?_)
        refine lv_iconst (v := 0) hx hb dX4_live_37 (by decide) ?_
        refine lv_istore (lv' := [(6, .int 0), (5, .int 0), (4, .int (S.2.1 2 mi ki)), (0, .ref (ad (0, 0))), (1, .int member), (2, .int kd), (3, .int day)]) hx hb dX4_live_38 hl (by decide) rfl (fun ls hl => ?_)
        exact L40 5 0 false (by omega) (by omega) (by simp [allN, c_13, c_27]) ls (lv_sub hl [0, 1, 3, 4, 5, 6] rfl)
      · refine lv_iconst (v := 1) hx hb dX4_live_30 (by decide) ?_
        refine lv_goto (tgt := 35) hx hb dX4_live_31 (by decide) ?_
        refine lv_istore (lv' := [(5, .int 1), (4, .int (S.2.1 2 mi ki)), (0, .ref (ad (0, 0))), (1, .int member), (2, .int kd), (3, .int day)]) hx hb dX4_live_35 hl (by decide) rfl (fun ls hl => ?_)
        refine lv_iconst (v := 0) hx hb dX4_live_37 (by decide) ?_
        refine lv_istore (lv' := [(6, .int 0), (5, .int 1), (4, .int (S.2.1 2 mi ki)), (0, .ref (ad (0, 0))), (1, .int member), (2, .int kd), (3, .int day)]) hx hb dX4_live_38 hl (by decide) rfl (fun ls hl => ?_)
        exact L40 5 0 true (by omega) (by omega) (by simp [allN, c_13, c_27]) ls (lv_sub hl [0, 1, 3, 4, 5, 6] rfl)

set_option maxHeartbeats 4000000 in
theorem mX4_liveFor {l : Launch} {G : xG} {s0 : State} {b0 : Nat} (g : xG0 G s0 b0) {A : Nat → Prop} {S : xS} {ad : Nat × Nat → Nat} {z : xZ} (day : Int32) {member : Int32} {mi : Nat} (h_member : xi member mi 10) {machine : Int32} {mac : Nat} (h_machine : xi machine mac 6) (hW : mWF S) (hA : ∃ rk, rkOK S.2.1 rk ∧ ∀ i, rk i < 4) : Met l yX4_liveFor (ws_ yX4_liveFor cX4_liveFor 4 (some .boolean)) ({ frames := 5, cells := 0, slots := 0, locals := 146 } : Room) (xP s0 A [.ref (ad (0, 0)), .int member, .int machine, .int day] (fun H => xRM G A S ad z H)) (xQp (some (.int (bI (mLiveFor S.2.1 mi mac day))))) 0 0 (fun _ => False) := by
  refine Met.ofW (cc := cX4_liveFor) (maxL := 4) (ret := (some .boolean)) (by decide) rfl ?_
  intro p e s m args below meth c s₁ B hml hv
  obtain ⟨rfl, hWK, hR⟩ := hv
  have hx := B.exec
  have hb := B.bytes
  have hr := B.returns
  have hts := atoms_spec (ws := ws_ yX4_liveFor cX4_liveFor 4 (some .boolean)) B.pre
  have hts : ∀ w ∈ lw_all, w.before _ s = true := fun w h => hts w (List.mem_cons_of_mem _ h)
  have hown : s.vm.findClass "LendlatheModel" = some m.cls := findClass_of_methodNamed B.named
  have hlocks := B.notSynchronized
  have hK := hWK.K g
  have F : CallFix p m c cX4_liveFor 4 s _ lw_all "LendlatheModel" := ⟨hx, hb, hml, hown, hts⟩
  have hS : va_S A s.heap s.heap [] := va_S.rf
  have hl := lv_entry ([.ref (ad (0, 0)), .int member, .int machine, .int day]) (n := 4) (Nat.le_of_ble_eq_true rfl)
  rw [lg_entry_eq]
  generalize (lg_sl ([.ref (ad (0, 0)), .int member, .int machine, .int day]) ++ List.replicate (4 - (lg_sl ([.ref (ad (0, 0)), .int member, .int machine, .int day])).length) Slot.unset).toArray = ls at hl ⊢
  have hl : lv_has ls 4 [(0, .ref (ad (0, 0))), (1, .int member), (2, .int machine), (3, .int day)] := hl
  obtain ⟨rk, hrk, hr4⟩ := hA
  refine lv_aload_n hx hb dX4_liveFor_0 rfl (lv_at hl 0 rfl) ?_
  refine lv_iload_n hx hb dX4_liveFor_1 rfl (lv_at hl 1 rfl) ?_
  refine lv_aload_n hx hb dX4_liveFor_2 rfl (lv_at hl 0 rfl) ?_
  refine g_X4_9 F hK (mw_0 hR) (v := .ref (ad (1, 0))) rfl dX4_liveFor_3 ?_
  refine lv_iload_n hx hb dX4_liveFor_6 rfl (lv_at hl 2 rfl) ?_
  refine x_iald hx hb hK (mw_1 hR) (v := .int (S.2.1 0 mac 0)) (xi.up h_machine (by omega)) (rfl) dX4_liveFor_7 ?_
  refine lv_iload_n hx hb dX4_liveFor_8 rfl (lv_at hl 3 rfl) ?_
  refine xc_P (va_runV (As := [.int member, .int (S.2.1 0 mac 0), .int day]) (rest := []) F (mX4_live g (A := A) (S := S) (ad := ad) (z := z) hrk 4 day member mi (S.2.1 0 mac 0) ((S.2.1 0 mac 0).toNatClampNeg) (xi.up h_member (by omega)) (xi.up (xi_of (hW.2.2.2.2.2.2.2.1 mac)) (by omega)) (hr4 _)) (cwV 3 hts (lw_V q1585 q1587 qs33 q80 q1588) rfl rfl rfl hdV_X4_live ⟨Nat.le_of_ble_eq_true rfl, Nat.le_of_ble_eq_true rfl⟩) (xpreV (xrecv hK (mw_0 hR) rfl) hWK hS hR) rfl rfl hl.1 rfl (lv_room (Nat.le_of_ble_eq_true rfl)) dX4_liveFor_9 ⟨Nat.le_of_ble_eq_true rfl, Nat.le_of_ble_eq_true rfl⟩) ?_
  exact xr_Pz hx hb hr hlocks (congrArg bI rfl) dX4_liveFor_12

set_option maxHeartbeats 4000000 in
theorem mX4_letter {l : Launch} {G : xG} {s0 : State} {b0 : Nat} (g : xG0 G s0 b0) {A : Nat → Prop} {S : xS} {ad : Nat × Nat → Nat} {z : xZ} (day start minutes work : Int32) {member : Int32} {mi : Nat} (h_member : xi member mi 10) {machine : Int32} {mac : Nat} (h_machine : xi machine mac 6) (hW : mWF S) (hA : ∃ rk, rkOK S.2.1 rk ∧ ∀ i, rk i < 4) : Met l yX4_letter (ws_ yX4_letter cX4_letter 7 (some .char)) ({ frames := 6, cells := 0, slots := 0, locals := 169 } : Room) (xP s0 A [.ref (ad (0, 0)), .int member, .int machine, .int day, .int start, .int minutes, .int work] (fun H => xRM G A S ad z H)) (xQp (some (.int (mLetter S.2.1 (S.1 2 0) member mi machine mac day start minutes work)))) 0 0 (fun _ => False) := by
  refine Met.ofW (cc := cX4_letter) (maxL := 7) (ret := (some .char)) (by decide) rfl ?_
  intro p e s m args below meth c s₁ B hml hv
  obtain ⟨rfl, hWK, hR⟩ := hv
  have hx := B.exec
  have hb := B.bytes
  have hr := B.returns
  have hts := atoms_spec (ws := ws_ yX4_letter cX4_letter 7 (some .char)) B.pre
  have hts : ∀ w ∈ lw_all, w.before _ s = true := fun w h => hts w (List.mem_cons_of_mem _ h)
  have hown : s.vm.findClass "LendlatheModel" = some m.cls := findClass_of_methodNamed B.named
  have hlocks := B.notSynchronized
  have hK := hWK.K g
  have F : CallFix p m c cX4_letter 7 s _ lw_all "LendlatheModel" := ⟨hx, hb, hml, hown, hts⟩
  have hS : va_S A s.heap s.heap [] := va_S.rf
  have hl := lv_entry ([.ref (ad (0, 0)), .int member, .int machine, .int day, .int start, .int minutes, .int work]) (n := 7) (Nat.le_of_ble_eq_true rfl)
  rw [lg_entry_eq]
  generalize (lg_sl ([.ref (ad (0, 0)), .int member, .int machine, .int day, .int start, .int minutes, .int work]) ++ List.replicate (7 - (lg_sl ([.ref (ad (0, 0)), .int member, .int machine, .int day, .int start, .int minutes, .int work])).length) Slot.unset).toArray = ls at hl ⊢
  have hl : lv_has ls 7 [(0, .ref (ad (0, 0))), (1, .int member), (2, .int machine), (3, .int day), (4, .int start), (5, .int minutes), (6, .int work)] := hl
  have hn0 := hW.1
  have hn1 := hW.2.1
  have hn2 := hW.2.2.1
  have hn3 := hW.2.2.2.1
  have hn4 := hW.2.2.2.2.1
  refine lv_aload_n hx hb dX4_letter_0 rfl (lv_at hl 0 rfl) ?_
  refine lv_iload_n hx hb dX4_letter_1 rfl (lv_at hl 1 rfl) ?_
  refine lv_iload_n hx hb dX4_letter_2 rfl (lv_at hl 2 rfl) ?_
  refine lv_iload_n hx hb dX4_letter_3 rfl (lv_at hl 3 rfl) ?_
  refine xc_P (va_runV (As := [.int member, .int machine, .int day]) (rest := []) F (mX4_liveFor g (A := A) (S := S) (ad := ad) (z := z) day (xi.up h_member (by omega)) (xi.up h_machine (by omega)) hW hA) (cwV 3 hts (lw_V q1581 q1583 qs32 q80 q1584) rfl rfl rfl hdV_X4_liveFor ⟨Nat.le_of_ble_eq_true rfl, Nat.le_of_ble_eq_true rfl⟩) (xpreV (xrecv hK (mw_0 hR) rfl) hWK hS hR) rfl rfl hl.1 rfl (lv_room (Nat.le_of_ble_eq_true rfl)) dX4_letter_4 ⟨Nat.le_of_ble_eq_true rfl, Nat.le_of_ble_eq_true rfl⟩) ?_
  refine x_ifne (tgt := 15) hx hb dX4_letter_7 (by decide) (fun c_7 => ?_) (fun c_7 => ?_)
  · refine lv_aload_n hx hb dX4_letter_15 rfl (lv_at hl 0 rfl) ?_
    refine lv_iload_n hx hb dX4_letter_16 rfl (lv_at hl 1 rfl) ?_
    refine lv_iload_n hx hb dX4_letter_17 rfl (lv_at hl 3 rfl) ?_
    refine lv_iload hx hb dX4_letter_18 (lv_at hl 4 rfl) ?_
    refine lv_iload hx hb dX4_letter_20 (lv_at hl 5 rfl) ?_
    refine xc_P (va_runV (As := [.int member, .int day, .int start, .int minutes]) (rest := []) F (mX4_isBusy g (A := A) (S := S) (ad := ad) (z := z) member day start minutes hW) (cwV 4 hts (lw_V q1597 q1599 qs36 q80 q1600) rfl rfl rfl hdV_X4_isBusy ⟨Nat.le_of_ble_eq_true rfl, Nat.le_of_ble_eq_true rfl⟩) (xpreV (xrecv hK (mw_0 hR) rfl) hWK hS hR) rfl rfl hl.1 rfl (lv_room (Nat.le_of_ble_eq_true rfl)) dX4_letter_22 ⟨Nat.le_of_ble_eq_true rfl, Nat.le_of_ble_eq_true rfl⟩) ?_
    refine x_ifeq (tgt := 33) hx hb dX4_letter_25 (by decide) (fun c_25 => ?_) (fun c_25 => ?_)
    · refine lv_aload_n hx hb dX4_letter_33 rfl (lv_at hl 0 rfl) ?_
      refine lv_iload_n hx hb dX4_letter_34 rfl (lv_at hl 2 rfl) ?_
      refine lv_iload_n hx hb dX4_letter_35 rfl (lv_at hl 3 rfl) ?_
      refine lv_iload hx hb dX4_letter_36 (lv_at hl 4 rfl) ?_
      refine lv_iload hx hb dX4_letter_38 (lv_at hl 5 rfl) ?_
      refine lv_iload hx hb dX4_letter_40 (lv_at hl 6 rfl) ?_
      refine xc_P (va_runV (As := [.int machine, .int day, .int start, .int minutes, .int work]) (rest := []) F (mX4_isFree g (A := A) (S := S) (ad := ad) (z := z) day start minutes work (xi.up h_machine (by omega)) hW) (cwV 5 hts (lw_V q1609 q1611 qs39 q80 q1612) rfl rfl rfl hdV_X4_isFree ⟨Nat.le_of_ble_eq_true rfl, Nat.le_of_ble_eq_true rfl⟩) (xpreV (xrecv hK (mw_0 hR) rfl) hWK hS hR) rfl rfl hl.1 rfl (lv_room (Nat.le_of_ble_eq_true rfl)) dX4_letter_42 ⟨Nat.le_of_ble_eq_true rfl, Nat.le_of_ble_eq_true rfl⟩) ?_
      refine x_ifne (tgt := 53) hx hb dX4_letter_45 (by decide) (fun c_45 => ?_) (fun c_45 => ?_)
      · refine lv_bipush (v := 111) hx hb dX4_letter_53 (by decide) ?_
        exact xr_Pc hx hb hr hlocks ((by first | rfl | simp [mLetter, c_7, c_25, c_45])) mLetter_nar dX4_letter_55
      · refine lv_bipush (v := 116) hx hb dX4_letter_48 (by decide) ?_
        refine lv_goto (tgt := 55) hx hb dX4_letter_50 (by decide) ?_
        exact xr_Pc hx hb hr hlocks ((by first | rfl | simp [mLetter, c_7, c_25, c_45])) mLetter_nar dX4_letter_55
    · refine lv_bipush (v := 109) hx hb dX4_letter_28 (by decide) ?_
      refine lv_goto (tgt := 55) hx hb dX4_letter_30 (by decide) ?_
      exact xr_Pc hx hb hr hlocks ((by first | rfl | simp [mLetter, c_7, c_25])) mLetter_nar dX4_letter_55
  · refine lv_bipush (v := 105) hx hb dX4_letter_10 (by decide) ?_
    refine lv_goto (tgt := 55) hx hb dX4_letter_12 (by decide) ?_
    exact xr_Pc hx hb hr hlocks ((by first | rfl | simp [mLetter, c_7])) mLetter_nar dX4_letter_55

set_option maxHeartbeats 4000000 in
theorem mX4_minute {l : Launch} {G : xG} {s0 : State} {b0 : Nat} (g : xG0 G s0 b0) {A : Nat → Prop} {S : xS} {ad : Nat × Nat → Nat} {z : xZ} (day minute : Int32) {machine : Int32} {mac : Nat} (h_machine : xi machine mac 6) (hW : mWF S) : Met l yX4_minute (ws_ yX4_minute cX4_minute 7 (some .char)) ({ frames := 1, cells := 0, slots := 0, locals := 23 } : Room) (xP s0 A [.ref (ad (0, 0)), .int machine, .int day, .int minute] (fun H => xRM G A S ad z H)) (xQp (some (.int (mMinute S.2.1 (S.1 2 0) machine mac day minute)))) 0 0 (fun _ => False) := by
  refine Met.ofW (cc := cX4_minute) (maxL := 7) (ret := (some .char)) (by decide) rfl ?_
  intro p e s m args below meth c s₁ B hml hv
  obtain ⟨rfl, hWK, hR⟩ := hv
  have hx := B.exec
  have hb := B.bytes
  have hr := B.returns
  have hts := atoms_spec (ws := ws_ yX4_minute cX4_minute 7 (some .char)) B.pre
  have hts : ∀ w ∈ lw_all, w.before _ s = true := fun w h => hts w (List.mem_cons_of_mem _ h)
  have hown : s.vm.findClass "LendlatheModel" = some m.cls := findClass_of_methodNamed B.named
  have hlocks := B.notSynchronized
  have hK := hWK.K g
  have F : CallFix p m c cX4_minute 7 s _ lw_all "LendlatheModel" := ⟨hx, hb, hml, hown, hts⟩
  have hS : va_S A s.heap s.heap [] := va_S.rf
  have hl := lv_entry ([.ref (ad (0, 0)), .int machine, .int day, .int minute]) (n := 7) (Nat.le_of_ble_eq_true rfl)
  rw [lg_entry_eq]
  generalize (lg_sl ([.ref (ad (0, 0)), .int machine, .int day, .int minute]) ++ List.replicate (7 - (lg_sl ([.ref (ad (0, 0)), .int machine, .int day, .int minute])).length) Slot.unset).toArray = ls at hl ⊢
  have hl : lv_has ls 7 [(0, .ref (ad (0, 0))), (1, .int machine), (2, .int day), (3, .int minute)] := hl
  have hn0 := hW.1
  have hn1 := hW.2.1
  have hn2 := hW.2.2.1
  have hn3 := hW.2.2.2.1
  have hn4 := hW.2.2.2.2.1
  have L9 : ∀ (n : Nat) (k : Nat) (h : Int32) (b : Int32), S.1 2 0 - k < n → (k ≤ S.1 2 0) → (h = -1 ∨ vp_in h k) → (b = -1 ∨ vp_in b k) → (foldO (mMinStep S.2.1 machine day minute) (-1, -1) k = some (h, b)) → ∀ (ls : Array Slot), lv_has ls 7 [(6, .int (nI k)), (5, .int b), (4, .int h), (0, .ref (ad (0, 0))), (1, .int machine), (2, .int day), (3, .int minute)] → W p l e (headSpec (ws_ yX4_minute cX4_minute 7 (some .char)) ({ frames := 1, cells := 0, slots := 0, locals := 23 } : Room)).room s m ([.ref (ad (0, 0)), .int machine, .int day, .int minute] : List Value).toArray below meth c s.heap [] 0 0 (MQ below (xQp (some (.int (mMinute S.2.1 (S.1 2 0) machine mac day minute)))) ([.ref (ad (0, 0)), .int machine, .int day, .int minute] : List Value).toArray s 0 0 (fun _ => False)) (F0 m 9 ls []) := by
    intro n9
    induction n9 with
    | zero =>
      intro k h b hn9
      exact absurd hn9 (Nat.not_lt_zero _)
    | succ n9 ih9 =>
      intro k h b hn9 hkn oh ob hf ls hl
      refine lv_iload hx hb dX4_minute_9 (lv_at hl 0 rfl) ?_
      refine lv_aload_n hx hb dX4_minute_11 rfl (lv_at hl 3 rfl) ?_
      refine g_X4_101 F hK (mw_0 hR) (v := .int (nI (S.1 2 0))) rfl dX4_minute_12 ?_
      refine xn_ge (tgt := 138) k (S.1 2 0) rfl rfl (by omega) (by omega) hx hb dX4_minute_15 (by decide) (fun c_15 => ?_) (fun c_15 => ?_)
      · refine lv_iload hx hb dX4_minute_138 (lv_at hl 2 rfl) ?_
        refine lv_iconst (v := (-1)) hx hb dX4_minute_140 (by decide) ?_
        refine lv_icmp_eq (tgt := 185) hx hb dX4_minute_141 (by decide) (fun c_141 => ?_) (fun c_141 => ?_)
        · refine lv_iconst (v := 0) hx hb dX4_minute_185 (by decide) ?_
          refine lv_istore (lv' := [(6, .int 0), (5, .int b), (4, .int h), (0, .ref (ad (0, 0))), (1, .int machine), (2, .int day), (3, .int minute)]) hx hb dX4_minute_186 hl (by decide) rfl (fun ls hl => ?_)
          refine lv_iload hx hb dX4_minute_188 (lv_at hl 0 rfl) ?_
          refine lv_if_eq (tgt := 198) hx hb dX4_minute_190 (by decide) (fun c_190 => ?_) (fun c_190 => (by first | exact absurd c_190 (by decide) | exact absurd (by decide) c_190))
          refine lv_bipush (v := 102) hx hb dX4_minute_198 (by decide) ?_
          exact xr_Pc hx hb hr hlocks ((by have hk9 : k = S.1 2 0 := (by omega); subst hk9; unfold mMinute; rw [hf]; simp [mMinEnd, c_141])) mMinute_nar dX4_minute_200
        · refine lv_iload hx hb dX4_minute_144 (lv_at hl 1 rfl) ?_
          refine lv_iconst (v := (-1)) hx hb dX4_minute_146 (by decide) ?_
          refine lv_icmp_eq (tgt := 185) hx hb dX4_minute_147 (by decide) (fun c_147 => ?_) (fun c_147 => ?_)
          · refine lv_iconst (v := 0) hx hb dX4_minute_185 (by decide) ?_
            refine lv_istore (lv' := [(6, .int 0), (5, .int b), (4, .int h), (0, .ref (ad (0, 0))), (1, .int machine), (2, .int day), (3, .int minute)]) hx hb dX4_minute_186 hl (by decide) rfl (fun ls hl => ?_)
            refine lv_iload hx hb dX4_minute_188 (lv_at hl 0 rfl) ?_
            refine lv_if_eq (tgt := 198) hx hb dX4_minute_190 (by decide) (fun c_190 => ?_) (fun c_190 => (by first | exact absurd c_190 (by decide) | exact absurd (by decide) c_190))
            refine lv_bipush (v := 102) hx hb dX4_minute_198 (by decide) ?_
            exact xr_Pc hx hb hr hlocks ((by have hk9 : k = S.1 2 0 := (by omega); subst hk9; unfold mMinute; rw [hf]; simp [mMinEnd, c_141, c_147])) mMinute_nar dX4_minute_200
          · refine lv_aload_n hx hb dX4_minute_150 rfl (lv_at hl 3 rfl) ?_
            refine g_X4_39 F hK (mw_0 hR) (v := .ref (ad (11, 0))) rfl dX4_minute_151 ?_
            refine lv_iload hx hb dX4_minute_154 (lv_at hl 2 rfl) ?_
            refine x_iald hx hb hK (mw_11 hR) (v := .int (S.2.1 13 h.toNatClampNeg 0)) (xi.up (xi_of (oh.resolve_left c_141)) (by omega)) (rfl) dX4_minute_156 ?_
            refine lv_iload_n hx hb dX4_minute_157 rfl (lv_at hl 6 rfl) ?_
            refine lv_isub hx hb dX4_minute_158 ?_
            refine lv_aload_n hx hb dX4_minute_159 rfl (lv_at hl 3 rfl) ?_
            refine lv_iload_n hx hb dX4_minute_160 rfl (lv_at hl 4 rfl) ?_
            refine lv_aload_n hx hb dX4_minute_161 rfl (lv_at hl 3 rfl) ?_
            refine g_X4_45 F hK (mw_0 hR) (v := .ref (ad (13, 0))) rfl dX4_minute_162 ?_
            refine lv_iload hx hb dX4_minute_165 (lv_at hl 1 rfl) ?_
            refine x_cald hx hb hK (mw_13 hR) (v := .int (S.2.1 15 b.toNatClampNeg 0)) (xi.up (xi_of (ob.resolve_left c_147)) (by omega)) (rfl) dX4_minute_167 ?_
            refine lv_aload_n hx hb dX4_minute_168 rfl (lv_at hl 3 rfl) ?_
            refine g_X4_45 F hK (mw_0 hR) (v := .ref (ad (13, 0))) rfl dX4_minute_169 ?_
            refine lv_iload hx hb dX4_minute_172 (lv_at hl 2 rfl) ?_
            refine x_cald hx hb hK (mw_13 hR) (v := .int (S.2.1 15 h.toNatClampNeg 0)) (xi.up (xi_of (oh.resolve_left c_141)) (by omega)) (rfl) dX4_minute_174 ?_
            refine xc_P (va_runV (As := [.int machine, .int (S.2.1 15 b.toNatClampNeg 0), .int (S.2.1 15 h.toNatClampNeg 0)]) (rest := [.int ((S.2.1 13 h.toNatClampNeg 0) - minute)]) F (mX4_setup g (A := A) (S := S) (ad := ad) (z := z) (S.2.1 15 b.toNatClampNeg 0) (S.2.1 15 h.toNatClampNeg 0) (xi.up h_machine (by omega))) (cwV 3 hts (lw_V q1613 q1615 qs40 q80 q1616) rfl rfl rfl hdV_X4_setup ⟨Nat.le_of_ble_eq_true rfl, Nat.le_of_ble_eq_true rfl⟩) (xpreV (xrecv hK (mw_0 hR) rfl) hWK hS hR) rfl rfl hl.1 rfl (lv_room (Nat.le_of_ble_eq_true rfl)) dX4_minute_175 ⟨Nat.le_of_ble_eq_true rfl, Nat.le_of_ble_eq_true rfl⟩) ?_
            refine lv_icmp_gt (tgt := 185) hx hb dX4_minute_178 (by decide) (fun c_178 => ?_) (fun c_178 => ?_)
            · refine lv_iconst (v := 0) hx hb dX4_minute_185 (by decide) ?_
              refine lv_istore (lv' := [(6, .int 0), (5, .int b), (4, .int h), (0, .ref (ad (0, 0))), (1, .int machine), (2, .int day), (3, .int minute)]) hx hb dX4_minute_186 hl (by decide) rfl (fun ls hl => ?_)
              refine lv_iload hx hb dX4_minute_188 (lv_at hl 0 rfl) ?_
              refine lv_if_eq (tgt := 198) hx hb dX4_minute_190 (by decide) (fun c_190 => ?_) (fun c_190 => (by first | exact absurd c_190 (by decide) | exact absurd (by decide) c_190))
              refine lv_bipush (v := 102) hx hb dX4_minute_198 (by decide) ?_
              exact xr_Pc hx hb hr hlocks ((by have hk9 : k = S.1 2 0 := (by omega); subst hk9; unfold mMinute; rw [hf]; simp [mMinEnd, c_141, c_147, c_178])) mMinute_nar dX4_minute_200
            · refine lv_iconst (v := 1) hx hb dX4_minute_181 (by decide) ?_
              refine lv_goto (tgt := 186) hx hb dX4_minute_182 (by decide) ?_
              refine lv_istore (lv' := [(6, .int 1), (5, .int b), (4, .int h), (0, .ref (ad (0, 0))), (1, .int machine), (2, .int day), (3, .int minute)]) hx hb dX4_minute_186 hl (by decide) rfl (fun ls hl => ?_)
              refine lv_iload hx hb dX4_minute_188 (lv_at hl 0 rfl) ?_
              refine lv_if_eq (tgt := 198) hx hb dX4_minute_190 (by decide) (fun c_190 => (by first | exact absurd c_190 (by decide) | exact absurd (by decide) c_190)) (fun c_190 => ?_)
              refine lv_bipush (v := 115) hx hb dX4_minute_193 (by decide) ?_
              refine lv_goto (tgt := 200) hx hb dX4_minute_195 (by decide) ?_
              exact xr_Pc hx hb hr hlocks ((by have hk9 : k = S.1 2 0 := (by omega); subst hk9; unfold mMinute; rw [hf]; simp [mMinEnd, c_141, c_147, c_178])) mMinute_nar dX4_minute_200
      · refine lv_aload_n hx hb dX4_minute_18 rfl (lv_at hl 3 rfl) ?_
        refine lv_iload hx hb dX4_minute_19 (lv_at hl 0 rfl) ?_
        refine lv_iload_n hx hb dX4_minute_21 rfl (lv_at hl 4 rfl) ?_
        refine lv_iload_n hx hb dX4_minute_22 rfl (lv_at hl 5 rfl) ?_
        refine xc_P (va_runV (As := [.int (nI k), .int machine, .int day]) (rest := []) F (mX4_stands g (A := A) (S := S) (ad := ad) (z := z) machine day (xi_nI (n := 150) (by omega) (by omega))) (cwV 3 hts (lw_V q1694 q1696 qs49 q80 q1697) rfl rfl rfl hdV_X4_stands ⟨Nat.le_of_ble_eq_true rfl, Nat.le_of_ble_eq_true rfl⟩) (xpreV (xrecv hK (mw_0 hR) rfl) hWK hS hR) rfl rfl hl.1 rfl (lv_room (Nat.le_of_ble_eq_true rfl)) dX4_minute_23 ⟨Nat.le_of_ble_eq_true rfl, Nat.le_of_ble_eq_true rfl⟩) ?_
        refine x_ifeq (tgt := 132) hx hb dX4_minute_26 (by decide) (fun c_26 => ?_) (fun c_26 => ?_)
        · refine lv_iinc (v := nI (k + 1)) (lv' := [(6, .int (nI (k + 1))), (5, .int b), (4, .int h), (0, .ref (ad (0, 0))), (1, .int machine), (2, .int day), (3, .int minute)]) hx hb dX4_minute_132 hl (k := 0) rfl (nI_1 _) (by decide) rfl (fun ls hl => ?_)
          refine lv_goto (tgt := 9) hx hb dX4_minute_135 (by decide) ?_
          exact ih9 (k + 1) h b (by omega) (by omega) (oh.imp id (fun q => vp_up q (by omega))) (ob.imp id (fun q => vp_up q (by omega))) (by rw [foldO_step hf]; simp [mMinStep, c_26]) ls (lv_sub hl [0, 1, 2, 3, 4, 5, 6] rfl)
        · refine lv_iload_n hx hb dX4_minute_29 rfl (lv_at hl 6 rfl) ?_
          refine lv_aload_n hx hb dX4_minute_30 rfl (lv_at hl 3 rfl) ?_
          refine g_X4_39 F hK (mw_0 hR) (v := .ref (ad (11, 0))) rfl dX4_minute_31 ?_
          refine lv_iload hx hb dX4_minute_34 (lv_at hl 0 rfl) ?_
          refine x_iald hx hb hK (mw_11 hR) (v := .int (S.2.1 13 k 0)) (xi_nI (n := 150) (by omega) (by omega)) (rfl) dX4_minute_36 ?_
          refine lv_aload_n hx hb dX4_minute_37 rfl (lv_at hl 3 rfl) ?_
          refine lv_iload hx hb dX4_minute_38 (lv_at hl 0 rfl) ?_
          refine xc_P (va_runV (As := [.int (nI k)]) (rest := [.int (S.2.1 13 k 0), .int minute]) F (mX4_endOf g (A := A) (S := S) (ad := ad) (z := z) (xi_nI (n := 150) (by omega) (by omega))) (cwV 1 hts (lw_V q1605 q1607 qs38 q80 q1608) rfl rfl rfl hdV_X4_endOf ⟨Nat.le_of_ble_eq_true rfl, Nat.le_of_ble_eq_true rfl⟩) (xpreV (xrecv hK (mw_0 hR) rfl) hWK hS hR) rfl rfl hl.1 rfl (lv_room (Nat.le_of_ble_eq_true rfl)) dX4_minute_40 ⟨Nat.le_of_ble_eq_true rfl, Nat.le_of_ble_eq_true rfl⟩) ?_
          refine lv_iconst (v := 1) hx hb dX4_minute_43 (by decide) ?_
          refine lv_isub hx hb dX4_minute_44 ?_
          refine xc_P (va_runS (As := [.int minute, .int (S.2.1 13 k 0), .int ((mEnd S.2.1 k) - 1)]) (rest := []) F (mX4_in g (A := A) minute (S.2.1 13 k 0) ((mEnd S.2.1 k) - 1)) (va_cwS 3 hts (lw_S q1558 q1559 q80 q1560) rfl rfl rfl hdS_X4_in ⟨Nat.le_of_ble_eq_true rfl, Nat.le_of_ble_eq_true rfl⟩) (xpre hWK hS trivial) rfl rfl hl.1 rfl (lv_room (Nat.le_of_ble_eq_true rfl)) dX4_minute_45 ⟨Nat.le_of_ble_eq_true rfl, Nat.le_of_ble_eq_true rfl⟩) ?_
          refine x_ifeq (tgt := 54) hx hb dX4_minute_48 (by decide) (fun c_48 => ?_) (fun c_48 => ?_)
          · refine lv_aload_n hx hb dX4_minute_54 rfl (lv_at hl 3 rfl) ?_
            refine g_X4_39 F hK (mw_0 hR) (v := .ref (ad (11, 0))) rfl dX4_minute_55 ?_
            refine lv_iload hx hb dX4_minute_58 (lv_at hl 0 rfl) ?_
            refine x_iald hx hb hK (mw_11 hR) (v := .int (S.2.1 13 k 0)) (xi_nI (n := 150) (by omega) (by omega)) (rfl) dX4_minute_60 ?_
            refine lv_iload_n hx hb dX4_minute_61 rfl (lv_at hl 6 rfl) ?_
            refine lv_icmp_le (tgt := 100) hx hb dX4_minute_62 (by decide) (fun c_62 => ?_) (fun c_62 => ?_)
            · refine lv_iload hx hb dX4_minute_100 (lv_at hl 1 rfl) ?_
              refine lv_iconst (v := (-1)) hx hb dX4_minute_102 (by decide) ?_
              refine lv_icmp_eq (tgt := 123) hx hb dX4_minute_103 (by decide) (fun c_103 => ?_) (fun c_103 => ?_)
              · refine lv_iload hx hb dX4_minute_123 (lv_at hl 0 rfl) ?_
                refine lv_goto (tgt := 130) hx hb dX4_minute_125 (by decide) ?_
                refine lv_istore (lv' := [(5, .int (nI k)), (6, .int (nI k)), (4, .int h), (0, .ref (ad (0, 0))), (1, .int machine), (2, .int day), (3, .int minute)]) hx hb dX4_minute_130 hl (by decide) rfl (fun ls hl => ?_)
                refine lv_iinc (v := nI (k + 1)) (lv' := [(6, .int (nI (k + 1))), (5, .int (nI k)), (4, .int h), (0, .ref (ad (0, 0))), (1, .int machine), (2, .int day), (3, .int minute)]) hx hb dX4_minute_132 hl (k := 1) rfl (nI_1 _) (by decide) rfl (fun ls hl => ?_)
                refine lv_goto (tgt := 9) hx hb dX4_minute_135 (by decide) ?_
                exact ih9 (k + 1) h (nI k) (by omega) (by omega) (oh.imp id (fun q => vp_up q (by omega))) (Or.inr (vp_in_nI (by omega) (by omega))) (by rw [foldO_step hf]; simp [mMinStep, c_26, c_48, c_62, c_103]) ls (lv_sub hl [0, 1, 2, 3, 4, 5, 6] rfl)
              · refine lv_aload_n hx hb dX4_minute_106 rfl (lv_at hl 3 rfl) ?_
                refine g_X4_39 F hK (mw_0 hR) (v := .ref (ad (11, 0))) rfl dX4_minute_107 ?_
                refine lv_iload hx hb dX4_minute_110 (lv_at hl 0 rfl) ?_
                refine x_iald hx hb hK (mw_11 hR) (v := .int (S.2.1 13 k 0)) (xi_nI (n := 150) (by omega) (by omega)) (rfl) dX4_minute_112 ?_
                refine lv_aload_n hx hb dX4_minute_113 rfl (lv_at hl 3 rfl) ?_
                refine g_X4_39 F hK (mw_0 hR) (v := .ref (ad (11, 0))) rfl dX4_minute_114 ?_
                refine lv_iload hx hb dX4_minute_117 (lv_at hl 1 rfl) ?_
                refine x_iald hx hb hK (mw_11 hR) (v := .int (S.2.1 13 b.toNatClampNeg 0)) (xi.up (xi_of (ob.resolve_left c_103)) (by omega)) (rfl) dX4_minute_119 ?_
                refine lv_icmp_le (tgt := 128) hx hb dX4_minute_120 (by decide) (fun c_120 => ?_) (fun c_120 => ?_)
                · refine lv_iload hx hb dX4_minute_128 (lv_at hl 1 rfl) ?_
                  refine lv_istore (lv' := [(5, .int b), (6, .int (nI k)), (4, .int h), (0, .ref (ad (0, 0))), (1, .int machine), (2, .int day), (3, .int minute)]) hx hb dX4_minute_130 hl (by decide) rfl (fun ls hl => ?_)
                  refine lv_iinc (v := nI (k + 1)) (lv' := [(6, .int (nI (k + 1))), (5, .int b), (4, .int h), (0, .ref (ad (0, 0))), (1, .int machine), (2, .int day), (3, .int minute)]) hx hb dX4_minute_132 hl (k := 1) rfl (nI_1 _) (by decide) rfl (fun ls hl => ?_)
                  refine lv_goto (tgt := 9) hx hb dX4_minute_135 (by decide) ?_
                  exact ih9 (k + 1) h b (by omega) (by omega) (oh.imp id (fun q => vp_up q (by omega))) (ob.imp id (fun q => vp_up q (by omega))) (by rw [foldO_step hf]; simp [mMinStep, c_26, c_48, c_62, c_103, c_120]) ls (lv_sub hl [0, 1, 2, 3, 4, 5, 6] rfl)
                · refine lv_iload hx hb dX4_minute_123 (lv_at hl 0 rfl) ?_
                  refine lv_goto (tgt := 130) hx hb dX4_minute_125 (by decide) ?_
                  refine lv_istore (lv' := [(5, .int (nI k)), (6, .int (nI k)), (4, .int h), (0, .ref (ad (0, 0))), (1, .int machine), (2, .int day), (3, .int minute)]) hx hb dX4_minute_130 hl (by decide) rfl (fun ls hl => ?_)
                  refine lv_iinc (v := nI (k + 1)) (lv' := [(6, .int (nI (k + 1))), (5, .int (nI k)), (4, .int h), (0, .ref (ad (0, 0))), (1, .int machine), (2, .int day), (3, .int minute)]) hx hb dX4_minute_132 hl (k := 1) rfl (nI_1 _) (by decide) rfl (fun ls hl => ?_)
                  refine lv_goto (tgt := 9) hx hb dX4_minute_135 (by decide) ?_
                  exact ih9 (k + 1) h (nI k) (by omega) (by omega) (oh.imp id (fun q => vp_up q (by omega))) (Or.inr (vp_in_nI (by omega) (by omega))) (by rw [foldO_step hf]; simp [mMinStep, c_26, c_48, c_62, c_103, c_120]) ls (lv_sub hl [0, 1, 2, 3, 4, 5, 6] rfl)
            · refine lv_iload hx hb dX4_minute_65 (lv_at hl 2 rfl) ?_
              refine lv_iconst (v := (-1)) hx hb dX4_minute_67 (by decide) ?_
              refine lv_icmp_eq (tgt := 88) hx hb dX4_minute_68 (by decide) (fun c_68 => ?_) (fun c_68 => ?_)
              · refine lv_iload hx hb dX4_minute_88 (lv_at hl 0 rfl) ?_
                refine lv_goto (tgt := 95) hx hb dX4_minute_90 (by decide) ?_
                refine lv_istore (lv' := [(4, .int (nI k)), (6, .int (nI k)), (5, .int b), (0, .ref (ad (0, 0))), (1, .int machine), (2, .int day), (3, .int minute)]) hx hb dX4_minute_95 hl (by decide) rfl (fun ls hl => ?_)
                refine lv_goto (tgt := 132) hx hb dX4_minute_97 (by decide) ?_
                refine lv_iinc (v := nI (k + 1)) (lv' := [(6, .int (nI (k + 1))), (4, .int (nI k)), (5, .int b), (0, .ref (ad (0, 0))), (1, .int machine), (2, .int day), (3, .int minute)]) hx hb dX4_minute_132 hl (k := 1) rfl (nI_1 _) (by decide) rfl (fun ls hl => ?_)
                refine lv_goto (tgt := 9) hx hb dX4_minute_135 (by decide) ?_
                exact ih9 (k + 1) (nI k) b (by omega) (by omega) (Or.inr (vp_in_nI (by omega) (by omega))) (ob.imp id (fun q => vp_up q (by omega))) (by rw [foldO_step hf]; simp [mMinStep, c_26, c_48, c_62, c_68]) ls (lv_sub hl [0, 2, 1, 3, 4, 5, 6] rfl)
              · refine lv_aload_n hx hb dX4_minute_71 rfl (lv_at hl 3 rfl) ?_
                refine g_X4_39 F hK (mw_0 hR) (v := .ref (ad (11, 0))) rfl dX4_minute_72 ?_
                refine lv_iload hx hb dX4_minute_75 (lv_at hl 0 rfl) ?_
                refine x_iald hx hb hK (mw_11 hR) (v := .int (S.2.1 13 k 0)) (xi_nI (n := 150) (by omega) (by omega)) (rfl) dX4_minute_77 ?_
                refine lv_aload_n hx hb dX4_minute_78 rfl (lv_at hl 3 rfl) ?_
                refine g_X4_39 F hK (mw_0 hR) (v := .ref (ad (11, 0))) rfl dX4_minute_79 ?_
                refine lv_iload hx hb dX4_minute_82 (lv_at hl 2 rfl) ?_
                refine x_iald hx hb hK (mw_11 hR) (v := .int (S.2.1 13 h.toNatClampNeg 0)) (xi.up (xi_of (oh.resolve_left c_68)) (by omega)) (rfl) dX4_minute_84 ?_
                refine lv_icmp_ge (tgt := 93) hx hb dX4_minute_85 (by decide) (fun c_85 => ?_) (fun c_85 => ?_)
                · refine lv_iload hx hb dX4_minute_93 (lv_at hl 2 rfl) ?_
                  refine lv_istore (lv' := [(4, .int h), (6, .int (nI k)), (5, .int b), (0, .ref (ad (0, 0))), (1, .int machine), (2, .int day), (3, .int minute)]) hx hb dX4_minute_95 hl (by decide) rfl (fun ls hl => ?_)
                  refine lv_goto (tgt := 132) hx hb dX4_minute_97 (by decide) ?_
                  refine lv_iinc (v := nI (k + 1)) (lv' := [(6, .int (nI (k + 1))), (4, .int h), (5, .int b), (0, .ref (ad (0, 0))), (1, .int machine), (2, .int day), (3, .int minute)]) hx hb dX4_minute_132 hl (k := 1) rfl (nI_1 _) (by decide) rfl (fun ls hl => ?_)
                  refine lv_goto (tgt := 9) hx hb dX4_minute_135 (by decide) ?_
                  exact ih9 (k + 1) h b (by omega) (by omega) (oh.imp id (fun q => vp_up q (by omega))) (ob.imp id (fun q => vp_up q (by omega))) (by rw [foldO_step hf]; simp [mMinStep, c_26, c_48, c_62, c_68, c_85]) ls (lv_sub hl [0, 2, 1, 3, 4, 5, 6] rfl)
                · refine lv_iload hx hb dX4_minute_88 (lv_at hl 0 rfl) ?_
                  refine lv_goto (tgt := 95) hx hb dX4_minute_90 (by decide) ?_
                  refine lv_istore (lv' := [(4, .int (nI k)), (6, .int (nI k)), (5, .int b), (0, .ref (ad (0, 0))), (1, .int machine), (2, .int day), (3, .int minute)]) hx hb dX4_minute_95 hl (by decide) rfl (fun ls hl => ?_)
                  refine lv_goto (tgt := 132) hx hb dX4_minute_97 (by decide) ?_
                  refine lv_iinc (v := nI (k + 1)) (lv' := [(6, .int (nI (k + 1))), (4, .int (nI k)), (5, .int b), (0, .ref (ad (0, 0))), (1, .int machine), (2, .int day), (3, .int minute)]) hx hb dX4_minute_132 hl (k := 1) rfl (nI_1 _) (by decide) rfl (fun ls hl => ?_)
                  refine lv_goto (tgt := 9) hx hb dX4_minute_135 (by decide) ?_
                  exact ih9 (k + 1) (nI k) b (by omega) (by omega) (Or.inr (vp_in_nI (by omega) (by omega))) (ob.imp id (fun q => vp_up q (by omega))) (by rw [foldO_step hf]; simp [mMinStep, c_26, c_48, c_62, c_68, c_85]) ls (lv_sub hl [0, 2, 1, 3, 4, 5, 6] rfl)
          · refine lv_bipush (v := 98) hx hb dX4_minute_51 (by decide) ?_
            exact xr_Pc hx hb hr hlocks ((by unfold mMinute; rw [foldO_none (n := S.1 2 0) (by rw [foldO_step hf]; simp [mMinStep, c_26, c_48]) (by omega)])) mMinute_nar dX4_minute_53
  refine lv_iconst (v := (-1)) hx hb dX4_minute_0 (by decide) ?_
  refine lv_istore (lv' := [(4, .int (-1)), (0, .ref (ad (0, 0))), (1, .int machine), (2, .int day), (3, .int minute)]) hx hb dX4_minute_1 hl (by decide) rfl (fun ls hl => ?_)
  refine lv_iconst (v := (-1)) hx hb dX4_minute_3 (by decide) ?_
  refine lv_istore (lv' := [(5, .int (-1)), (4, .int (-1)), (0, .ref (ad (0, 0))), (1, .int machine), (2, .int day), (3, .int minute)]) hx hb dX4_minute_4 hl (by decide) rfl (fun ls hl => ?_)
  refine lv_iconst (v := 0) hx hb dX4_minute_6 (by decide) ?_
  refine lv_istore (lv' := [(6, .int 0), (5, .int (-1)), (4, .int (-1)), (0, .ref (ad (0, 0))), (1, .int machine), (2, .int day), (3, .int minute)]) hx hb dX4_minute_7 hl (by decide) rfl (fun ls hl => ?_)
  exact L9 (S.1 2 0 + 1) 0 (-1) (-1) (by omega) (by omega) (Or.inl rfl) (Or.inl rfl) rfl ls (lv_sub hl [0, 1, 2, 3, 4, 5, 6] rfl)

set_option maxHeartbeats 4000000 in
theorem mX4_minutes {l : Launch} {G : xG} {s0 : State} {b0 : Nat} (g : xG0 G s0 b0) {A : Nat → Prop} {S : xS} {ad : Nat × Nat → Nat} {z : xZ} (day what : Int32) {machine : Int32} {mac : Nat} (h_machine : xi machine mac 6) (hW : mWF S) : Met l yX4_minutes (ws_ yX4_minutes cX4_minutes 6 (some .int)) ({ frames := 2, cells := 0, slots := 0, locals := 49 } : Room) (xP s0 A [.ref (ad (0, 0)), .int machine, .int day, .int what] (fun H => xRM G A S ad z H)) (xQp (some (.int (mMinutes S.2.1 (S.1 2 0) machine mac day what)))) 0 0 (fun _ => False) := by
  refine Met.ofW (cc := cX4_minutes) (maxL := 6) (ret := (some .int)) (by decide) rfl ?_
  intro p e s m args below meth c s₁ B hml hv
  obtain ⟨rfl, hWK, hR⟩ := hv
  have hx := B.exec
  have hb := B.bytes
  have hr := B.returns
  have hts := atoms_spec (ws := ws_ yX4_minutes cX4_minutes 6 (some .int)) B.pre
  have hts : ∀ w ∈ lw_all, w.before _ s = true := fun w h => hts w (List.mem_cons_of_mem _ h)
  have hown : s.vm.findClass "LendlatheModel" = some m.cls := findClass_of_methodNamed B.named
  have hlocks := B.notSynchronized
  have hK := hWK.K g
  have F : CallFix p m c cX4_minutes 6 s _ lw_all "LendlatheModel" := ⟨hx, hb, hml, hown, hts⟩
  have hS : va_S A s.heap s.heap [] := va_S.rf
  have hl := lv_entry ([.ref (ad (0, 0)), .int machine, .int day, .int what]) (n := 6) (Nat.le_of_ble_eq_true rfl)
  rw [lg_entry_eq]
  generalize (lg_sl ([.ref (ad (0, 0)), .int machine, .int day, .int what]) ++ List.replicate (6 - (lg_sl ([.ref (ad (0, 0)), .int machine, .int day, .int what])).length) Slot.unset).toArray = ls at hl ⊢
  have hl : lv_has ls 6 [(0, .ref (ad (0, 0))), (1, .int machine), (2, .int day), (3, .int what)] := hl
  have hn0 := hW.1
  have hn1 := hW.2.1
  have hn2 := hW.2.2.1
  have hn3 := hW.2.2.2.1
  have hn4 := hW.2.2.2.2.1
  have L6 : ∀ (n : Nat) (k : Nat) (acc : Int32), 480 - k < n → (k ≤ 480) → (acc = sumI k (fun k => if mMinute S.2.1 (S.1 2 0) machine mac day (nI k) = what then 1 else 0)) → ∀ (ls : Array Slot), lv_has ls 6 [(5, .int (nI k)), (4, .int acc), (0, .ref (ad (0, 0))), (1, .int machine), (2, .int day), (3, .int what)] → W p l e (headSpec (ws_ yX4_minutes cX4_minutes 6 (some .int)) ({ frames := 2, cells := 0, slots := 0, locals := 49 } : Room)).room s m ([.ref (ad (0, 0)), .int machine, .int day, .int what] : List Value).toArray below meth c s.heap [] 0 0 (MQ below (xQp (some (.int (mMinutes S.2.1 (S.1 2 0) machine mac day what)))) ([.ref (ad (0, 0)), .int machine, .int day, .int what] : List Value).toArray s 0 0 (fun _ => False)) (F0 m 6 ls []) := by
    intro n6
    induction n6 with
    | zero =>
      intro k acc hn6
      exact absurd hn6 (Nat.not_lt_zero _)
    | succ n6 ih6 =>
      intro k acc hn6 hkn ea ls hl
      refine lv_iload hx hb dX4_minutes_6 (lv_at hl 0 rfl) ?_
      refine lv_sipush (v := 480) hx hb dX4_minutes_8 (by decide) ?_
      refine xn_ge (tgt := 42) k 480 rfl (by decide) (by omega) (by omega) hx hb dX4_minutes_11 (by decide) (fun c_11 => ?_) (fun c_11 => ?_)
      · refine lv_iload hx hb dX4_minutes_42 (lv_at hl 1 rfl) ?_
        exact xr_Pi hx hb hr hlocks ((by have hk9 : k = 480 := (by omega); subst hk9; exact ea)) dX4_minutes_44
      · refine lv_iload hx hb dX4_minutes_14 (lv_at hl 1 rfl) ?_
        refine lv_aload_n hx hb dX4_minutes_16 rfl (lv_at hl 2 rfl) ?_
        refine lv_iload_n hx hb dX4_minutes_17 rfl (lv_at hl 3 rfl) ?_
        refine lv_iload_n hx hb dX4_minutes_18 rfl (lv_at hl 4 rfl) ?_
        refine lv_iload hx hb dX4_minutes_19 (lv_at hl 0 rfl) ?_
        refine xc_P (va_runV (As := [.int machine, .int day, .int (nI k)]) (rest := [.int acc]) F (mX4_minute g (A := A) (S := S) (ad := ad) (z := z) day (nI k) (xi.up h_machine (by omega)) hW) (cwV 3 hts (lw_V q1690 q1692 qs48 q80 q1693) rfl rfl rfl hdV_X4_minute ⟨Nat.le_of_ble_eq_true rfl, Nat.le_of_ble_eq_true rfl⟩) (xpreV (xrecv hK (mw_0 hR) rfl) hWK hS hR) rfl rfl hl.1 rfl (lv_room (Nat.le_of_ble_eq_true rfl)) dX4_minutes_21 ⟨Nat.le_of_ble_eq_true rfl, Nat.le_of_ble_eq_true rfl⟩) ?_
        refine lv_iload_n hx hb dX4_minutes_24 rfl (lv_at hl 5 rfl) ?_
        refine lv_icmp_ne (tgt := 32) hx hb dX4_minutes_25 (by decide) (fun c_25 => ?_) (fun c_25 => ?_)
        · refine lv_iconst (v := 0) hx hb dX4_minutes_32 (by decide) ?_
          refine lv_iadd hx hb dX4_minutes_33 ?_
          refine lv_istore (lv' := [(4, .int (acc + 0)), (5, .int (nI k)), (0, .ref (ad (0, 0))), (1, .int machine), (2, .int day), (3, .int what)]) hx hb dX4_minutes_34 hl (by decide) rfl (fun ls hl => ?_)
          refine lv_iinc (v := nI (k + 1)) (lv' := [(5, .int (nI (k + 1))), (4, .int (acc + 0)), (0, .ref (ad (0, 0))), (1, .int machine), (2, .int day), (3, .int what)]) hx hb dX4_minutes_36 hl (k := 1) rfl (nI_1 _) (by decide) rfl (fun ls hl => ?_)
          refine lv_goto (tgt := 6) hx hb dX4_minutes_39 (by decide) ?_
          exact ih6 (k + 1) (acc + 0) (by omega) (by omega) (by rw [ea]; simp [sumI, c_25]) ls (lv_sub hl [0, 1, 2, 3, 4, 5] rfl)
        · refine lv_iconst (v := 1) hx hb dX4_minutes_28 (by decide) ?_
          refine lv_goto (tgt := 33) hx hb dX4_minutes_29 (by decide) ?_
          refine lv_iadd hx hb dX4_minutes_33 ?_
          refine lv_istore (lv' := [(4, .int (acc + 1)), (5, .int (nI k)), (0, .ref (ad (0, 0))), (1, .int machine), (2, .int day), (3, .int what)]) hx hb dX4_minutes_34 hl (by decide) rfl (fun ls hl => ?_)
          refine lv_iinc (v := nI (k + 1)) (lv' := [(5, .int (nI (k + 1))), (4, .int (acc + 1)), (0, .ref (ad (0, 0))), (1, .int machine), (2, .int day), (3, .int what)]) hx hb dX4_minutes_36 hl (k := 1) rfl (nI_1 _) (by decide) rfl (fun ls hl => ?_)
          refine lv_goto (tgt := 6) hx hb dX4_minutes_39 (by decide) ?_
          exact ih6 (k + 1) (acc + 1) (by omega) (by omega) (by rw [ea]; simp [sumI, c_25]) ls (lv_sub hl [0, 1, 2, 3, 4, 5] rfl)
  refine lv_iconst (v := 0) hx hb dX4_minutes_0 (by decide) ?_
  refine lv_istore (lv' := [(4, .int 0), (0, .ref (ad (0, 0))), (1, .int machine), (2, .int day), (3, .int what)]) hx hb dX4_minutes_1 hl (by decide) rfl (fun ls hl => ?_)
  refine lv_iconst (v := 0) hx hb dX4_minutes_3 (by decide) ?_
  refine lv_istore (lv' := [(5, .int 0), (4, .int 0), (0, .ref (ad (0, 0))), (1, .int machine), (2, .int day), (3, .int what)]) hx hb dX4_minutes_4 hl (by decide) rfl (fun ls hl => ?_)
  exact L6 481 0 0 (by omega) (by omega) rfl ls (lv_sub hl [0, 1, 2, 3, 4, 5] rfl)

set_option maxHeartbeats 4000000 in
theorem mX4_used {l : Launch} {G : xG} {s0 : State} {b0 : Nat} (g : xG0 G s0 b0) {A : Nat → Prop} {S : xS} {ad : Nat × Nat → Nat} {z : xZ} (machine day : Int32) (hW : mWF S) : Met l yX4_used (ws_ yX4_used cX4_used 5 (some .int)) ({ frames := 1, cells := 0, slots := 0, locals := 23 } : Room) (xP s0 A [.ref (ad (0, 0)), .int machine, .int day] (fun H => xRM G A S ad z H)) (xQp (some (.int (mUsed S.2.1 (S.1 2 0) machine day)))) 0 0 (fun _ => False) := by
  refine Met.ofW (cc := cX4_used) (maxL := 5) (ret := (some .int)) (by decide) rfl ?_
  intro p e s m args below meth c s₁ B hml hv
  obtain ⟨rfl, hWK, hR⟩ := hv
  have hx := B.exec
  have hb := B.bytes
  have hr := B.returns
  have hts := atoms_spec (ws := ws_ yX4_used cX4_used 5 (some .int)) B.pre
  have hts : ∀ w ∈ lw_all, w.before _ s = true := fun w h => hts w (List.mem_cons_of_mem _ h)
  have hown : s.vm.findClass "LendlatheModel" = some m.cls := findClass_of_methodNamed B.named
  have hlocks := B.notSynchronized
  have hK := hWK.K g
  have F : CallFix p m c cX4_used 5 s _ lw_all "LendlatheModel" := ⟨hx, hb, hml, hown, hts⟩
  have hS : va_S A s.heap s.heap [] := va_S.rf
  have hl := lv_entry ([.ref (ad (0, 0)), .int machine, .int day]) (n := 5) (Nat.le_of_ble_eq_true rfl)
  rw [lg_entry_eq]
  generalize (lg_sl ([.ref (ad (0, 0)), .int machine, .int day]) ++ List.replicate (5 - (lg_sl ([.ref (ad (0, 0)), .int machine, .int day])).length) Slot.unset).toArray = ls at hl ⊢
  have hl : lv_has ls 5 [(0, .ref (ad (0, 0))), (1, .int machine), (2, .int day)] := hl
  have hn0 := hW.1
  have hn1 := hW.2.1
  have hn2 := hW.2.2.1
  have hn3 := hW.2.2.2.1
  have hn4 := hW.2.2.2.2.1
  have L5 : ∀ (n : Nat) (k : Nat) (acc : Int32), S.1 2 0 - k < n → (k ≤ S.1 2 0) → (acc = sumI k (fun e => if mStands S.2.1 e machine day = true then S.2.1 14 e 0 else 0)) → ∀ (ls : Array Slot), lv_has ls 5 [(4, .int (nI k)), (3, .int acc), (0, .ref (ad (0, 0))), (1, .int machine), (2, .int day)] → W p l e (headSpec (ws_ yX4_used cX4_used 5 (some .int)) ({ frames := 1, cells := 0, slots := 0, locals := 23 } : Room)).room s m ([.ref (ad (0, 0)), .int machine, .int day] : List Value).toArray below meth c s.heap [] 0 0 (MQ below (xQp (some (.int (mUsed S.2.1 (S.1 2 0) machine day)))) ([.ref (ad (0, 0)), .int machine, .int day] : List Value).toArray s 0 0 (fun _ => False)) (F0 m 5 ls []) := by
    intro n5
    induction n5 with
    | zero =>
      intro k acc hn5
      exact absurd hn5 (Nat.not_lt_zero _)
    | succ n5 ih5 =>
      intro k acc hn5 hkn ea ls hl
      refine lv_iload hx hb dX4_used_5 (lv_at hl 0 rfl) ?_
      refine lv_aload_n hx hb dX4_used_7 rfl (lv_at hl 2 rfl) ?_
      refine g_X4_101 F hK (mw_0 hR) (v := .int (nI (S.1 2 0))) rfl dX4_used_8 ?_
      refine xn_ge (tgt := 45) k (S.1 2 0) rfl rfl (by omega) (by omega) hx hb dX4_used_11 (by decide) (fun c_11 => ?_) (fun c_11 => ?_)
      · refine lv_iload_n hx hb dX4_used_45 rfl (lv_at hl 1 rfl) ?_
        exact xr_Pi hx hb hr hlocks ((by have hk9 : k = S.1 2 0 := (by omega); subst hk9; exact ea)) dX4_used_46
      · refine lv_iload_n hx hb dX4_used_14 rfl (lv_at hl 1 rfl) ?_
        refine lv_aload_n hx hb dX4_used_15 rfl (lv_at hl 2 rfl) ?_
        refine lv_iload hx hb dX4_used_16 (lv_at hl 0 rfl) ?_
        refine lv_iload_n hx hb dX4_used_18 rfl (lv_at hl 3 rfl) ?_
        refine lv_iload_n hx hb dX4_used_19 rfl (lv_at hl 4 rfl) ?_
        refine xc_P (va_runV (As := [.int (nI k), .int machine, .int day]) (rest := [.int acc]) F (mX4_stands g (A := A) (S := S) (ad := ad) (z := z) machine day (xi_nI (n := 150) (by omega) (by omega))) (cwV 3 hts (lw_V q1694 q1696 qs49 q80 q1697) rfl rfl rfl hdV_X4_stands ⟨Nat.le_of_ble_eq_true rfl, Nat.le_of_ble_eq_true rfl⟩) (xpreV (xrecv hK (mw_0 hR) rfl) hWK hS hR) rfl rfl hl.1 rfl (lv_room (Nat.le_of_ble_eq_true rfl)) dX4_used_20 ⟨Nat.le_of_ble_eq_true rfl, Nat.le_of_ble_eq_true rfl⟩) ?_
        refine x_ifeq (tgt := 36) hx hb dX4_used_23 (by decide) (fun c_23 => ?_) (fun c_23 => ?_)
        · refine lv_iconst (v := 0) hx hb dX4_used_36 (by decide) ?_
          refine lv_iadd hx hb dX4_used_37 ?_
          refine lv_istore_n (lv' := [(3, .int (acc + 0)), (4, .int (nI k)), (0, .ref (ad (0, 0))), (1, .int machine), (2, .int day)]) hx hb dX4_used_38 rfl hl (by decide) rfl (fun ls hl => ?_)
          refine lv_iinc (v := nI (k + 1)) (lv' := [(4, .int (nI (k + 1))), (3, .int (acc + 0)), (0, .ref (ad (0, 0))), (1, .int machine), (2, .int day)]) hx hb dX4_used_39 hl (k := 1) rfl (nI_1 _) (by decide) rfl (fun ls hl => ?_)
          refine lv_goto (tgt := 5) hx hb dX4_used_42 (by decide) ?_
          exact ih5 (k + 1) (acc + 0) (by omega) (by omega) (by rw [ea]; simp [sumI, c_23]) ls (lv_sub hl [0, 1, 2, 3, 4] rfl)
        · refine lv_aload_n hx hb dX4_used_26 rfl (lv_at hl 2 rfl) ?_
          refine g_X4_42 F hK (mw_0 hR) (v := .ref (ad (12, 0))) rfl dX4_used_27 ?_
          refine lv_iload hx hb dX4_used_30 (lv_at hl 0 rfl) ?_
          refine x_iald hx hb hK (mw_12 hR) (v := .int (S.2.1 14 k 0)) (xi_nI (n := 150) (by omega) (by omega)) (rfl) dX4_used_32 ?_
          refine lv_goto (tgt := 37) hx hb dX4_used_33 (by decide) ?_
          refine lv_iadd hx hb dX4_used_37 ?_
          refine lv_istore_n (lv' := [(3, .int (acc + (S.2.1 14 k 0))), (4, .int (nI k)), (0, .ref (ad (0, 0))), (1, .int machine), (2, .int day)]) hx hb dX4_used_38 rfl hl (by decide) rfl (fun ls hl => ?_)
          refine lv_iinc (v := nI (k + 1)) (lv' := [(4, .int (nI (k + 1))), (3, .int (acc + (S.2.1 14 k 0))), (0, .ref (ad (0, 0))), (1, .int machine), (2, .int day)]) hx hb dX4_used_39 hl (k := 1) rfl (nI_1 _) (by decide) rfl (fun ls hl => ?_)
          refine lv_goto (tgt := 5) hx hb dX4_used_42 (by decide) ?_
          exact ih5 (k + 1) (acc + (S.2.1 14 k 0)) (by omega) (by omega) (by rw [ea]; simp [sumI, c_23]) ls (lv_sub hl [0, 1, 2, 3, 4] rfl)
  refine lv_iconst (v := 0) hx hb dX4_used_0 (by decide) ?_
  refine lv_istore_n (lv' := [(3, .int 0), (0, .ref (ad (0, 0))), (1, .int machine), (2, .int day)]) hx hb dX4_used_1 rfl hl (by decide) rfl (fun ls hl => ?_)
  refine lv_iconst (v := 0) hx hb dX4_used_2 (by decide) ?_
  refine lv_istore (lv' := [(4, .int 0), (3, .int 0), (0, .ref (ad (0, 0))), (1, .int machine), (2, .int day)]) hx hb dX4_used_3 hl (by decide) rfl (fun ls hl => ?_)
  exact L5 (S.1 2 0 + 1) 0 0 (by omega) (by omega) rfl ls (lv_sub hl [0, 1, 2, 3, 4] rfl)

set_option maxHeartbeats 4000000 in
theorem mX4_free {l : Launch} {G : xG} {s0 : State} {b0 : Nat} (g : xG0 G s0 b0) {A : Nat → Prop} {S : xS} {ad : Nat × Nat → Nat} {z : xZ} {bar : Int32} {bi : Nat} (h_bar : xi bar bi 30) (hW : mWF S) : Met l yX4_free (ws_ yX4_free cX4_free 5 (some .int)) ({ frames := 0, cells := 0, slots := 0, locals := 0 } : Room) (xP s0 A [.ref (ad (0, 0)), .int bar] (fun H => xRM G A S ad z H)) (xQp (some (.int (mFreeBar S bar bi)))) 0 0 (fun _ => False) := by
  refine Met.ofW (cc := cX4_free) (maxL := 5) (ret := (some .int)) (by decide) rfl ?_
  intro p e s m args below meth c s₁ B hml hv
  obtain ⟨rfl, hWK, hR⟩ := hv
  have hx := B.exec
  have hb := B.bytes
  have hr := B.returns
  have hts := atoms_spec (ws := ws_ yX4_free cX4_free 5 (some .int)) B.pre
  have hts : ∀ w ∈ lw_all, w.before _ s = true := fun w h => hts w (List.mem_cons_of_mem _ h)
  have hown : s.vm.findClass "LendlatheModel" = some m.cls := findClass_of_methodNamed B.named
  have hlocks := B.notSynchronized
  have hK := hWK.K g
  have F : CallFix p m c cX4_free 5 s _ lw_all "LendlatheModel" := ⟨hx, hb, hml, hown, hts⟩
  have hS : va_S A s.heap s.heap [] := va_S.rf
  have hl := lv_entry ([.ref (ad (0, 0)), .int bar]) (n := 5) (Nat.le_of_ble_eq_true rfl)
  rw [lg_entry_eq]
  generalize (lg_sl ([.ref (ad (0, 0)), .int bar]) ++ List.replicate (5 - (lg_sl ([.ref (ad (0, 0)), .int bar])).length) Slot.unset).toArray = ls at hl ⊢
  have hl : lv_has ls 5 [(0, .ref (ad (0, 0))), (1, .int bar)] := hl
  have hn0 := hW.1
  have hn1 := hW.2.1
  have hn2 := hW.2.2.1
  have hn3 := hW.2.2.2.1
  have hn4 := hW.2.2.2.2.1
  have hn6 := hW.2.2.2.2.2.2.1
  have L9 : ∀ (n : Nat) (k : Nat) (left : Int32), S.1 2 0 - k < n → (k ≤ S.1 2 0) → (left = S.2.1 21 bi 0 - sumI k (fun e => if S.2.1 16 e 0 = 98 ∨ S.2.1 16 e 0 = 100 then mCutSum S bar e (S.1 6 e) else 0)) → ∀ (ls : Array Slot), lv_has ls 5 [(3, .int (nI k)), (2, .int left), (0, .ref (ad (0, 0))), (1, .int bar)] → W p l e (headSpec (ws_ yX4_free cX4_free 5 (some .int)) ({ frames := 0, cells := 0, slots := 0, locals := 0 } : Room)).room s m ([.ref (ad (0, 0)), .int bar] : List Value).toArray below meth c s.heap [] 0 0 (MQ below (xQp (some (.int (mFreeBar S bar bi)))) ([.ref (ad (0, 0)), .int bar] : List Value).toArray s 0 0 (fun _ => False)) (F0 m 9 ls []) := by
    intro n9
    induction n9 with
    | zero =>
      intro k left hn9
      exact absurd hn9 (Nat.not_lt_zero _)
    | succ n9 ih9 =>
      intro k left hn9 hkn ea ls hl
      have h6k := hn6 k
      refine lv_iload_n hx hb dX4_free_9 rfl (lv_at hl 0 rfl) ?_
      refine lv_aload_n hx hb dX4_free_10 rfl (lv_at hl 2 rfl) ?_
      refine g_X4_101 F hK (mw_0 hR) (v := .int (nI (S.1 2 0))) rfl dX4_free_11 ?_
      refine xn_ge (tgt := 96) k (S.1 2 0) rfl rfl (by omega) (by omega) hx hb dX4_free_14 (by decide) (fun c_14 => ?_) (fun c_14 => ?_)
      · refine lv_iload_n hx hb dX4_free_96 rfl (lv_at hl 1 rfl) ?_
        exact xr_Pi hx hb hr hlocks ((by have hk9 : k = S.1 2 0 := (by omega); subst hk9; exact ea)) dX4_free_97
      · refine lv_iconst (v := 0) hx hb dX4_free_17 (by decide) ?_
        refine lv_istore (lv' := [(4, .int 0), (3, .int (nI k)), (2, .int left), (0, .ref (ad (0, 0))), (1, .int bar)]) hx hb dX4_free_18 hl (by decide) rfl (fun ls hl => ?_)
        have L20 : ∀ (n : Nat) (j : Nat) (lf : Int32), S.1 6 k - j < n → (j ≤ S.1 6 k) → (j = 0 ∨ S.2.1 16 k 0 = 98 ∨ S.2.1 16 k 0 = 100) → (lf = left - mCutSum S bar k j) → ∀ (ls : Array Slot), lv_has ls 5 [(4, .int (nI j)), (3, .int (nI k)), (2, .int lf), (0, .ref (ad (0, 0))), (1, .int bar)] → W p l e (headSpec (ws_ yX4_free cX4_free 5 (some .int)) ({ frames := 0, cells := 0, slots := 0, locals := 0 } : Room)).room s m ([.ref (ad (0, 0)), .int bar] : List Value).toArray below meth c s.heap [] 0 0 (MQ below (xQp (some (.int (mFreeBar S bar bi)))) ([.ref (ad (0, 0)), .int bar] : List Value).toArray s 0 0 (fun _ => False)) (F0 m 20 ls []) := by
          intro n20
          induction n20 with
          | zero =>
            intro j lf hn20
            exact absurd hn20 (Nat.not_lt_zero _)
          | succ n20 ih20 =>
            intro j lf hn20 hj oj ej ls hl
            refine lv_iload hx hb dX4_free_20 (lv_at hl 0 rfl) ?_
            refine lv_aload_n hx hb dX4_free_22 rfl (lv_at hl 3 rfl) ?_
            refine g_X4_55 F hK (mw_0 hR) (v := .ref (ad (16, 0))) rfl dX4_free_23 ?_
            refine lv_iload_n hx hb dX4_free_26 rfl (lv_at hl 1 rfl) ?_
            refine x_iald hx hb hK (mw_16 hR) (v := .int (nI (S.1 6 k))) (xi_nI (n := 150) (by omega) (by omega)) (rfl) dX4_free_27 ?_
            refine xn_ge (tgt := 90) j (S.1 6 k) rfl rfl (by omega) (by omega) hx hb dX4_free_28 (by decide) (fun c_28 => ?_) (fun c_28 => ?_)
            · refine lv_iinc (v := nI (k + 1)) (lv' := [(3, .int (nI (k + 1))), (4, .int (nI j)), (2, .int lf), (0, .ref (ad (0, 0))), (1, .int bar)]) hx hb dX4_free_90 hl (k := 1) rfl (nI_1 _) (by decide) rfl (fun ls hl => ?_)
              refine lv_goto (tgt := 9) hx hb dX4_free_93 (by decide) ?_
              exact ih9 (k + 1) lf (by omega) (by omega) (by rw [ea] at ej; exact mFB_exit ej oj (Or.inl (by omega))) ls (lv_sub hl [0, 2, 3, 4] rfl)
            · refine lv_aload_n hx hb dX4_free_31 rfl (lv_at hl 3 rfl) ?_
              refine g_X4_49 F hK (mw_0 hR) (v := .ref (ad (14, 0))) rfl dX4_free_32 ?_
              refine lv_iload_n hx hb dX4_free_35 rfl (lv_at hl 1 rfl) ?_
              refine x_cald hx hb hK (mw_14 hR) (v := .int (S.2.1 16 k 0)) (xi_nI (n := 150) (by omega) (by omega)) (rfl) dX4_free_36 ?_
              refine lv_bipush (v := 98) hx hb dX4_free_37 (by decide) ?_
              refine lv_icmp_eq (tgt := 53) hx hb dX4_free_39 (by decide) (fun c_39 => ?_) (fun c_39 => ?_)
              · refine lv_iload_n hx hb dX4_free_53 rfl (lv_at hl 2 rfl) ?_
                refine lv_aload_n hx hb dX4_free_54 rfl (lv_at hl 3 rfl) ?_
                refine g_X4_58 F hK (mw_0 hR) (v := .ref (ad (17, 0))) rfl dX4_free_55 ?_
                refine lv_iload_n hx hb dX4_free_58 rfl (lv_at hl 1 rfl) ?_
                refine x_aald hx hb hK (mw_17 hR) rfl rfl (v := .ref (ad (18, k))) (xi_nI (n := 150) (by omega) (by omega)) (rfl) dX4_free_59 ?_
                refine lv_iload hx hb dX4_free_60 (lv_at hl 0 rfl) ?_
                refine x_iald hx hb hK (mw_18 hR (by omega)) (v := .int (S.2.1 18 k j)) (xi_nI (n := 5) (by omega) (by omega)) (rfl) dX4_free_62 ?_
                refine lv_iload_n hx hb dX4_free_63 rfl (lv_at hl 4 rfl) ?_
                refine lv_icmp_ne (tgt := 81) hx hb dX4_free_64 (by decide) (fun c_64 => ?_) (fun c_64 => ?_)
                · refine lv_iconst (v := 0) hx hb dX4_free_81 (by decide) ?_
                  refine lv_isub hx hb dX4_free_82 ?_
                  refine lv_istore_n (lv' := [(2, .int (lf - 0)), (4, .int (nI j)), (3, .int (nI k)), (0, .ref (ad (0, 0))), (1, .int bar)]) hx hb dX4_free_83 rfl hl (by decide) rfl (fun ls hl => ?_)
                  refine lv_iinc (v := nI (j + 1)) (lv' := [(4, .int (nI (j + 1))), (2, .int (lf - 0)), (3, .int (nI k)), (0, .ref (ad (0, 0))), (1, .int bar)]) hx hb dX4_free_84 hl (k := 1) rfl (nI_1 _) (by decide) rfl (fun ls hl => ?_)
                  refine lv_goto (tgt := 20) hx hb dX4_free_87 (by decide) ?_
                  exact ih20 (j + 1) (lf - 0) (by omega) (by omega) (Or.inr (Or.inl c_39)) (by rw [ej]; exact mCS_0 c_64) ls (lv_sub hl [0, 2, 1, 3, 4] rfl)
                · refine lv_aload_n hx hb dX4_free_67 rfl (lv_at hl 3 rfl) ?_
                  refine g_X4_61 F hK (mw_0 hR) (v := .ref (ad (19, 0))) rfl dX4_free_68 ?_
                  refine lv_iload_n hx hb dX4_free_71 rfl (lv_at hl 1 rfl) ?_
                  refine x_aald hx hb hK (mw_19 hR) rfl rfl (v := .ref (ad (20, k))) (xi_nI (n := 150) (by omega) (by omega)) (rfl) dX4_free_72 ?_
                  refine lv_iload hx hb dX4_free_73 (lv_at hl 0 rfl) ?_
                  refine x_iald hx hb hK (mw_20 hR (by omega)) (v := .int (S.2.1 19 k j)) (xi_nI (n := 5) (by omega) (by omega)) (rfl) dX4_free_75 ?_
                  refine lv_iconst (v := 3) hx hb dX4_free_76 (by decide) ?_
                  refine lv_iadd hx hb dX4_free_77 ?_
                  refine lv_goto (tgt := 82) hx hb dX4_free_78 (by decide) ?_
                  refine lv_isub hx hb dX4_free_82 ?_
                  refine lv_istore_n (lv' := [(2, .int (lf - ((S.2.1 19 k j) + 3))), (4, .int (nI j)), (3, .int (nI k)), (0, .ref (ad (0, 0))), (1, .int bar)]) hx hb dX4_free_83 rfl hl (by decide) rfl (fun ls hl => ?_)
                  refine lv_iinc (v := nI (j + 1)) (lv' := [(4, .int (nI (j + 1))), (2, .int (lf - ((S.2.1 19 k j) + 3))), (3, .int (nI k)), (0, .ref (ad (0, 0))), (1, .int bar)]) hx hb dX4_free_84 hl (k := 1) rfl (nI_1 _) (by decide) rfl (fun ls hl => ?_)
                  refine lv_goto (tgt := 20) hx hb dX4_free_87 (by decide) ?_
                  exact ih20 (j + 1) (lf - ((S.2.1 19 k j) + 3)) (by omega) (by omega) (Or.inr (Or.inl c_39)) (by rw [ej]; exact mCS_1 c_64) ls (lv_sub hl [0, 2, 1, 3, 4] rfl)
              · refine lv_aload_n hx hb dX4_free_42 rfl (lv_at hl 3 rfl) ?_
                refine g_X4_49 F hK (mw_0 hR) (v := .ref (ad (14, 0))) rfl dX4_free_43 ?_
                refine lv_iload_n hx hb dX4_free_46 rfl (lv_at hl 1 rfl) ?_
                refine x_cald hx hb hK (mw_14 hR) (v := .int (S.2.1 16 k 0)) (xi_nI (n := 150) (by omega) (by omega)) (rfl) dX4_free_47 ?_
                refine lv_bipush (v := 100) hx hb dX4_free_48 (by decide) ?_
                refine lv_icmp_ne (tgt := 90) hx hb dX4_free_50 (by decide) (fun c_50 => ?_) (fun c_50 => ?_)
                · refine lv_iinc (v := nI (k + 1)) (lv' := [(3, .int (nI (k + 1))), (4, .int (nI j)), (2, .int lf), (0, .ref (ad (0, 0))), (1, .int bar)]) hx hb dX4_free_90 hl (k := 1) rfl (nI_1 _) (by decide) rfl (fun ls hl => ?_)
                  refine lv_goto (tgt := 9) hx hb dX4_free_93 (by decide) ?_
                  exact ih9 (k + 1) lf (by omega) (by omega) (by rw [ea] at ej; exact mFB_exit ej oj (Or.inr ⟨c_39, c_50⟩)) ls (lv_sub hl [0, 2, 3, 4] rfl)
                · refine lv_iload_n hx hb dX4_free_53 rfl (lv_at hl 2 rfl) ?_
                  refine lv_aload_n hx hb dX4_free_54 rfl (lv_at hl 3 rfl) ?_
                  refine g_X4_58 F hK (mw_0 hR) (v := .ref (ad (17, 0))) rfl dX4_free_55 ?_
                  refine lv_iload_n hx hb dX4_free_58 rfl (lv_at hl 1 rfl) ?_
                  refine x_aald hx hb hK (mw_17 hR) rfl rfl (v := .ref (ad (18, k))) (xi_nI (n := 150) (by omega) (by omega)) (rfl) dX4_free_59 ?_
                  refine lv_iload hx hb dX4_free_60 (lv_at hl 0 rfl) ?_
                  refine x_iald hx hb hK (mw_18 hR (by omega)) (v := .int (S.2.1 18 k j)) (xi_nI (n := 5) (by omega) (by omega)) (rfl) dX4_free_62 ?_
                  refine lv_iload_n hx hb dX4_free_63 rfl (lv_at hl 4 rfl) ?_
                  refine lv_icmp_ne (tgt := 81) hx hb dX4_free_64 (by decide) (fun c_64 => ?_) (fun c_64 => ?_)
                  · refine lv_iconst (v := 0) hx hb dX4_free_81 (by decide) ?_
                    refine lv_isub hx hb dX4_free_82 ?_
                    refine lv_istore_n (lv' := [(2, .int (lf - 0)), (4, .int (nI j)), (3, .int (nI k)), (0, .ref (ad (0, 0))), (1, .int bar)]) hx hb dX4_free_83 rfl hl (by decide) rfl (fun ls hl => ?_)
                    refine lv_iinc (v := nI (j + 1)) (lv' := [(4, .int (nI (j + 1))), (2, .int (lf - 0)), (3, .int (nI k)), (0, .ref (ad (0, 0))), (1, .int bar)]) hx hb dX4_free_84 hl (k := 1) rfl (nI_1 _) (by decide) rfl (fun ls hl => ?_)
                    refine lv_goto (tgt := 20) hx hb dX4_free_87 (by decide) ?_
                    exact ih20 (j + 1) (lf - 0) (by omega) (by omega) (Or.inr (Or.inr c_50)) (by rw [ej]; exact mCS_0 c_64) ls (lv_sub hl [0, 2, 1, 3, 4] rfl)
                  · refine lv_aload_n hx hb dX4_free_67 rfl (lv_at hl 3 rfl) ?_
                    refine g_X4_61 F hK (mw_0 hR) (v := .ref (ad (19, 0))) rfl dX4_free_68 ?_
                    refine lv_iload_n hx hb dX4_free_71 rfl (lv_at hl 1 rfl) ?_
                    refine x_aald hx hb hK (mw_19 hR) rfl rfl (v := .ref (ad (20, k))) (xi_nI (n := 150) (by omega) (by omega)) (rfl) dX4_free_72 ?_
                    refine lv_iload hx hb dX4_free_73 (lv_at hl 0 rfl) ?_
                    refine x_iald hx hb hK (mw_20 hR (by omega)) (v := .int (S.2.1 19 k j)) (xi_nI (n := 5) (by omega) (by omega)) (rfl) dX4_free_75 ?_
                    refine lv_iconst (v := 3) hx hb dX4_free_76 (by decide) ?_
                    refine lv_iadd hx hb dX4_free_77 ?_
                    refine lv_goto (tgt := 82) hx hb dX4_free_78 (by decide) ?_
                    refine lv_isub hx hb dX4_free_82 ?_
                    refine lv_istore_n (lv' := [(2, .int (lf - ((S.2.1 19 k j) + 3))), (4, .int (nI j)), (3, .int (nI k)), (0, .ref (ad (0, 0))), (1, .int bar)]) hx hb dX4_free_83 rfl hl (by decide) rfl (fun ls hl => ?_)
                    refine lv_iinc (v := nI (j + 1)) (lv' := [(4, .int (nI (j + 1))), (2, .int (lf - ((S.2.1 19 k j) + 3))), (3, .int (nI k)), (0, .ref (ad (0, 0))), (1, .int bar)]) hx hb dX4_free_84 hl (k := 1) rfl (nI_1 _) (by decide) rfl (fun ls hl => ?_)
                    refine lv_goto (tgt := 20) hx hb dX4_free_87 (by decide) ?_
                    exact ih20 (j + 1) (lf - ((S.2.1 19 k j) + 3)) (by omega) (by omega) (Or.inr (Or.inr c_50)) (by rw [ej]; exact mCS_1 c_64) ls (lv_sub hl [0, 2, 1, 3, 4] rfl)
        exact L20 (S.1 6 k + 1) 0 _ (by omega) (by omega) (Or.inl rfl) (by simp [mCutSum, sumI]) ls (lv_sub hl [0, 1, 2, 3, 4] rfl)
  refine lv_aload_n hx hb dX4_free_0 rfl (lv_at hl 0 rfl) ?_
  refine g_X4_67 F hK (mw_0 hR) (v := .ref (ad (22, 0))) rfl dX4_free_1 ?_
  refine lv_iload_n hx hb dX4_free_4 rfl (lv_at hl 1 rfl) ?_
  refine x_iald hx hb hK (mw_22 hR) (v := .int (S.2.1 21 bi 0)) (xi.up h_bar (by omega)) (rfl) dX4_free_5 ?_
  refine lv_istore_n (lv' := [(2, .int (S.2.1 21 bi 0)), (0, .ref (ad (0, 0))), (1, .int bar)]) hx hb dX4_free_6 rfl hl (by decide) rfl (fun ls hl => ?_)
  refine lv_iconst (v := 0) hx hb dX4_free_7 (by decide) ?_
  refine lv_istore_n (lv' := [(3, .int 0), (2, .int (S.2.1 21 bi 0)), (0, .ref (ad (0, 0))), (1, .int bar)]) hx hb dX4_free_8 rfl hl (by decide) rfl (fun ls hl => ?_)
  exact L9 (S.1 2 0 + 1) 0 _ (by omega) (by omega) (by simp [sumI]) ls (lv_sub hl [0, 1, 2, 3] rfl)

set_option maxHeartbeats 4000000 in
theorem mX4_owed {l : Launch} {G : xG} {s0 : State} {b0 : Nat} (g : xG0 G s0 b0) {A : Nat → Prop} {S : xS} {ad : Nat × Nat → Nat} {z : xZ} {member : Int32} {mi : Nat} (h_member : xi member mi 10) (hW : mWF S) : Met l yX4_owed (ws_ yX4_owed cX4_owed 5 (some .long)) ({ frames := 0, cells := 0, slots := 0, locals := 0 } : Room) (xP s0 A [.ref (ad (0, 0)), .int member] (fun H => xRM G A S ad z H)) (xQp (some (.long (mOwed S member mi)))) 0 0 (fun _ => False) := by
  refine Met.ofW (cc := cX4_owed) (maxL := 5) (ret := (some .long)) (by decide) rfl ?_
  intro p e s m args below meth c s₁ B hml hv
  obtain ⟨rfl, hWK, hR⟩ := hv
  have hx := B.exec
  have hb := B.bytes
  have hr := B.returns
  have hts := atoms_spec (ws := ws_ yX4_owed cX4_owed 5 (some .long)) B.pre
  have hts : ∀ w ∈ lw_all, w.before _ s = true := fun w h => hts w (List.mem_cons_of_mem _ h)
  have hown : s.vm.findClass "LendlatheModel" = some m.cls := findClass_of_methodNamed B.named
  have hlocks := B.notSynchronized
  have hK := hWK.K g
  have F : CallFix p m c cX4_owed 5 s _ lw_all "LendlatheModel" := ⟨hx, hb, hml, hown, hts⟩
  have hS : va_S A s.heap s.heap [] := va_S.rf
  have hl := lv_entry ([.ref (ad (0, 0)), .int member]) (n := 5) (Nat.le_of_ble_eq_true rfl)
  rw [lg_entry_eq]
  generalize (lg_sl ([.ref (ad (0, 0)), .int member]) ++ List.replicate (5 - (lg_sl ([.ref (ad (0, 0)), .int member])).length) Slot.unset).toArray = ls at hl ⊢
  have hl : lv_has ls 5 [(0, .ref (ad (0, 0))), (1, .int member)] := hl
  have hn0 := hW.1
  have hn1 := hW.2.1
  have hn2 := hW.2.2.1
  have hn3 := hW.2.2.2.1
  have hn4 := hW.2.2.2.2.1
  have L55 : ∀ (n : Nat) (j : Nat) (ac : Int64), S.1 4 0 - j < n → (j ≤ S.1 4 0) → (ac = -S.2.2 mi + sumL (S.1 2 0) (fun e => if S.2.1 10 e 0 = member then (S.2.1 17 e 0).toInt64 else 0) + sumL j (fun b => (S.2.1 25 b mi).toInt64)) → ∀ (ls : Array Slot), lv_has ls 5 [(4, .int (nI j)), (2, .long ac), (0, .ref (ad (0, 0))), (1, .int member)] → W p l e (headSpec (ws_ yX4_owed cX4_owed 5 (some .long)) ({ frames := 0, cells := 0, slots := 0, locals := 0 } : Room)).room s m ([.ref (ad (0, 0)), .int member] : List Value).toArray below meth c s.heap [] 0 0 (MQ below (xQp (some (.long (mOwed S member mi)))) ([.ref (ad (0, 0)), .int member] : List Value).toArray s 0 0 (fun _ => False)) (F0 m 55 ls []) := by
    intro n55
    induction n55 with
    | zero =>
      intro j ac hn55
      exact absurd hn55 (Nat.not_lt_zero _)
    | succ n55 ih55 =>
      intro j ac hn55 hjn ej ls hl
      refine lv_iload hx hb dX4_owed_55 (lv_at hl 0 rfl) ?_
      refine lv_aload_n hx hb dX4_owed_57 rfl (lv_at hl 2 rfl) ?_
      refine g_X4_221 F hK (mw_0 hR) (v := .int (nI (S.1 4 0))) rfl dX4_owed_58 ?_
      refine xn_ge (tgt := 83) j (S.1 4 0) rfl rfl (by omega) (by omega) hx hb dX4_owed_61 (by decide) (fun c_61 => ?_) (fun c_61 => ?_)
      · refine lv_lload_n hx hb dX4_owed_83 rfl (lv_at hl 1 rfl) ?_
        exact xr_Pl hx hb hr hlocks ((by have hk9 : j = S.1 4 0 := (by omega); subst hk9; exact ej)) dX4_owed_84
      · refine lv_lload_n hx hb dX4_owed_64 rfl (lv_at hl 1 rfl) ?_
        refine lv_aload_n hx hb dX4_owed_65 rfl (lv_at hl 2 rfl) ?_
        refine g_X4_84 F hK (mw_0 hR) (v := .ref (ad (29, 0))) rfl dX4_owed_66 ?_
        refine lv_iload hx hb dX4_owed_69 (lv_at hl 0 rfl) ?_
        refine x_aald hx hb hK (mw_29 hR) rfl rfl (v := .ref (ad (30, j))) (xi_nI (n := 20) (by omega) (by omega)) (rfl) dX4_owed_71 ?_
        refine lv_iload_n hx hb dX4_owed_72 rfl (lv_at hl 3 rfl) ?_
        refine x_iald hx hb hK (mw_30 hR (by omega)) (v := .int (S.2.1 25 j mi)) (xi.up h_member (by omega)) (rfl) dX4_owed_73 ?_
        refine lv_i2l hx hb dX4_owed_74 rfl ?_
        refine lv_ladd hx hb dX4_owed_75 ?_
        refine lv_lstore_n (lv' := [(2, .long (ac + ((S.2.1 25 j mi).toInt64))), (4, .int (nI j)), (0, .ref (ad (0, 0))), (1, .int member)]) hx hb dX4_owed_76 rfl hl (by decide) rfl (fun ls hl => ?_)
        refine lv_iinc (v := nI (j + 1)) (lv' := [(4, .int (nI (j + 1))), (2, .long (ac + ((S.2.1 25 j mi).toInt64))), (0, .ref (ad (0, 0))), (1, .int member)]) hx hb dX4_owed_77 hl (k := 1) rfl (nI_1 _) (by decide) rfl (fun ls hl => ?_)
        refine lv_goto (tgt := 55) hx hb dX4_owed_80 (by decide) ?_
        exact ih55 (j + 1) (ac + ((S.2.1 25 j mi).toInt64)) (by omega) (by omega) (by rw [ej]; simp [sumL, Int64.add_assoc]) ls (lv_sub hl [0, 1, 2, 3] rfl)
  refine lv_aload_n hx hb dX4_owed_0 rfl (lv_at hl 0 rfl) ?_
  refine g_X4_21 F hK (mw_0 hR) (v := .ref (ad (5, 0))) rfl dX4_owed_1 ?_
  refine lv_iload_n hx hb dX4_owed_4 rfl (lv_at hl 1 rfl) ?_
  refine x_lald hx hb hK (mw_5 hR) (v := .long (S.2.2 mi)) (xi.up h_member (by omega)) (rfl) dX4_owed_5 ?_
  refine lv_lneg hx hb dX4_owed_6 ?_
  refine lv_lstore_n (lv' := [(2, .long (-(S.2.2 mi))), (0, .ref (ad (0, 0))), (1, .int member)]) hx hb dX4_owed_7 rfl hl (by decide) rfl (fun ls hl => ?_)
  refine lv_iconst (v := 0) hx hb dX4_owed_8 (by decide) ?_
  refine lv_istore (lv' := [(4, .int 0), (2, .long (-(S.2.2 mi))), (0, .ref (ad (0, 0))), (1, .int member)]) hx hb dX4_owed_9 hl (by decide) rfl (fun ls hl => ?_)
  have L11 : ∀ (n : Nat) (k : Nat) (acc : Int64), S.1 2 0 - k < n → (k ≤ S.1 2 0) → (acc = -S.2.2 mi + sumL k (fun e => if S.2.1 10 e 0 = member then (S.2.1 17 e 0).toInt64 else 0)) → ∀ (ls : Array Slot), lv_has ls 5 [(4, .int (nI k)), (2, .long acc), (0, .ref (ad (0, 0))), (1, .int member)] → W p l e (headSpec (ws_ yX4_owed cX4_owed 5 (some .long)) ({ frames := 0, cells := 0, slots := 0, locals := 0 } : Room)).room s m ([.ref (ad (0, 0)), .int member] : List Value).toArray below meth c s.heap [] 0 0 (MQ below (xQp (some (.long (mOwed S member mi)))) ([.ref (ad (0, 0)), .int member] : List Value).toArray s 0 0 (fun _ => False)) (F0 m 11 ls []) := by
    intro n11
    induction n11 with
    | zero =>
      intro k acc hn11
      exact absurd hn11 (Nat.not_lt_zero _)
    | succ n11 ih11 =>
      intro k acc hn11 hkn ea ls hl
      refine lv_iload hx hb dX4_owed_11 (lv_at hl 0 rfl) ?_
      refine lv_aload_n hx hb dX4_owed_13 rfl (lv_at hl 2 rfl) ?_
      refine g_X4_101 F hK (mw_0 hR) (v := .int (nI (S.1 2 0))) rfl dX4_owed_14 ?_
      refine xn_ge (tgt := 52) k (S.1 2 0) rfl rfl (by omega) (by omega) hx hb dX4_owed_17 (by decide) (fun c_17 => ?_) (fun c_17 => ?_)
      · refine lv_iconst (v := 0) hx hb dX4_owed_52 (by decide) ?_
        refine lv_istore (lv' := [(4, .int 0), (2, .long acc), (0, .ref (ad (0, 0))), (1, .int member)]) hx hb dX4_owed_53 hl (by decide) rfl (fun ls hl => ?_)
        exact L55 (S.1 4 0 + 1) 0 _ (by omega) (by omega) (by have hk9 : k = S.1 2 0 := (by omega); subst hk9; rw [ea]; simp [sumL]) ls (lv_sub hl [0, 1, 2, 3] rfl)
      · refine lv_lload_n hx hb dX4_owed_20 rfl (lv_at hl 1 rfl) ?_
        refine lv_aload_n hx hb dX4_owed_21 rfl (lv_at hl 2 rfl) ?_
        refine g_X4_30 F hK (mw_0 hR) (v := .ref (ad (8, 0))) rfl dX4_owed_22 ?_
        refine lv_iload hx hb dX4_owed_25 (lv_at hl 0 rfl) ?_
        refine x_iald hx hb hK (mw_8 hR) (v := .int (S.2.1 10 k 0)) (xi_nI (n := 150) (by omega) (by omega)) (rfl) dX4_owed_27 ?_
        refine lv_iload_n hx hb dX4_owed_28 rfl (lv_at hl 3 rfl) ?_
        refine lv_icmp_ne (tgt := 43) hx hb dX4_owed_29 (by decide) (fun c_29 => ?_) (fun c_29 => ?_)
        · refine lv_lconst (v := 0) hx hb dX4_owed_43 (by decide) ?_
          refine lv_ladd hx hb dX4_owed_44 ?_
          refine lv_lstore_n (lv' := [(2, .long (acc + 0)), (4, .int (nI k)), (0, .ref (ad (0, 0))), (1, .int member)]) hx hb dX4_owed_45 rfl hl (by decide) rfl (fun ls hl => ?_)
          refine lv_iinc (v := nI (k + 1)) (lv' := [(4, .int (nI (k + 1))), (2, .long (acc + 0)), (0, .ref (ad (0, 0))), (1, .int member)]) hx hb dX4_owed_46 hl (k := 1) rfl (nI_1 _) (by decide) rfl (fun ls hl => ?_)
          refine lv_goto (tgt := 11) hx hb dX4_owed_49 (by decide) ?_
          exact ih11 (k + 1) (acc + 0) (by omega) (by omega) (by rw [ea]; simp [sumL, Int64.add_assoc, c_29]) ls (lv_sub hl [0, 1, 2, 3] rfl)
        · refine lv_aload_n hx hb dX4_owed_32 rfl (lv_at hl 2 rfl) ?_
          refine g_X4_52 F hK (mw_0 hR) (v := .ref (ad (15, 0))) rfl dX4_owed_33 ?_
          refine lv_iload hx hb dX4_owed_36 (lv_at hl 0 rfl) ?_
          refine x_iald hx hb hK (mw_15 hR) (v := .int (S.2.1 17 k 0)) (xi_nI (n := 150) (by omega) (by omega)) (rfl) dX4_owed_38 ?_
          refine lv_i2l hx hb dX4_owed_39 rfl ?_
          refine lv_goto (tgt := 44) hx hb dX4_owed_40 (by decide) ?_
          refine lv_ladd hx hb dX4_owed_44 ?_
          refine lv_lstore_n (lv' := [(2, .long (acc + ((S.2.1 17 k 0).toInt64))), (4, .int (nI k)), (0, .ref (ad (0, 0))), (1, .int member)]) hx hb dX4_owed_45 rfl hl (by decide) rfl (fun ls hl => ?_)
          refine lv_iinc (v := nI (k + 1)) (lv' := [(4, .int (nI (k + 1))), (2, .long (acc + ((S.2.1 17 k 0).toInt64))), (0, .ref (ad (0, 0))), (1, .int member)]) hx hb dX4_owed_46 hl (k := 1) rfl (nI_1 _) (by decide) rfl (fun ls hl => ?_)
          refine lv_goto (tgt := 11) hx hb dX4_owed_49 (by decide) ?_
          exact ih11 (k + 1) (acc + ((S.2.1 17 k 0).toInt64)) (by omega) (by omega) (by rw [ea]; simp [sumL, Int64.add_assoc, c_29]) ls (lv_sub hl [0, 1, 2, 3] rfl)
  exact L11 (S.1 2 0 + 1) 0 _ (by omega) (by omega) (by simp [sumL]) ls (lv_sub hl [0, 1, 2, 3] rfl)

