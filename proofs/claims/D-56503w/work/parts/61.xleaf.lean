/-! contracts (printed by gen/mx1.py) -/
set_option maxRecDepth 100000
set_option maxHeartbeats 4000000 in
theorem xJ14_null {l : Launch} {G : xG} {s0 : State} {b0 : Nat} (g1 : xG1 l G s0 b0) {A : Nat → Prop} (i n : Int32) (h0 : ¬ i < 0) (h1 : i < n) : Met l yJ14_checkIndex (ws_ yJ14_checkIndex cJ14_checkIndex 3 (some .int)) ({ frames := 0, cells := 0, slots := 0, locals := 0 } : Room) (xP s0 A [.int i, .int n, .null] (fun H => True)) (xQp (some (.int i))) 0 0 (fun _ => False) := by
  refine Met.ofW (cc := cJ14_checkIndex) (maxL := 3) (ret := (some .int)) (by decide) rfl ?_
  intro p e s m args below meth c s₁ B hml hv
  obtain ⟨rfl, hWK, hR⟩ := hv
  have g := g1.1
  have hx := B.exec
  have hb := B.bytes
  have hr := B.returns
  have hts := atoms_spec (ws := ws_ yJ14_checkIndex cJ14_checkIndex 3 (some .int)) B.pre
  have hts : ∀ w ∈ lw_all, w.before _ s = true := fun w h => hts w (List.mem_cons_of_mem _ h)
  have hown : s.vm.findClass "jdk/internal/util/Preconditions" = some m.cls := findClass_of_methodNamed B.named
  have hlocks := B.notSynchronized
  have hK := hWK.K g
  have F : CallFix p m c cJ14_checkIndex 3 s _ lw_all "jdk/internal/util/Preconditions" := ⟨hx, hb, hml, hown, hts⟩
  have hS : va_S A s.heap s.heap [] := va_S.rf
  have hl := lv_entry ([.int i, .int n, .null]) (n := 3) (Nat.le_of_ble_eq_true rfl)
  rw [lg_entry_eq]
  generalize (lg_sl ([.int i, .int n, .null]) ++ List.replicate (3 - (lg_sl ([.int i, .int n, .null])).length) Slot.unset).toArray = ls at hl ⊢
  have hl : lv_has ls 3 [(0, .int i), (1, .int n), (2, .null)] := hl
  refine lv_iload_n hx hb dJ14_checkIndex_0 rfl (lv_at hl 0 rfl) ?_
  refine lv_if_lt (tgt := 9) hx hb dJ14_checkIndex_1 (by decide) (fun c_1 => ?_) (fun c_1 => ?_)
  · exact absurd c_1 h0
  · have n_1 := Int32.not_lt.mp c_1
    refine lv_iload_n hx hb dJ14_checkIndex_4 rfl (lv_at hl 0 rfl) ?_
    refine lv_iload_n hx hb dJ14_checkIndex_5 rfl (lv_at hl 1 rfl) ?_
    refine lv_icmp_lt (tgt := 16) hx hb dJ14_checkIndex_6 (by decide) (fun c_6 => ?_) (fun c_6 => ?_)
    · have n_6 := Int32.not_le.mpr c_6
      refine lv_iload_n hx hb dJ14_checkIndex_16 rfl (lv_at hl 0 rfl) ?_
      exact xr_Pi hx hb hr hlocks (rfl) dJ14_checkIndex_17
    · exact absurd h1 c_6

set_option maxHeartbeats 4000000 in
theorem xJ14_ref {l : Launch} {G : xG} {s0 : State} {b0 : Nat} (g1 : xG1 l G s0 b0) {A : Nat → Prop} (i n : Int32) (q : Nat) (h0 : ¬ i < 0) (h1 : i < n) : Met l yJ14_checkIndex (ws_ yJ14_checkIndex cJ14_checkIndex 3 (some .int)) ({ frames := 0, cells := 0, slots := 0, locals := 0 } : Room) (xP s0 A [.int i, .int n, .ref q] (fun H => True)) (xQp (some (.int i))) 0 0 (fun _ => False) := by
  refine Met.ofW (cc := cJ14_checkIndex) (maxL := 3) (ret := (some .int)) (by decide) rfl ?_
  intro p e s m args below meth c s₁ B hml hv
  obtain ⟨rfl, hWK, hR⟩ := hv
  have g := g1.1
  have hx := B.exec
  have hb := B.bytes
  have hr := B.returns
  have hts := atoms_spec (ws := ws_ yJ14_checkIndex cJ14_checkIndex 3 (some .int)) B.pre
  have hts : ∀ w ∈ lw_all, w.before _ s = true := fun w h => hts w (List.mem_cons_of_mem _ h)
  have hown : s.vm.findClass "jdk/internal/util/Preconditions" = some m.cls := findClass_of_methodNamed B.named
  have hlocks := B.notSynchronized
  have hK := hWK.K g
  have F : CallFix p m c cJ14_checkIndex 3 s _ lw_all "jdk/internal/util/Preconditions" := ⟨hx, hb, hml, hown, hts⟩
  have hS : va_S A s.heap s.heap [] := va_S.rf
  have hl := lv_entry ([.int i, .int n, .ref q]) (n := 3) (Nat.le_of_ble_eq_true rfl)
  rw [lg_entry_eq]
  generalize (lg_sl ([.int i, .int n, .ref q]) ++ List.replicate (3 - (lg_sl ([.int i, .int n, .ref q])).length) Slot.unset).toArray = ls at hl ⊢
  have hl : lv_has ls 3 [(0, .int i), (1, .int n), (2, .ref q)] := hl
  refine lv_iload_n hx hb dJ14_checkIndex_0 rfl (lv_at hl 0 rfl) ?_
  refine lv_if_lt (tgt := 9) hx hb dJ14_checkIndex_1 (by decide) (fun c_1 => ?_) (fun c_1 => ?_)
  · exact absurd c_1 h0
  · have n_1 := Int32.not_lt.mp c_1
    refine lv_iload_n hx hb dJ14_checkIndex_4 rfl (lv_at hl 0 rfl) ?_
    refine lv_iload_n hx hb dJ14_checkIndex_5 rfl (lv_at hl 1 rfl) ?_
    refine lv_icmp_lt (tgt := 16) hx hb dJ14_checkIndex_6 (by decide) (fun c_6 => ?_) (fun c_6 => ?_)
    · have n_6 := Int32.not_le.mpr c_6
      refine lv_iload_n hx hb dJ14_checkIndex_16 rfl (lv_at hl 0 rfl) ?_
      exact xr_Pi hx hb hr hlocks (rfl) dJ14_checkIndex_17
    · exact absurd h1 c_6

set_option maxHeartbeats 4000000 in
theorem xJ17_checkIndex {l : Launch} {G : xG} {s0 : State} {b0 : Nat} (g1 : xG1 l G s0 b0) {A : Nat → Prop} (i n : Int32) (h0 : ¬ i < 0) (h1 : i < n) : Met l yJ17_checkIndex (ws_ yJ17_checkIndex cJ17_checkIndex 2 (some .int)) ({ frames := 1, cells := 0, slots := 0, locals := 22 } : Room) (xP s0 A [.int i, .int n] (fun H => True)) (xQp (some (.int i))) 0 0 (fun _ => False) := by
  refine Met.ofW (cc := cJ17_checkIndex) (maxL := 2) (ret := (some .int)) (by decide) rfl ?_
  intro p e s m args below meth c s₁ B hml hv
  obtain ⟨rfl, hWK, hR⟩ := hv
  have g := g1.1
  have hx := B.exec
  have hb := B.bytes
  have hr := B.returns
  have hts := atoms_spec (ws := ws_ yJ17_checkIndex cJ17_checkIndex 2 (some .int)) B.pre
  have hts : ∀ w ∈ lw_all, w.before _ s = true := fun w h => hts w (List.mem_cons_of_mem _ h)
  have hown : s.vm.findClass "java/util/Objects" = some m.cls := findClass_of_methodNamed B.named
  have hlocks := B.notSynchronized
  have hK := hWK.K g
  have F : CallFix p m c cJ17_checkIndex 2 s _ lw_all "java/util/Objects" := ⟨hx, hb, hml, hown, hts⟩
  have hS : va_S A s.heap s.heap [] := va_S.rf
  have hl := lv_entry ([.int i, .int n]) (n := 2) (Nat.le_of_ble_eq_true rfl)
  rw [lg_entry_eq]
  generalize (lg_sl ([.int i, .int n]) ++ List.replicate (2 - (lg_sl ([.int i, .int n])).length) Slot.unset).toArray = ls at hl ⊢
  have hl : lv_has ls 2 [(0, .int i), (1, .int n)] := hl
  refine lv_iload_n hx hb dJ17_checkIndex_0 rfl (lv_at hl 0 rfl) ?_
  refine lv_iload_n hx hb dJ17_checkIndex_1 rfl (lv_at hl 1 rfl) ?_
  refine lv_null hx hb dJ17_checkIndex_2 ?_
  refine xc_P (va_runS (As := [.int i, .int n, .null]) (rest := []) F (xJ14_null g1 (A := A) i n (by first | assumption | omega) (by first | assumption | omega)) (va_cwS 3 hts (lw_S q493 q494 q73 q495) rfl rfl rfl hdS_J14_checkIndex ⟨Nat.le_of_ble_eq_true rfl, Nat.le_of_ble_eq_true rfl⟩) (xpre hWK hS trivial) rfl rfl hl.1 rfl (lv_room (Nat.le_of_ble_eq_true rfl)) dJ17_checkIndex_3 ⟨Nat.le_of_ble_eq_true rfl, Nat.le_of_ble_eq_true rfl⟩) ?_
  exact xr_Pi hx hb hr hlocks (rfl) dJ17_checkIndex_6

set_option maxHeartbeats 4000000 in
theorem xJ2_elementData_20 {l : Launch} {G : xG} {s0 : State} {b0 : Nat} (g1 : xG1 l G s0 b0) {A : Nat → Prop} {S : xS} {ad : Nat × Nat → Nat} {z : xZ} {i : Int32} {j : Nat} (h_i : xi i j (S.1 0 0)) (hn : S.1 0 0 ≤ 6) : Met l yJ2_elementData (ws_ yJ2_elementData cJ2_elementData 2 (some (.object "java/lang/Object"))) ({ frames := 0, cells := 0, slots := 0, locals := 0 } : Room) (xP s0 A [.ref (ad (3, 0)), .int i] (fun H => xRX G A S ad z H)) (xQp (some (.ref (ad (20, j))))) 0 0 (fun _ => False) := by
  refine Met.ofW (cc := cJ2_elementData) (maxL := 2) (ret := (some (.object "java/lang/Object"))) (by decide) rfl ?_
  intro p e s m args below meth c s₁ B hml hv
  obtain ⟨rfl, hWK, hR⟩ := hv
  have g := g1.1
  have hx := B.exec
  have hb := B.bytes
  have hr := B.returns
  have hts := atoms_spec (ws := ws_ yJ2_elementData cJ2_elementData 2 (some (.object "java/lang/Object"))) B.pre
  have hts : ∀ w ∈ lw_all, w.before _ s = true := fun w h => hts w (List.mem_cons_of_mem _ h)
  have hown : s.vm.findClass "java/util/ArrayList" = some m.cls := findClass_of_methodNamed B.named
  have hlocks := B.notSynchronized
  have hK := hWK.K g
  have F : CallFix p m c cJ2_elementData 2 s _ lw_all "java/util/ArrayList" := ⟨hx, hb, hml, hown, hts⟩
  have hS : va_S A s.heap s.heap [] := va_S.rf
  have hl := lv_entry ([.ref (ad (3, 0)), .int i]) (n := 2) (Nat.le_of_ble_eq_true rfl)
  rw [lg_entry_eq]
  generalize (lg_sl ([.ref (ad (3, 0)), .int i]) ++ List.replicate (2 - (lg_sl ([.ref (ad (3, 0)), .int i])).length) Slot.unset).toArray = ls at hl ⊢
  have hl : lv_has ls 2 [(0, .ref (ad (3, 0))), (1, .int i)] := hl
  refine lv_aload_n hx hb dJ2_elementData_0 rfl (lv_at hl 0 rfl) ?_
  refine g_J2_9 F hK (xw_3 hR) (v := .ref (ad (15, 0))) rfl dJ2_elementData_1 ?_
  refine lv_iload_n hx hb dJ2_elementData_4 rfl (lv_at hl 1 rfl) ?_
  refine x_aald hx hb hK (xw_15 hR) rfl rfl (v := .ref (ad (20, j))) (xi.up h_i (by omega)) ((xel_in h_i.lt)) dJ2_elementData_5 ?_
  exact xr_Pa hx hb hr hlocks (by first | exact Or.inl ⟨_, rfl⟩ | exact Or.inr ⟨_, rfl⟩) (by first | exact Or.inl rfl | exact Or.inr ⟨_, rfl⟩) dJ2_elementData_6

set_option maxHeartbeats 4000000 in
theorem xJ2_get_20 {l : Launch} {G : xG} {s0 : State} {b0 : Nat} (g1 : xG1 l G s0 b0) {A : Nat → Prop} {S : xS} {ad : Nat × Nat → Nat} {z : xZ} {i : Int32} {j : Nat} (h_i : xi i j (S.1 0 0)) (hn : S.1 0 0 ≤ 6) : Met l yJ2_get (ws_ yJ2_get cJ2_get 2 (some (.object "java/lang/Object"))) ({ frames := 2, cells := 0, slots := 0, locals := 43 } : Room) (xP s0 A [.ref (ad (3, 0)), .int i] (fun H => xRX G A S ad z H)) (xQp (some (.ref (ad (20, j))))) 0 0 (fun _ => False) := by
  refine Met.ofW (cc := cJ2_get) (maxL := 2) (ret := (some (.object "java/lang/Object"))) (by decide) rfl ?_
  intro p e s m args below meth c s₁ B hml hv
  obtain ⟨rfl, hWK, hR⟩ := hv
  have g := g1.1
  have hx := B.exec
  have hb := B.bytes
  have hr := B.returns
  have hts := atoms_spec (ws := ws_ yJ2_get cJ2_get 2 (some (.object "java/lang/Object"))) B.pre
  have hts : ∀ w ∈ lw_all, w.before _ s = true := fun w h => hts w (List.mem_cons_of_mem _ h)
  have hown : s.vm.findClass "java/util/ArrayList" = some m.cls := findClass_of_methodNamed B.named
  have hlocks := B.notSynchronized
  have hK := hWK.K g
  have F : CallFix p m c cJ2_get 2 s _ lw_all "java/util/ArrayList" := ⟨hx, hb, hml, hown, hts⟩
  have hS : va_S A s.heap s.heap [] := va_S.rf
  have hl := lv_entry ([.ref (ad (3, 0)), .int i]) (n := 2) (Nat.le_of_ble_eq_true rfl)
  rw [lg_entry_eq]
  generalize (lg_sl ([.ref (ad (3, 0)), .int i]) ++ List.replicate (2 - (lg_sl ([.ref (ad (3, 0)), .int i])).length) Slot.unset).toArray = ls at hl ⊢
  have hl : lv_has ls 2 [(0, .ref (ad (3, 0))), (1, .int i)] := hl
  refine lv_iload_n hx hb dJ2_get_0 rfl (lv_at hl 1 rfl) ?_
  refine lv_aload_n hx hb dJ2_get_1 rfl (lv_at hl 0 rfl) ?_
  refine g_J2_48 F hK (xw_3 hR) (v := .int (nI (S.1 0 0))) rfl dJ2_get_2 ?_
  refine xc_P (va_runS (As := [.int i, .int (nI (S.1 0 0))]) (rest := []) F (xJ17_checkIndex g1 (A := A) i (nI (S.1 0 0)) (xi_nn h_i) (xi_ltI h_i (by omega))) (va_cwS 2 hts (lw_S q490 q491 q78 q492) rfl rfl rfl hdS_J17_checkIndex ⟨Nat.le_of_ble_eq_true rfl, Nat.le_of_ble_eq_true rfl⟩) (xpre hWK hS trivial) rfl rfl hl.1 rfl (lv_room (Nat.le_of_ble_eq_true rfl)) dJ2_get_5 ⟨Nat.le_of_ble_eq_true rfl, Nat.le_of_ble_eq_true rfl⟩) ?_
  refine lv_pop hx hb dJ2_get_8 rfl ?_
  refine lv_aload_n hx hb dJ2_get_9 rfl (lv_at hl 0 rfl) ?_
  refine lv_iload_n hx hb dJ2_get_10 rfl (lv_at hl 1 rfl) ?_
  refine xc_P (va_runV (As := [.int i]) (rest := []) F (xJ2_elementData_20 g1 (A := A) (S := S) (ad := ad) (z := z) (xi.up h_i (by omega)) (by first | assumption | omega)) (cwV 1 hts (lw_V q496 q497 q498 q60 q499) rfl rfl rfl hdV_J2_elementData ⟨Nat.le_of_ble_eq_true rfl, Nat.le_of_ble_eq_true rfl⟩) (xpreV (xrecv hK (xw_3 hR) rfl) hWK hS hR) rfl rfl hl.1 rfl (lv_room (Nat.le_of_ble_eq_true rfl)) dJ2_get_11 ⟨Nat.le_of_ble_eq_true rfl, Nat.le_of_ble_eq_true rfl⟩) ?_
  exact xr_Pa hx hb hr hlocks (by first | exact Or.inl ⟨_, rfl⟩ | exact Or.inr ⟨_, rfl⟩) (by first | exact Or.inl rfl | exact Or.inr ⟨_, rfl⟩) dJ2_get_14

set_option maxHeartbeats 4000000 in
theorem xJ2_size_20 {l : Launch} {G : xG} {s0 : State} {b0 : Nat} (g1 : xG1 l G s0 b0) {A : Nat → Prop} {S : xS} {ad : Nat × Nat → Nat} {z : xZ} : Met l yJ2_size (ws_ yJ2_size cJ2_size 1 (some .int)) ({ frames := 0, cells := 0, slots := 0, locals := 0 } : Room) (xP s0 A [.ref (ad (3, 0))] (fun H => xRX G A S ad z H)) (xQp (some (.int (nI (S.1 0 0))))) 0 0 (fun _ => False) := by
  refine Met.ofW (cc := cJ2_size) (maxL := 1) (ret := (some .int)) (by decide) rfl ?_
  intro p e s m args below meth c s₁ B hml hv
  obtain ⟨rfl, hWK, hR⟩ := hv
  have g := g1.1
  have hx := B.exec
  have hb := B.bytes
  have hr := B.returns
  have hts := atoms_spec (ws := ws_ yJ2_size cJ2_size 1 (some .int)) B.pre
  have hts : ∀ w ∈ lw_all, w.before _ s = true := fun w h => hts w (List.mem_cons_of_mem _ h)
  have hown : s.vm.findClass "java/util/ArrayList" = some m.cls := findClass_of_methodNamed B.named
  have hlocks := B.notSynchronized
  have hK := hWK.K g
  have F : CallFix p m c cJ2_size 1 s _ lw_all "java/util/ArrayList" := ⟨hx, hb, hml, hown, hts⟩
  have hS : va_S A s.heap s.heap [] := va_S.rf
  have hl := lv_entry ([.ref (ad (3, 0))]) (n := 1) (Nat.le_of_ble_eq_true rfl)
  rw [lg_entry_eq]
  generalize (lg_sl ([.ref (ad (3, 0))]) ++ List.replicate (1 - (lg_sl ([.ref (ad (3, 0))])).length) Slot.unset).toArray = ls at hl ⊢
  have hl : lv_has ls 1 [(0, .ref (ad (3, 0)))] := hl
  refine lv_aload_n hx hb dJ2_size_0 rfl (lv_at hl 0 rfl) ?_
  refine g_J2_48 F hK (xw_3 hR) (v := .int (nI (S.1 0 0))) rfl dJ2_size_1 ?_
  exact xr_Pi hx hb hr hlocks (rfl) dJ2_size_4

set_option maxHeartbeats 4000000 in
theorem xJ2_elementData_21 {l : Launch} {G : xG} {s0 : State} {b0 : Nat} (g1 : xG1 l G s0 b0) {A : Nat → Prop} {S : xS} {ad : Nat × Nat → Nat} {z : xZ} {i : Int32} {j : Nat} (h_i : xi i j (S.1 1 0)) (hn : S.1 1 0 ≤ 10) : Met l yJ2_elementData (ws_ yJ2_elementData cJ2_elementData 2 (some (.object "java/lang/Object"))) ({ frames := 0, cells := 0, slots := 0, locals := 0 } : Room) (xP s0 A [.ref (ad (4, 0)), .int i] (fun H => xRX G A S ad z H)) (xQp (some (.ref (ad (21, j))))) 0 0 (fun _ => False) := by
  refine Met.ofW (cc := cJ2_elementData) (maxL := 2) (ret := (some (.object "java/lang/Object"))) (by decide) rfl ?_
  intro p e s m args below meth c s₁ B hml hv
  obtain ⟨rfl, hWK, hR⟩ := hv
  have g := g1.1
  have hx := B.exec
  have hb := B.bytes
  have hr := B.returns
  have hts := atoms_spec (ws := ws_ yJ2_elementData cJ2_elementData 2 (some (.object "java/lang/Object"))) B.pre
  have hts : ∀ w ∈ lw_all, w.before _ s = true := fun w h => hts w (List.mem_cons_of_mem _ h)
  have hown : s.vm.findClass "java/util/ArrayList" = some m.cls := findClass_of_methodNamed B.named
  have hlocks := B.notSynchronized
  have hK := hWK.K g
  have F : CallFix p m c cJ2_elementData 2 s _ lw_all "java/util/ArrayList" := ⟨hx, hb, hml, hown, hts⟩
  have hS : va_S A s.heap s.heap [] := va_S.rf
  have hl := lv_entry ([.ref (ad (4, 0)), .int i]) (n := 2) (Nat.le_of_ble_eq_true rfl)
  rw [lg_entry_eq]
  generalize (lg_sl ([.ref (ad (4, 0)), .int i]) ++ List.replicate (2 - (lg_sl ([.ref (ad (4, 0)), .int i])).length) Slot.unset).toArray = ls at hl ⊢
  have hl : lv_has ls 2 [(0, .ref (ad (4, 0))), (1, .int i)] := hl
  refine lv_aload_n hx hb dJ2_elementData_0 rfl (lv_at hl 0 rfl) ?_
  refine g_J2_9 F hK (xw_4 hR) (v := .ref (ad (16, 0))) rfl dJ2_elementData_1 ?_
  refine lv_iload_n hx hb dJ2_elementData_4 rfl (lv_at hl 1 rfl) ?_
  refine x_aald hx hb hK (xw_16 hR) rfl rfl (v := .ref (ad (21, j))) (xi.up h_i (by omega)) ((xel_in h_i.lt)) dJ2_elementData_5 ?_
  exact xr_Pa hx hb hr hlocks (by first | exact Or.inl ⟨_, rfl⟩ | exact Or.inr ⟨_, rfl⟩) (by first | exact Or.inl rfl | exact Or.inr ⟨_, rfl⟩) dJ2_elementData_6

set_option maxHeartbeats 4000000 in
theorem xJ2_get_21 {l : Launch} {G : xG} {s0 : State} {b0 : Nat} (g1 : xG1 l G s0 b0) {A : Nat → Prop} {S : xS} {ad : Nat × Nat → Nat} {z : xZ} {i : Int32} {j : Nat} (h_i : xi i j (S.1 1 0)) (hn : S.1 1 0 ≤ 10) : Met l yJ2_get (ws_ yJ2_get cJ2_get 2 (some (.object "java/lang/Object"))) ({ frames := 2, cells := 0, slots := 0, locals := 43 } : Room) (xP s0 A [.ref (ad (4, 0)), .int i] (fun H => xRX G A S ad z H)) (xQp (some (.ref (ad (21, j))))) 0 0 (fun _ => False) := by
  refine Met.ofW (cc := cJ2_get) (maxL := 2) (ret := (some (.object "java/lang/Object"))) (by decide) rfl ?_
  intro p e s m args below meth c s₁ B hml hv
  obtain ⟨rfl, hWK, hR⟩ := hv
  have g := g1.1
  have hx := B.exec
  have hb := B.bytes
  have hr := B.returns
  have hts := atoms_spec (ws := ws_ yJ2_get cJ2_get 2 (some (.object "java/lang/Object"))) B.pre
  have hts : ∀ w ∈ lw_all, w.before _ s = true := fun w h => hts w (List.mem_cons_of_mem _ h)
  have hown : s.vm.findClass "java/util/ArrayList" = some m.cls := findClass_of_methodNamed B.named
  have hlocks := B.notSynchronized
  have hK := hWK.K g
  have F : CallFix p m c cJ2_get 2 s _ lw_all "java/util/ArrayList" := ⟨hx, hb, hml, hown, hts⟩
  have hS : va_S A s.heap s.heap [] := va_S.rf
  have hl := lv_entry ([.ref (ad (4, 0)), .int i]) (n := 2) (Nat.le_of_ble_eq_true rfl)
  rw [lg_entry_eq]
  generalize (lg_sl ([.ref (ad (4, 0)), .int i]) ++ List.replicate (2 - (lg_sl ([.ref (ad (4, 0)), .int i])).length) Slot.unset).toArray = ls at hl ⊢
  have hl : lv_has ls 2 [(0, .ref (ad (4, 0))), (1, .int i)] := hl
  refine lv_iload_n hx hb dJ2_get_0 rfl (lv_at hl 1 rfl) ?_
  refine lv_aload_n hx hb dJ2_get_1 rfl (lv_at hl 0 rfl) ?_
  refine g_J2_48 F hK (xw_4 hR) (v := .int (nI (S.1 1 0))) rfl dJ2_get_2 ?_
  refine xc_P (va_runS (As := [.int i, .int (nI (S.1 1 0))]) (rest := []) F (xJ17_checkIndex g1 (A := A) i (nI (S.1 1 0)) (xi_nn h_i) (xi_ltI h_i (by omega))) (va_cwS 2 hts (lw_S q490 q491 q78 q492) rfl rfl rfl hdS_J17_checkIndex ⟨Nat.le_of_ble_eq_true rfl, Nat.le_of_ble_eq_true rfl⟩) (xpre hWK hS trivial) rfl rfl hl.1 rfl (lv_room (Nat.le_of_ble_eq_true rfl)) dJ2_get_5 ⟨Nat.le_of_ble_eq_true rfl, Nat.le_of_ble_eq_true rfl⟩) ?_
  refine lv_pop hx hb dJ2_get_8 rfl ?_
  refine lv_aload_n hx hb dJ2_get_9 rfl (lv_at hl 0 rfl) ?_
  refine lv_iload_n hx hb dJ2_get_10 rfl (lv_at hl 1 rfl) ?_
  refine xc_P (va_runV (As := [.int i]) (rest := []) F (xJ2_elementData_21 g1 (A := A) (S := S) (ad := ad) (z := z) (xi.up h_i (by omega)) (by first | assumption | omega)) (cwV 1 hts (lw_V q496 q497 q498 q60 q499) rfl rfl rfl hdV_J2_elementData ⟨Nat.le_of_ble_eq_true rfl, Nat.le_of_ble_eq_true rfl⟩) (xpreV (xrecv hK (xw_4 hR) rfl) hWK hS hR) rfl rfl hl.1 rfl (lv_room (Nat.le_of_ble_eq_true rfl)) dJ2_get_11 ⟨Nat.le_of_ble_eq_true rfl, Nat.le_of_ble_eq_true rfl⟩) ?_
  exact xr_Pa hx hb hr hlocks (by first | exact Or.inl ⟨_, rfl⟩ | exact Or.inr ⟨_, rfl⟩) (by first | exact Or.inl rfl | exact Or.inr ⟨_, rfl⟩) dJ2_get_14

set_option maxHeartbeats 4000000 in
theorem xJ2_size_21 {l : Launch} {G : xG} {s0 : State} {b0 : Nat} (g1 : xG1 l G s0 b0) {A : Nat → Prop} {S : xS} {ad : Nat × Nat → Nat} {z : xZ} : Met l yJ2_size (ws_ yJ2_size cJ2_size 1 (some .int)) ({ frames := 0, cells := 0, slots := 0, locals := 0 } : Room) (xP s0 A [.ref (ad (4, 0))] (fun H => xRX G A S ad z H)) (xQp (some (.int (nI (S.1 1 0))))) 0 0 (fun _ => False) := by
  refine Met.ofW (cc := cJ2_size) (maxL := 1) (ret := (some .int)) (by decide) rfl ?_
  intro p e s m args below meth c s₁ B hml hv
  obtain ⟨rfl, hWK, hR⟩ := hv
  have g := g1.1
  have hx := B.exec
  have hb := B.bytes
  have hr := B.returns
  have hts := atoms_spec (ws := ws_ yJ2_size cJ2_size 1 (some .int)) B.pre
  have hts : ∀ w ∈ lw_all, w.before _ s = true := fun w h => hts w (List.mem_cons_of_mem _ h)
  have hown : s.vm.findClass "java/util/ArrayList" = some m.cls := findClass_of_methodNamed B.named
  have hlocks := B.notSynchronized
  have hK := hWK.K g
  have F : CallFix p m c cJ2_size 1 s _ lw_all "java/util/ArrayList" := ⟨hx, hb, hml, hown, hts⟩
  have hS : va_S A s.heap s.heap [] := va_S.rf
  have hl := lv_entry ([.ref (ad (4, 0))]) (n := 1) (Nat.le_of_ble_eq_true rfl)
  rw [lg_entry_eq]
  generalize (lg_sl ([.ref (ad (4, 0))]) ++ List.replicate (1 - (lg_sl ([.ref (ad (4, 0))])).length) Slot.unset).toArray = ls at hl ⊢
  have hl : lv_has ls 1 [(0, .ref (ad (4, 0)))] := hl
  refine lv_aload_n hx hb dJ2_size_0 rfl (lv_at hl 0 rfl) ?_
  refine g_J2_48 F hK (xw_4 hR) (v := .int (nI (S.1 1 0))) rfl dJ2_size_1 ?_
  exact xr_Pi hx hb hr hlocks (rfl) dJ2_size_4

set_option maxHeartbeats 4000000 in
theorem xJ2_elementData_23 {l : Launch} {G : xG} {s0 : State} {b0 : Nat} (g1 : xG1 l G s0 b0) {A : Nat → Prop} {S : xS} {ad : Nat × Nat → Nat} {z : xZ} {i : Int32} {j : Nat} (h_i : xi i j (S.1 2 0)) (hn : S.1 2 0 ≤ 150) : Met l yJ2_elementData (ws_ yJ2_elementData cJ2_elementData 2 (some (.object "java/lang/Object"))) ({ frames := 0, cells := 0, slots := 0, locals := 0 } : Room) (xP s0 A [.ref (ad (5, 0)), .int i] (fun H => xRX G A S ad z H)) (xQp (some (.ref (ad (23, j))))) 0 0 (fun _ => False) := by
  refine Met.ofW (cc := cJ2_elementData) (maxL := 2) (ret := (some (.object "java/lang/Object"))) (by decide) rfl ?_
  intro p e s m args below meth c s₁ B hml hv
  obtain ⟨rfl, hWK, hR⟩ := hv
  have g := g1.1
  have hx := B.exec
  have hb := B.bytes
  have hr := B.returns
  have hts := atoms_spec (ws := ws_ yJ2_elementData cJ2_elementData 2 (some (.object "java/lang/Object"))) B.pre
  have hts : ∀ w ∈ lw_all, w.before _ s = true := fun w h => hts w (List.mem_cons_of_mem _ h)
  have hown : s.vm.findClass "java/util/ArrayList" = some m.cls := findClass_of_methodNamed B.named
  have hlocks := B.notSynchronized
  have hK := hWK.K g
  have F : CallFix p m c cJ2_elementData 2 s _ lw_all "java/util/ArrayList" := ⟨hx, hb, hml, hown, hts⟩
  have hS : va_S A s.heap s.heap [] := va_S.rf
  have hl := lv_entry ([.ref (ad (5, 0)), .int i]) (n := 2) (Nat.le_of_ble_eq_true rfl)
  rw [lg_entry_eq]
  generalize (lg_sl ([.ref (ad (5, 0)), .int i]) ++ List.replicate (2 - (lg_sl ([.ref (ad (5, 0)), .int i])).length) Slot.unset).toArray = ls at hl ⊢
  have hl : lv_has ls 2 [(0, .ref (ad (5, 0))), (1, .int i)] := hl
  refine lv_aload_n hx hb dJ2_elementData_0 rfl (lv_at hl 0 rfl) ?_
  refine g_J2_9 F hK (xw_5 hR) (v := .ref (ad (17, 0))) rfl dJ2_elementData_1 ?_
  refine lv_iload_n hx hb dJ2_elementData_4 rfl (lv_at hl 1 rfl) ?_
  refine x_aald hx hb hK (xw_17 hR) rfl rfl (v := .ref (ad (23, j))) (xi.up h_i (by omega)) ((xel_in h_i.lt)) dJ2_elementData_5 ?_
  exact xr_Pa hx hb hr hlocks (by first | exact Or.inl ⟨_, rfl⟩ | exact Or.inr ⟨_, rfl⟩) (by first | exact Or.inl rfl | exact Or.inr ⟨_, rfl⟩) dJ2_elementData_6

set_option maxHeartbeats 4000000 in
theorem xJ2_get_23 {l : Launch} {G : xG} {s0 : State} {b0 : Nat} (g1 : xG1 l G s0 b0) {A : Nat → Prop} {S : xS} {ad : Nat × Nat → Nat} {z : xZ} {i : Int32} {j : Nat} (h_i : xi i j (S.1 2 0)) (hn : S.1 2 0 ≤ 150) : Met l yJ2_get (ws_ yJ2_get cJ2_get 2 (some (.object "java/lang/Object"))) ({ frames := 2, cells := 0, slots := 0, locals := 43 } : Room) (xP s0 A [.ref (ad (5, 0)), .int i] (fun H => xRX G A S ad z H)) (xQp (some (.ref (ad (23, j))))) 0 0 (fun _ => False) := by
  refine Met.ofW (cc := cJ2_get) (maxL := 2) (ret := (some (.object "java/lang/Object"))) (by decide) rfl ?_
  intro p e s m args below meth c s₁ B hml hv
  obtain ⟨rfl, hWK, hR⟩ := hv
  have g := g1.1
  have hx := B.exec
  have hb := B.bytes
  have hr := B.returns
  have hts := atoms_spec (ws := ws_ yJ2_get cJ2_get 2 (some (.object "java/lang/Object"))) B.pre
  have hts : ∀ w ∈ lw_all, w.before _ s = true := fun w h => hts w (List.mem_cons_of_mem _ h)
  have hown : s.vm.findClass "java/util/ArrayList" = some m.cls := findClass_of_methodNamed B.named
  have hlocks := B.notSynchronized
  have hK := hWK.K g
  have F : CallFix p m c cJ2_get 2 s _ lw_all "java/util/ArrayList" := ⟨hx, hb, hml, hown, hts⟩
  have hS : va_S A s.heap s.heap [] := va_S.rf
  have hl := lv_entry ([.ref (ad (5, 0)), .int i]) (n := 2) (Nat.le_of_ble_eq_true rfl)
  rw [lg_entry_eq]
  generalize (lg_sl ([.ref (ad (5, 0)), .int i]) ++ List.replicate (2 - (lg_sl ([.ref (ad (5, 0)), .int i])).length) Slot.unset).toArray = ls at hl ⊢
  have hl : lv_has ls 2 [(0, .ref (ad (5, 0))), (1, .int i)] := hl
  refine lv_iload_n hx hb dJ2_get_0 rfl (lv_at hl 1 rfl) ?_
  refine lv_aload_n hx hb dJ2_get_1 rfl (lv_at hl 0 rfl) ?_
  refine g_J2_48 F hK (xw_5 hR) (v := .int (nI (S.1 2 0))) rfl dJ2_get_2 ?_
  refine xc_P (va_runS (As := [.int i, .int (nI (S.1 2 0))]) (rest := []) F (xJ17_checkIndex g1 (A := A) i (nI (S.1 2 0)) (xi_nn h_i) (xi_ltI h_i (by omega))) (va_cwS 2 hts (lw_S q490 q491 q78 q492) rfl rfl rfl hdS_J17_checkIndex ⟨Nat.le_of_ble_eq_true rfl, Nat.le_of_ble_eq_true rfl⟩) (xpre hWK hS trivial) rfl rfl hl.1 rfl (lv_room (Nat.le_of_ble_eq_true rfl)) dJ2_get_5 ⟨Nat.le_of_ble_eq_true rfl, Nat.le_of_ble_eq_true rfl⟩) ?_
  refine lv_pop hx hb dJ2_get_8 rfl ?_
  refine lv_aload_n hx hb dJ2_get_9 rfl (lv_at hl 0 rfl) ?_
  refine lv_iload_n hx hb dJ2_get_10 rfl (lv_at hl 1 rfl) ?_
  refine xc_P (va_runV (As := [.int i]) (rest := []) F (xJ2_elementData_23 g1 (A := A) (S := S) (ad := ad) (z := z) (xi.up h_i (by omega)) (by first | assumption | omega)) (cwV 1 hts (lw_V q496 q497 q498 q60 q499) rfl rfl rfl hdV_J2_elementData ⟨Nat.le_of_ble_eq_true rfl, Nat.le_of_ble_eq_true rfl⟩) (xpreV (xrecv hK (xw_5 hR) rfl) hWK hS hR) rfl rfl hl.1 rfl (lv_room (Nat.le_of_ble_eq_true rfl)) dJ2_get_11 ⟨Nat.le_of_ble_eq_true rfl, Nat.le_of_ble_eq_true rfl⟩) ?_
  exact xr_Pa hx hb hr hlocks (by first | exact Or.inl ⟨_, rfl⟩ | exact Or.inr ⟨_, rfl⟩) (by first | exact Or.inl rfl | exact Or.inr ⟨_, rfl⟩) dJ2_get_14

set_option maxHeartbeats 4000000 in
theorem xJ2_size_23 {l : Launch} {G : xG} {s0 : State} {b0 : Nat} (g1 : xG1 l G s0 b0) {A : Nat → Prop} {S : xS} {ad : Nat × Nat → Nat} {z : xZ} : Met l yJ2_size (ws_ yJ2_size cJ2_size 1 (some .int)) ({ frames := 0, cells := 0, slots := 0, locals := 0 } : Room) (xP s0 A [.ref (ad (5, 0))] (fun H => xRX G A S ad z H)) (xQp (some (.int (nI (S.1 2 0))))) 0 0 (fun _ => False) := by
  refine Met.ofW (cc := cJ2_size) (maxL := 1) (ret := (some .int)) (by decide) rfl ?_
  intro p e s m args below meth c s₁ B hml hv
  obtain ⟨rfl, hWK, hR⟩ := hv
  have g := g1.1
  have hx := B.exec
  have hb := B.bytes
  have hr := B.returns
  have hts := atoms_spec (ws := ws_ yJ2_size cJ2_size 1 (some .int)) B.pre
  have hts : ∀ w ∈ lw_all, w.before _ s = true := fun w h => hts w (List.mem_cons_of_mem _ h)
  have hown : s.vm.findClass "java/util/ArrayList" = some m.cls := findClass_of_methodNamed B.named
  have hlocks := B.notSynchronized
  have hK := hWK.K g
  have F : CallFix p m c cJ2_size 1 s _ lw_all "java/util/ArrayList" := ⟨hx, hb, hml, hown, hts⟩
  have hS : va_S A s.heap s.heap [] := va_S.rf
  have hl := lv_entry ([.ref (ad (5, 0))]) (n := 1) (Nat.le_of_ble_eq_true rfl)
  rw [lg_entry_eq]
  generalize (lg_sl ([.ref (ad (5, 0))]) ++ List.replicate (1 - (lg_sl ([.ref (ad (5, 0))])).length) Slot.unset).toArray = ls at hl ⊢
  have hl : lv_has ls 1 [(0, .ref (ad (5, 0)))] := hl
  refine lv_aload_n hx hb dJ2_size_0 rfl (lv_at hl 0 rfl) ?_
  refine g_J2_48 F hK (xw_5 hR) (v := .int (nI (S.1 2 0))) rfl dJ2_size_1 ?_
  exact xr_Pi hx hb hr hlocks (rfl) dJ2_size_4

set_option maxHeartbeats 4000000 in
theorem xJ2_elementData_26 {l : Launch} {G : xG} {s0 : State} {b0 : Nat} (g1 : xG1 l G s0 b0) {A : Nat → Prop} {S : xS} {ad : Nat × Nat → Nat} {z : xZ} {i : Int32} {j : Nat} (h_i : xi i j (S.1 3 0)) (hn : S.1 3 0 ≤ 30) : Met l yJ2_elementData (ws_ yJ2_elementData cJ2_elementData 2 (some (.object "java/lang/Object"))) ({ frames := 0, cells := 0, slots := 0, locals := 0 } : Room) (xP s0 A [.ref (ad (6, 0)), .int i] (fun H => xRX G A S ad z H)) (xQp (some (.ref (ad (26, j))))) 0 0 (fun _ => False) := by
  refine Met.ofW (cc := cJ2_elementData) (maxL := 2) (ret := (some (.object "java/lang/Object"))) (by decide) rfl ?_
  intro p e s m args below meth c s₁ B hml hv
  obtain ⟨rfl, hWK, hR⟩ := hv
  have g := g1.1
  have hx := B.exec
  have hb := B.bytes
  have hr := B.returns
  have hts := atoms_spec (ws := ws_ yJ2_elementData cJ2_elementData 2 (some (.object "java/lang/Object"))) B.pre
  have hts : ∀ w ∈ lw_all, w.before _ s = true := fun w h => hts w (List.mem_cons_of_mem _ h)
  have hown : s.vm.findClass "java/util/ArrayList" = some m.cls := findClass_of_methodNamed B.named
  have hlocks := B.notSynchronized
  have hK := hWK.K g
  have F : CallFix p m c cJ2_elementData 2 s _ lw_all "java/util/ArrayList" := ⟨hx, hb, hml, hown, hts⟩
  have hS : va_S A s.heap s.heap [] := va_S.rf
  have hl := lv_entry ([.ref (ad (6, 0)), .int i]) (n := 2) (Nat.le_of_ble_eq_true rfl)
  rw [lg_entry_eq]
  generalize (lg_sl ([.ref (ad (6, 0)), .int i]) ++ List.replicate (2 - (lg_sl ([.ref (ad (6, 0)), .int i])).length) Slot.unset).toArray = ls at hl ⊢
  have hl : lv_has ls 2 [(0, .ref (ad (6, 0))), (1, .int i)] := hl
  refine lv_aload_n hx hb dJ2_elementData_0 rfl (lv_at hl 0 rfl) ?_
  refine g_J2_9 F hK (xw_6 hR) (v := .ref (ad (18, 0))) rfl dJ2_elementData_1 ?_
  refine lv_iload_n hx hb dJ2_elementData_4 rfl (lv_at hl 1 rfl) ?_
  refine x_aald hx hb hK (xw_18 hR) rfl rfl (v := .ref (ad (26, j))) (xi.up h_i (by omega)) ((xel_in h_i.lt)) dJ2_elementData_5 ?_
  exact xr_Pa hx hb hr hlocks (by first | exact Or.inl ⟨_, rfl⟩ | exact Or.inr ⟨_, rfl⟩) (by first | exact Or.inl rfl | exact Or.inr ⟨_, rfl⟩) dJ2_elementData_6

set_option maxHeartbeats 4000000 in
theorem xJ2_get_26 {l : Launch} {G : xG} {s0 : State} {b0 : Nat} (g1 : xG1 l G s0 b0) {A : Nat → Prop} {S : xS} {ad : Nat × Nat → Nat} {z : xZ} {i : Int32} {j : Nat} (h_i : xi i j (S.1 3 0)) (hn : S.1 3 0 ≤ 30) : Met l yJ2_get (ws_ yJ2_get cJ2_get 2 (some (.object "java/lang/Object"))) ({ frames := 2, cells := 0, slots := 0, locals := 43 } : Room) (xP s0 A [.ref (ad (6, 0)), .int i] (fun H => xRX G A S ad z H)) (xQp (some (.ref (ad (26, j))))) 0 0 (fun _ => False) := by
  refine Met.ofW (cc := cJ2_get) (maxL := 2) (ret := (some (.object "java/lang/Object"))) (by decide) rfl ?_
  intro p e s m args below meth c s₁ B hml hv
  obtain ⟨rfl, hWK, hR⟩ := hv
  have g := g1.1
  have hx := B.exec
  have hb := B.bytes
  have hr := B.returns
  have hts := atoms_spec (ws := ws_ yJ2_get cJ2_get 2 (some (.object "java/lang/Object"))) B.pre
  have hts : ∀ w ∈ lw_all, w.before _ s = true := fun w h => hts w (List.mem_cons_of_mem _ h)
  have hown : s.vm.findClass "java/util/ArrayList" = some m.cls := findClass_of_methodNamed B.named
  have hlocks := B.notSynchronized
  have hK := hWK.K g
  have F : CallFix p m c cJ2_get 2 s _ lw_all "java/util/ArrayList" := ⟨hx, hb, hml, hown, hts⟩
  have hS : va_S A s.heap s.heap [] := va_S.rf
  have hl := lv_entry ([.ref (ad (6, 0)), .int i]) (n := 2) (Nat.le_of_ble_eq_true rfl)
  rw [lg_entry_eq]
  generalize (lg_sl ([.ref (ad (6, 0)), .int i]) ++ List.replicate (2 - (lg_sl ([.ref (ad (6, 0)), .int i])).length) Slot.unset).toArray = ls at hl ⊢
  have hl : lv_has ls 2 [(0, .ref (ad (6, 0))), (1, .int i)] := hl
  refine lv_iload_n hx hb dJ2_get_0 rfl (lv_at hl 1 rfl) ?_
  refine lv_aload_n hx hb dJ2_get_1 rfl (lv_at hl 0 rfl) ?_
  refine g_J2_48 F hK (xw_6 hR) (v := .int (nI (S.1 3 0))) rfl dJ2_get_2 ?_
  refine xc_P (va_runS (As := [.int i, .int (nI (S.1 3 0))]) (rest := []) F (xJ17_checkIndex g1 (A := A) i (nI (S.1 3 0)) (xi_nn h_i) (xi_ltI h_i (by omega))) (va_cwS 2 hts (lw_S q490 q491 q78 q492) rfl rfl rfl hdS_J17_checkIndex ⟨Nat.le_of_ble_eq_true rfl, Nat.le_of_ble_eq_true rfl⟩) (xpre hWK hS trivial) rfl rfl hl.1 rfl (lv_room (Nat.le_of_ble_eq_true rfl)) dJ2_get_5 ⟨Nat.le_of_ble_eq_true rfl, Nat.le_of_ble_eq_true rfl⟩) ?_
  refine lv_pop hx hb dJ2_get_8 rfl ?_
  refine lv_aload_n hx hb dJ2_get_9 rfl (lv_at hl 0 rfl) ?_
  refine lv_iload_n hx hb dJ2_get_10 rfl (lv_at hl 1 rfl) ?_
  refine xc_P (va_runV (As := [.int i]) (rest := []) F (xJ2_elementData_26 g1 (A := A) (S := S) (ad := ad) (z := z) (xi.up h_i (by omega)) (by first | assumption | omega)) (cwV 1 hts (lw_V q496 q497 q498 q60 q499) rfl rfl rfl hdV_J2_elementData ⟨Nat.le_of_ble_eq_true rfl, Nat.le_of_ble_eq_true rfl⟩) (xpreV (xrecv hK (xw_6 hR) rfl) hWK hS hR) rfl rfl hl.1 rfl (lv_room (Nat.le_of_ble_eq_true rfl)) dJ2_get_11 ⟨Nat.le_of_ble_eq_true rfl, Nat.le_of_ble_eq_true rfl⟩) ?_
  exact xr_Pa hx hb hr hlocks (by first | exact Or.inl ⟨_, rfl⟩ | exact Or.inr ⟨_, rfl⟩) (by first | exact Or.inl rfl | exact Or.inr ⟨_, rfl⟩) dJ2_get_14

set_option maxHeartbeats 4000000 in
theorem xJ2_size_26 {l : Launch} {G : xG} {s0 : State} {b0 : Nat} (g1 : xG1 l G s0 b0) {A : Nat → Prop} {S : xS} {ad : Nat × Nat → Nat} {z : xZ} : Met l yJ2_size (ws_ yJ2_size cJ2_size 1 (some .int)) ({ frames := 0, cells := 0, slots := 0, locals := 0 } : Room) (xP s0 A [.ref (ad (6, 0))] (fun H => xRX G A S ad z H)) (xQp (some (.int (nI (S.1 3 0))))) 0 0 (fun _ => False) := by
  refine Met.ofW (cc := cJ2_size) (maxL := 1) (ret := (some .int)) (by decide) rfl ?_
  intro p e s m args below meth c s₁ B hml hv
  obtain ⟨rfl, hWK, hR⟩ := hv
  have g := g1.1
  have hx := B.exec
  have hb := B.bytes
  have hr := B.returns
  have hts := atoms_spec (ws := ws_ yJ2_size cJ2_size 1 (some .int)) B.pre
  have hts : ∀ w ∈ lw_all, w.before _ s = true := fun w h => hts w (List.mem_cons_of_mem _ h)
  have hown : s.vm.findClass "java/util/ArrayList" = some m.cls := findClass_of_methodNamed B.named
  have hlocks := B.notSynchronized
  have hK := hWK.K g
  have F : CallFix p m c cJ2_size 1 s _ lw_all "java/util/ArrayList" := ⟨hx, hb, hml, hown, hts⟩
  have hS : va_S A s.heap s.heap [] := va_S.rf
  have hl := lv_entry ([.ref (ad (6, 0))]) (n := 1) (Nat.le_of_ble_eq_true rfl)
  rw [lg_entry_eq]
  generalize (lg_sl ([.ref (ad (6, 0))]) ++ List.replicate (1 - (lg_sl ([.ref (ad (6, 0))])).length) Slot.unset).toArray = ls at hl ⊢
  have hl : lv_has ls 1 [(0, .ref (ad (6, 0)))] := hl
  refine lv_aload_n hx hb dJ2_size_0 rfl (lv_at hl 0 rfl) ?_
  refine g_J2_48 F hK (xw_6 hR) (v := .int (nI (S.1 3 0))) rfl dJ2_size_1 ?_
  exact xr_Pi hx hb hr hlocks (rfl) dJ2_size_4

set_option maxHeartbeats 4000000 in
theorem xX1_day {l : Launch} {G : xG} {s0 : State} {b0 : Nat} (g1 : xG1 l G s0 b0) {A : Nat → Prop} {S : xS} {ad : Nat × Nat → Nat} {z : xZ} : Met l yX1_day (ws_ yX1_day cX1_day 1 (some .int)) ({ frames := 0, cells := 0, slots := 0, locals := 0 } : Room) (xP s0 A [.ref (ad (0, 0))] (fun H => xRX G A S ad z H)) (xQp (some (.int (S.2.1 7 0 0)))) 0 0 (fun _ => False) := by
  refine Met.ofW (cc := cX1_day) (maxL := 1) (ret := (some .int)) (by decide) rfl ?_
  intro p e s m args below meth c s₁ B hml hv
  obtain ⟨rfl, hWK, hR⟩ := hv
  have g := g1.1
  have hx := B.exec
  have hb := B.bytes
  have hr := B.returns
  have hts := atoms_spec (ws := ws_ yX1_day cX1_day 1 (some .int)) B.pre
  have hts : ∀ w ∈ lw_all, w.before _ s = true := fun w h => hts w (List.mem_cons_of_mem _ h)
  have hown : s.vm.findClass "Lendlathe" = some m.cls := findClass_of_methodNamed B.named
  have hlocks := B.notSynchronized
  have hK := hWK.K g
  have F : CallFix p m c cX1_day 1 s _ lw_all "Lendlathe" := ⟨hx, hb, hml, hown, hts⟩
  have hS : va_S A s.heap s.heap [] := va_S.rf
  have hl := lv_entry ([.ref (ad (0, 0))]) (n := 1) (Nat.le_of_ble_eq_true rfl)
  rw [lg_entry_eq]
  generalize (lg_sl ([.ref (ad (0, 0))]) ++ List.replicate (1 - (lg_sl ([.ref (ad (0, 0))])).length) Slot.unset).toArray = ls at hl ⊢
  have hl : lv_has ls 1 [(0, .ref (ad (0, 0)))] := hl
  refine lv_aload_n hx hb dX1_day_0 rfl (lv_at hl 0 rfl) ?_
  refine g_X1_215 F hK (xw_0 hR) (v := .int (S.2.1 7 0 0)) rfl dX1_day_1 ?_
  exact xr_Pi hx hb hr hlocks (rfl) dX1_day_4

set_option maxHeartbeats 4000000 in
theorem xX1_entries {l : Launch} {G : xG} {s0 : State} {b0 : Nat} (g1 : xG1 l G s0 b0) {A : Nat → Prop} {S : xS} {ad : Nat × Nat → Nat} {z : xZ} : Met l yX1_entries (ws_ yX1_entries cX1_entries 1 (some .int)) ({ frames := 1, cells := 0, slots := 0, locals := 20 } : Room) (xP s0 A [.ref (ad (0, 0))] (fun H => xRX G A S ad z H)) (xQp (some (.int (nI (S.1 2 0))))) 0 0 (fun _ => False) := by
  refine Met.ofW (cc := cX1_entries) (maxL := 1) (ret := (some .int)) (by decide) rfl ?_
  intro p e s m args below meth c s₁ B hml hv
  obtain ⟨rfl, hWK, hR⟩ := hv
  have g := g1.1
  have hx := B.exec
  have hb := B.bytes
  have hr := B.returns
  have hts := atoms_spec (ws := ws_ yX1_entries cX1_entries 1 (some .int)) B.pre
  have hts : ∀ w ∈ lw_all, w.before _ s = true := fun w h => hts w (List.mem_cons_of_mem _ h)
  have hown : s.vm.findClass "Lendlathe" = some m.cls := findClass_of_methodNamed B.named
  have hlocks := B.notSynchronized
  have hK := hWK.K g
  have F : CallFix p m c cX1_entries 1 s _ lw_all "Lendlathe" := ⟨hx, hb, hml, hown, hts⟩
  have hS : va_S A s.heap s.heap [] := va_S.rf
  have hl := lv_entry ([.ref (ad (0, 0))]) (n := 1) (Nat.le_of_ble_eq_true rfl)
  rw [lg_entry_eq]
  generalize (lg_sl ([.ref (ad (0, 0))]) ++ List.replicate (1 - (lg_sl ([.ref (ad (0, 0))])).length) Slot.unset).toArray = ls at hl ⊢
  have hl : lv_has ls 1 [(0, .ref (ad (0, 0)))] := hl
  refine lv_aload_n hx hb dX1_entries_0 rfl (lv_at hl 0 rfl) ?_
  refine g_X1_36 F hK (xw_0 hR) (v := .ref (ad (5, 0))) rfl dX1_entries_1 ?_
  refine xc_P (va_runV (As := []) (rest := []) F (xJ2_size_23 g1 (A := A) (S := S) (ad := ad) (z := z) ) (cwV 0 hts (lw_V q510 q511 q512 q60 q513) rfl rfl rfl hdV_J2_size ⟨Nat.le_of_ble_eq_true rfl, Nat.le_of_ble_eq_true rfl⟩) (xpreV (xrecv hK (xw_5 hR) rfl) hWK hS hR) rfl rfl hl.1 rfl (lv_room (Nat.le_of_ble_eq_true rfl)) dX1_entries_4 ⟨Nat.le_of_ble_eq_true rfl, Nat.le_of_ble_eq_true rfl⟩) ?_
  exact xr_Pi hx hb hr hlocks (rfl) dX1_entries_7

set_option maxHeartbeats 4000000 in
theorem xX1_in {l : Launch} {G : xG} {s0 : State} {b0 : Nat} (g1 : xG1 l G s0 b0) {A : Nat → Prop} (v lo hi : Int32) : Met l yX1_in (ws_ yX1_in cX1_in 3 (some .boolean)) ({ frames := 0, cells := 0, slots := 0, locals := 0 } : Room) (xP s0 A [.int v, .int lo, .int hi] (fun H => True)) (xQp (some (.int (bI (inI v lo hi))))) 0 0 (fun _ => False) := by
  refine Met.ofW (cc := cX1_in) (maxL := 3) (ret := (some .boolean)) (by decide) rfl ?_
  intro p e s m args below meth c s₁ B hml hv
  obtain ⟨rfl, hWK, hR⟩ := hv
  have g := g1.1
  have hx := B.exec
  have hb := B.bytes
  have hr := B.returns
  have hts := atoms_spec (ws := ws_ yX1_in cX1_in 3 (some .boolean)) B.pre
  have hts : ∀ w ∈ lw_all, w.before _ s = true := fun w h => hts w (List.mem_cons_of_mem _ h)
  have hown : s.vm.findClass "Lendlathe" = some m.cls := findClass_of_methodNamed B.named
  have hlocks := B.notSynchronized
  have hK := hWK.K g
  have F : CallFix p m c cX1_in 3 s _ lw_all "Lendlathe" := ⟨hx, hb, hml, hown, hts⟩
  have hS : va_S A s.heap s.heap [] := va_S.rf
  have hl := lv_entry ([.int v, .int lo, .int hi]) (n := 3) (Nat.le_of_ble_eq_true rfl)
  rw [lg_entry_eq]
  generalize (lg_sl ([.int v, .int lo, .int hi]) ++ List.replicate (3 - (lg_sl ([.int v, .int lo, .int hi])).length) Slot.unset).toArray = ls at hl ⊢
  have hl : lv_has ls 3 [(0, .int v), (1, .int lo), (2, .int hi)] := hl
  refine lv_iload_n hx hb dX1_in_0 rfl (lv_at hl 0 rfl) ?_
  refine lv_iload_n hx hb dX1_in_1 rfl (lv_at hl 1 rfl) ?_
  refine lv_icmp_lt (tgt := 14) hx hb dX1_in_2 (by decide) (fun c_2 => ?_) (fun c_2 => ?_)
  · have n_2 := Int32.not_le.mpr c_2
    refine lv_iconst (v := 0) hx hb dX1_in_14 (by decide) ?_
    exact xr_Pz hx hb hr hlocks ((bI_f (by first | rfl | simp [inI, Int32.not_lt, Int32.not_le, c_2, n_2])).symm) dX1_in_15
  · have n_2 := Int32.not_lt.mp c_2
    refine lv_iload_n hx hb dX1_in_5 rfl (lv_at hl 0 rfl) ?_
    refine lv_iload_n hx hb dX1_in_6 rfl (lv_at hl 2 rfl) ?_
    refine lv_icmp_gt (tgt := 14) hx hb dX1_in_7 (by decide) (fun c_7 => ?_) (fun c_7 => ?_)
    · have n_7 := Int32.not_le.mpr c_7
      refine lv_iconst (v := 0) hx hb dX1_in_14 (by decide) ?_
      exact xr_Pz hx hb hr hlocks ((bI_f (by first | rfl | simp [inI, Int32.not_lt, Int32.not_le, c_2, c_7, n_2, n_7])).symm) dX1_in_15
    · have n_7 := Int32.not_lt.mp c_7
      refine lv_iconst (v := 1) hx hb dX1_in_10 (by decide) ?_
      refine lv_goto (tgt := 15) hx hb dX1_in_11 (by decide) ?_
      exact xr_Pz hx hb hr hlocks ((bI_t (by first | rfl | simp [inI, Int32.not_lt, Int32.not_le, c_2, c_7, n_2, n_7])).symm) dX1_in_15

set_option maxHeartbeats 4000000 in
theorem xX1_isKind {l : Launch} {G : xG} {s0 : State} {b0 : Nat} (g1 : xG1 l G s0 b0) {A : Nat → Prop} (v : Int32) : Met l yX1_isKind (ws_ yX1_isKind cX1_isKind 1 (some .boolean)) ({ frames := 1, cells := 0, slots := 0, locals := 22 } : Room) (xP s0 A [.int v] (fun H => True)) (xQp (some (.int (bI (inI v 0 3))))) 0 0 (fun _ => False) := by
  refine Met.ofW (cc := cX1_isKind) (maxL := 1) (ret := (some .boolean)) (by decide) rfl ?_
  intro p e s m args below meth c s₁ B hml hv
  obtain ⟨rfl, hWK, hR⟩ := hv
  have g := g1.1
  have hx := B.exec
  have hb := B.bytes
  have hr := B.returns
  have hts := atoms_spec (ws := ws_ yX1_isKind cX1_isKind 1 (some .boolean)) B.pre
  have hts : ∀ w ∈ lw_all, w.before _ s = true := fun w h => hts w (List.mem_cons_of_mem _ h)
  have hown : s.vm.findClass "Lendlathe" = some m.cls := findClass_of_methodNamed B.named
  have hlocks := B.notSynchronized
  have hK := hWK.K g
  have F : CallFix p m c cX1_isKind 1 s _ lw_all "Lendlathe" := ⟨hx, hb, hml, hown, hts⟩
  have hS : va_S A s.heap s.heap [] := va_S.rf
  have hl := lv_entry ([.int v]) (n := 1) (Nat.le_of_ble_eq_true rfl)
  rw [lg_entry_eq]
  generalize (lg_sl ([.int v]) ++ List.replicate (1 - (lg_sl ([.int v])).length) Slot.unset).toArray = ls at hl ⊢
  have hl : lv_has ls 1 [(0, .int v)] := hl
  refine lv_iload_n hx hb dX1_isKind_0 rfl (lv_at hl 0 rfl) ?_
  refine lv_iconst (v := 0) hx hb dX1_isKind_1 (by decide) ?_
  refine lv_iconst (v := 3) hx hb dX1_isKind_2 (by decide) ?_
  refine xc_P (va_runS (As := [.int v, .int 0, .int 3]) (rest := []) F (xX1_in g1 (A := A) v 0 3) (va_cwS 3 hts (lw_S q758 q759 q56 q760) rfl rfl rfl hdS_X1_in ⟨Nat.le_of_ble_eq_true rfl, Nat.le_of_ble_eq_true rfl⟩) (xpre hWK hS trivial) rfl rfl hl.1 rfl (lv_room (Nat.le_of_ble_eq_true rfl)) dX1_isKind_3 ⟨Nat.le_of_ble_eq_true rfl, Nat.le_of_ble_eq_true rfl⟩) ?_
  exact xr_Pz hx hb hr hlocks (rfl) dX1_isKind_6

set_option maxHeartbeats 4000000 in
theorem xX1_isMaterial {l : Launch} {G : xG} {s0 : State} {b0 : Nat} (g1 : xG1 l G s0 b0) {A : Nat → Prop} (v : Int32) : Met l yX1_isMaterial (ws_ yX1_isMaterial cX1_isMaterial 1 (some .boolean)) ({ frames := 1, cells := 0, slots := 0, locals := 22 } : Room) (xP s0 A [.int v] (fun H => True)) (xQp (some (.int (bI (inI v 0 2))))) 0 0 (fun _ => False) := by
  refine Met.ofW (cc := cX1_isMaterial) (maxL := 1) (ret := (some .boolean)) (by decide) rfl ?_
  intro p e s m args below meth c s₁ B hml hv
  obtain ⟨rfl, hWK, hR⟩ := hv
  have g := g1.1
  have hx := B.exec
  have hb := B.bytes
  have hr := B.returns
  have hts := atoms_spec (ws := ws_ yX1_isMaterial cX1_isMaterial 1 (some .boolean)) B.pre
  have hts : ∀ w ∈ lw_all, w.before _ s = true := fun w h => hts w (List.mem_cons_of_mem _ h)
  have hown : s.vm.findClass "Lendlathe" = some m.cls := findClass_of_methodNamed B.named
  have hlocks := B.notSynchronized
  have hK := hWK.K g
  have F : CallFix p m c cX1_isMaterial 1 s _ lw_all "Lendlathe" := ⟨hx, hb, hml, hown, hts⟩
  have hS : va_S A s.heap s.heap [] := va_S.rf
  have hl := lv_entry ([.int v]) (n := 1) (Nat.le_of_ble_eq_true rfl)
  rw [lg_entry_eq]
  generalize (lg_sl ([.int v]) ++ List.replicate (1 - (lg_sl ([.int v])).length) Slot.unset).toArray = ls at hl ⊢
  have hl : lv_has ls 1 [(0, .int v)] := hl
  refine lv_iload_n hx hb dX1_isMaterial_0 rfl (lv_at hl 0 rfl) ?_
  refine lv_iconst (v := 0) hx hb dX1_isMaterial_1 (by decide) ?_
  refine lv_iconst (v := 2) hx hb dX1_isMaterial_2 (by decide) ?_
  refine xc_P (va_runS (As := [.int v, .int 0, .int 2]) (rest := []) F (xX1_in g1 (A := A) v 0 2) (va_cwS 3 hts (lw_S q758 q759 q56 q760) rfl rfl rfl hdS_X1_in ⟨Nat.le_of_ble_eq_true rfl, Nat.le_of_ble_eq_true rfl⟩) (xpre hWK hS trivial) rfl rfl hl.1 rfl (lv_room (Nat.le_of_ble_eq_true rfl)) dX1_isMaterial_3 ⟨Nat.le_of_ble_eq_true rfl, Nat.le_of_ble_eq_true rfl⟩) ?_
  exact xr_Pz hx hb hr hlocks (rfl) dX1_isMaterial_6

set_option maxHeartbeats 4000000 in
theorem xX1_isWork {l : Launch} {G : xG} {s0 : State} {b0 : Nat} (g1 : xG1 l G s0 b0) {A : Nat → Prop} (v : Int32) : Met l yX1_isWork (ws_ yX1_isWork cX1_isWork 1 (some .boolean)) ({ frames := 1, cells := 0, slots := 0, locals := 22 } : Room) (xP s0 A [.int v] (fun H => True)) (xQp (some (.int (bI (inI v 97 99))))) 0 0 (fun _ => False) := by
  refine Met.ofW (cc := cX1_isWork) (maxL := 1) (ret := (some .boolean)) (by decide) rfl ?_
  intro p e s m args below meth c s₁ B hml hv
  obtain ⟨rfl, hWK, hR⟩ := hv
  have g := g1.1
  have hx := B.exec
  have hb := B.bytes
  have hr := B.returns
  have hts := atoms_spec (ws := ws_ yX1_isWork cX1_isWork 1 (some .boolean)) B.pre
  have hts : ∀ w ∈ lw_all, w.before _ s = true := fun w h => hts w (List.mem_cons_of_mem _ h)
  have hown : s.vm.findClass "Lendlathe" = some m.cls := findClass_of_methodNamed B.named
  have hlocks := B.notSynchronized
  have hK := hWK.K g
  have F : CallFix p m c cX1_isWork 1 s _ lw_all "Lendlathe" := ⟨hx, hb, hml, hown, hts⟩
  have hS : va_S A s.heap s.heap [] := va_S.rf
  have hl := lv_entry ([.int v]) (n := 1) (Nat.le_of_ble_eq_true rfl)
  rw [lg_entry_eq]
  generalize (lg_sl ([.int v]) ++ List.replicate (1 - (lg_sl ([.int v])).length) Slot.unset).toArray = ls at hl ⊢
  have hl : lv_has ls 1 [(0, .int v)] := hl
  refine lv_iload_n hx hb dX1_isWork_0 rfl (lv_at hl 0 rfl) ?_
  refine lv_bipush (v := 97) hx hb dX1_isWork_1 (by decide) ?_
  refine lv_bipush (v := 99) hx hb dX1_isWork_3 (by decide) ?_
  refine xc_P (va_runS (As := [.int v, .int 97, .int 99]) (rest := []) F (xX1_in g1 (A := A) v 97 99) (va_cwS 3 hts (lw_S q758 q759 q56 q760) rfl rfl rfl hdS_X1_in ⟨Nat.le_of_ble_eq_true rfl, Nat.le_of_ble_eq_true rfl⟩) (xpre hWK hS trivial) rfl rfl hl.1 rfl (lv_room (Nat.le_of_ble_eq_true rfl)) dX1_isWork_5 ⟨Nat.le_of_ble_eq_true rfl, Nat.le_of_ble_eq_true rfl⟩) ?_
  exact xr_Pz hx hb hr hlocks (rfl) dX1_isWork_8

set_option maxHeartbeats 4000000 in
theorem xX1_isMember {l : Launch} {G : xG} {s0 : State} {b0 : Nat} (g1 : xG1 l G s0 b0) {A : Nat → Prop} {S : xS} {ad : Nat × Nat → Nat} {z : xZ} (v : Int32) : Met l yX1_isMember (ws_ yX1_isMember cX1_isMember 2 (some .boolean)) ({ frames := 1, cells := 0, slots := 0, locals := 22 } : Room) (xP s0 A [.ref (ad (0, 0)), .int v] (fun H => xRX G A S ad z H)) (xQp (some (.int (bI (inI v 0 (nI (S.1 1 0) - 1)))))) 0 0 (fun _ => False) := by
  refine Met.ofW (cc := cX1_isMember) (maxL := 2) (ret := (some .boolean)) (by decide) rfl ?_
  intro p e s m args below meth c s₁ B hml hv
  obtain ⟨rfl, hWK, hR⟩ := hv
  have g := g1.1
  have hx := B.exec
  have hb := B.bytes
  have hr := B.returns
  have hts := atoms_spec (ws := ws_ yX1_isMember cX1_isMember 2 (some .boolean)) B.pre
  have hts : ∀ w ∈ lw_all, w.before _ s = true := fun w h => hts w (List.mem_cons_of_mem _ h)
  have hown : s.vm.findClass "Lendlathe" = some m.cls := findClass_of_methodNamed B.named
  have hlocks := B.notSynchronized
  have hK := hWK.K g
  have F : CallFix p m c cX1_isMember 2 s _ lw_all "Lendlathe" := ⟨hx, hb, hml, hown, hts⟩
  have hS : va_S A s.heap s.heap [] := va_S.rf
  have hl := lv_entry ([.ref (ad (0, 0)), .int v]) (n := 2) (Nat.le_of_ble_eq_true rfl)
  rw [lg_entry_eq]
  generalize (lg_sl ([.ref (ad (0, 0)), .int v]) ++ List.replicate (2 - (lg_sl ([.ref (ad (0, 0)), .int v])).length) Slot.unset).toArray = ls at hl ⊢
  have hl : lv_has ls 2 [(0, .ref (ad (0, 0))), (1, .int v)] := hl
  refine lv_iload_n hx hb dX1_isMember_0 rfl (lv_at hl 1 rfl) ?_
  refine lv_iconst (v := 0) hx hb dX1_isMember_1 (by decide) ?_
  refine lv_aload_n hx hb dX1_isMember_2 rfl (lv_at hl 0 rfl) ?_
  refine g_X1_33 F hK (xw_0 hR) (v := .ref (ad (4, 0))) rfl dX1_isMember_3 ?_
  refine xc_P (va_runV (As := []) (rest := [.int 0, .int v]) F (xJ2_size_21 g1 (A := A) (S := S) (ad := ad) (z := z) ) (cwV 0 hts (lw_V q510 q511 q512 q60 q513) rfl rfl rfl hdV_J2_size ⟨Nat.le_of_ble_eq_true rfl, Nat.le_of_ble_eq_true rfl⟩) (xpreV (xrecv hK (xw_4 hR) rfl) hWK hS hR) rfl rfl hl.1 rfl (lv_room (Nat.le_of_ble_eq_true rfl)) dX1_isMember_6 ⟨Nat.le_of_ble_eq_true rfl, Nat.le_of_ble_eq_true rfl⟩) ?_
  refine lv_iconst (v := 1) hx hb dX1_isMember_9 (by decide) ?_
  refine lv_isub hx hb dX1_isMember_10 ?_
  refine xc_P (va_runS (As := [.int v, .int 0, .int ((nI (S.1 1 0)) - 1)]) (rest := []) F (xX1_in g1 (A := A) v 0 ((nI (S.1 1 0)) - 1)) (va_cwS 3 hts (lw_S q758 q759 q56 q760) rfl rfl rfl hdS_X1_in ⟨Nat.le_of_ble_eq_true rfl, Nat.le_of_ble_eq_true rfl⟩) (xpre hWK hS trivial) rfl rfl hl.1 rfl (lv_room (Nat.le_of_ble_eq_true rfl)) dX1_isMember_11 ⟨Nat.le_of_ble_eq_true rfl, Nat.le_of_ble_eq_true rfl⟩) ?_
  exact xr_Pz hx hb hr hlocks (congrArg bI (by first | rfl | simp [])) dX1_isMember_14

set_option maxHeartbeats 4000000 in
theorem xX1_isMachine {l : Launch} {G : xG} {s0 : State} {b0 : Nat} (g1 : xG1 l G s0 b0) {A : Nat → Prop} {S : xS} {ad : Nat × Nat → Nat} {z : xZ} (v : Int32) : Met l yX1_isMachine (ws_ yX1_isMachine cX1_isMachine 2 (some .boolean)) ({ frames := 1, cells := 0, slots := 0, locals := 22 } : Room) (xP s0 A [.ref (ad (0, 0)), .int v] (fun H => xRX G A S ad z H)) (xQp (some (.int (bI (inI v 0 (nI (S.1 0 0) - 1)))))) 0 0 (fun _ => False) := by
  refine Met.ofW (cc := cX1_isMachine) (maxL := 2) (ret := (some .boolean)) (by decide) rfl ?_
  intro p e s m args below meth c s₁ B hml hv
  obtain ⟨rfl, hWK, hR⟩ := hv
  have g := g1.1
  have hx := B.exec
  have hb := B.bytes
  have hr := B.returns
  have hts := atoms_spec (ws := ws_ yX1_isMachine cX1_isMachine 2 (some .boolean)) B.pre
  have hts : ∀ w ∈ lw_all, w.before _ s = true := fun w h => hts w (List.mem_cons_of_mem _ h)
  have hown : s.vm.findClass "Lendlathe" = some m.cls := findClass_of_methodNamed B.named
  have hlocks := B.notSynchronized
  have hK := hWK.K g
  have F : CallFix p m c cX1_isMachine 2 s _ lw_all "Lendlathe" := ⟨hx, hb, hml, hown, hts⟩
  have hS : va_S A s.heap s.heap [] := va_S.rf
  have hl := lv_entry ([.ref (ad (0, 0)), .int v]) (n := 2) (Nat.le_of_ble_eq_true rfl)
  rw [lg_entry_eq]
  generalize (lg_sl ([.ref (ad (0, 0)), .int v]) ++ List.replicate (2 - (lg_sl ([.ref (ad (0, 0)), .int v])).length) Slot.unset).toArray = ls at hl ⊢
  have hl : lv_has ls 2 [(0, .ref (ad (0, 0))), (1, .int v)] := hl
  refine lv_iload_n hx hb dX1_isMachine_0 rfl (lv_at hl 1 rfl) ?_
  refine lv_iconst (v := 0) hx hb dX1_isMachine_1 (by decide) ?_
  refine lv_aload_n hx hb dX1_isMachine_2 rfl (lv_at hl 0 rfl) ?_
  refine g_X1_29 F hK (xw_0 hR) (v := .ref (ad (3, 0))) rfl dX1_isMachine_3 ?_
  refine xc_P (va_runV (As := []) (rest := [.int 0, .int v]) F (xJ2_size_20 g1 (A := A) (S := S) (ad := ad) (z := z) ) (cwV 0 hts (lw_V q510 q511 q512 q60 q513) rfl rfl rfl hdV_J2_size ⟨Nat.le_of_ble_eq_true rfl, Nat.le_of_ble_eq_true rfl⟩) (xpreV (xrecv hK (xw_3 hR) rfl) hWK hS hR) rfl rfl hl.1 rfl (lv_room (Nat.le_of_ble_eq_true rfl)) dX1_isMachine_6 ⟨Nat.le_of_ble_eq_true rfl, Nat.le_of_ble_eq_true rfl⟩) ?_
  refine lv_iconst (v := 1) hx hb dX1_isMachine_9 (by decide) ?_
  refine lv_isub hx hb dX1_isMachine_10 ?_
  refine xc_P (va_runS (As := [.int v, .int 0, .int ((nI (S.1 0 0)) - 1)]) (rest := []) F (xX1_in g1 (A := A) v 0 ((nI (S.1 0 0)) - 1)) (va_cwS 3 hts (lw_S q758 q759 q56 q760) rfl rfl rfl hdS_X1_in ⟨Nat.le_of_ble_eq_true rfl, Nat.le_of_ble_eq_true rfl⟩) (xpre hWK hS trivial) rfl rfl hl.1 rfl (lv_room (Nat.le_of_ble_eq_true rfl)) dX1_isMachine_11 ⟨Nat.le_of_ble_eq_true rfl, Nat.le_of_ble_eq_true rfl⟩) ?_
  exact xr_Pz hx hb hr hlocks (congrArg bI (by first | rfl | simp [])) dX1_isMachine_14

set_option maxHeartbeats 4000000 in
theorem xX1_isAhead {l : Launch} {G : xG} {s0 : State} {b0 : Nat} (g1 : xG1 l G s0 b0) {A : Nat → Prop} {S : xS} {ad : Nat × Nat → Nat} {z : xZ} (v : Int32) : Met l yX1_isAhead (ws_ yX1_isAhead cX1_isAhead 2 (some .boolean)) ({ frames := 1, cells := 0, slots := 0, locals := 22 } : Room) (xP s0 A [.ref (ad (0, 0)), .int v] (fun H => xRX G A S ad z H)) (xQp (some (.int (bI (inI v (S.2.1 7 0 0) (S.2.1 7 0 0 + 6)))))) 0 0 (fun _ => False) := by
  refine Met.ofW (cc := cX1_isAhead) (maxL := 2) (ret := (some .boolean)) (by decide) rfl ?_
  intro p e s m args below meth c s₁ B hml hv
  obtain ⟨rfl, hWK, hR⟩ := hv
  have g := g1.1
  have hx := B.exec
  have hb := B.bytes
  have hr := B.returns
  have hts := atoms_spec (ws := ws_ yX1_isAhead cX1_isAhead 2 (some .boolean)) B.pre
  have hts : ∀ w ∈ lw_all, w.before _ s = true := fun w h => hts w (List.mem_cons_of_mem _ h)
  have hown : s.vm.findClass "Lendlathe" = some m.cls := findClass_of_methodNamed B.named
  have hlocks := B.notSynchronized
  have hK := hWK.K g
  have F : CallFix p m c cX1_isAhead 2 s _ lw_all "Lendlathe" := ⟨hx, hb, hml, hown, hts⟩
  have hS : va_S A s.heap s.heap [] := va_S.rf
  have hl := lv_entry ([.ref (ad (0, 0)), .int v]) (n := 2) (Nat.le_of_ble_eq_true rfl)
  rw [lg_entry_eq]
  generalize (lg_sl ([.ref (ad (0, 0)), .int v]) ++ List.replicate (2 - (lg_sl ([.ref (ad (0, 0)), .int v])).length) Slot.unset).toArray = ls at hl ⊢
  have hl : lv_has ls 2 [(0, .ref (ad (0, 0))), (1, .int v)] := hl
  refine lv_iload_n hx hb dX1_isAhead_0 rfl (lv_at hl 1 rfl) ?_
  refine lv_aload_n hx hb dX1_isAhead_1 rfl (lv_at hl 0 rfl) ?_
  refine g_X1_215 F hK (xw_0 hR) (v := .int (S.2.1 7 0 0)) rfl dX1_isAhead_2 ?_
  refine lv_aload_n hx hb dX1_isAhead_5 rfl (lv_at hl 0 rfl) ?_
  refine g_X1_215 F hK (xw_0 hR) (v := .int (S.2.1 7 0 0)) rfl dX1_isAhead_6 ?_
  refine lv_bipush (v := 6) hx hb dX1_isAhead_9 (by decide) ?_
  refine lv_iadd hx hb dX1_isAhead_11 ?_
  refine xc_P (va_runS (As := [.int v, .int (S.2.1 7 0 0), .int ((S.2.1 7 0 0) + 6)]) (rest := []) F (xX1_in g1 (A := A) v (S.2.1 7 0 0) ((S.2.1 7 0 0) + 6)) (va_cwS 3 hts (lw_S q758 q759 q56 q760) rfl rfl rfl hdS_X1_in ⟨Nat.le_of_ble_eq_true rfl, Nat.le_of_ble_eq_true rfl⟩) (xpre hWK hS trivial) rfl rfl hl.1 rfl (lv_room (Nat.le_of_ble_eq_true rfl)) dX1_isAhead_12 ⟨Nat.le_of_ble_eq_true rfl, Nat.le_of_ble_eq_true rfl⟩) ?_
  exact xr_Pz hx hb hr hlocks (congrArg bI (by first | rfl | simp [])) dX1_isAhead_15

set_option maxHeartbeats 4000000 in
theorem xX1_setup {l : Launch} {G : xG} {s0 : State} {b0 : Nat} (g1 : xG1 l G s0 b0) {A : Nat → Prop} {S : xS} {ad : Nat × Nat → Nat} {z : xZ} (one other : Int32) {machine : Int32} {mac : Nat} (h_machine : xi machine mac (S.1 0 0)) (hW : xW S) : Met l yX1_setup (ws_ yX1_setup cX1_setup 4 (some .int)) ({ frames := 3, cells := 0, slots := 0, locals := 64 } : Room) (xP s0 A [.ref (ad (0, 0)), .int machine, .int one, .int other] (fun H => xRX G A S ad z H)) (xQp (some (.int (mSetup S.2.1 mac one other)))) 0 0 (fun _ => False) := by
  refine Met.ofW (cc := cX1_setup) (maxL := 4) (ret := (some .int)) (by decide) rfl ?_
  intro p e s m args below meth c s₁ B hml hv
  obtain ⟨rfl, hWK, hR⟩ := hv
  have g := g1.1
  have hx := B.exec
  have hb := B.bytes
  have hr := B.returns
  have hts := atoms_spec (ws := ws_ yX1_setup cX1_setup 4 (some .int)) B.pre
  have hts : ∀ w ∈ lw_all, w.before _ s = true := fun w h => hts w (List.mem_cons_of_mem _ h)
  have hown : s.vm.findClass "Lendlathe" = some m.cls := findClass_of_methodNamed B.named
  have hlocks := B.notSynchronized
  have hK := hWK.K g
  have F : CallFix p m c cX1_setup 4 s _ lw_all "Lendlathe" := ⟨hx, hb, hml, hown, hts⟩
  have hS : va_S A s.heap s.heap [] := va_S.rf
  have hl := lv_entry ([.ref (ad (0, 0)), .int machine, .int one, .int other]) (n := 4) (Nat.le_of_ble_eq_true rfl)
  rw [lg_entry_eq]
  generalize (lg_sl ([.ref (ad (0, 0)), .int machine, .int one, .int other]) ++ List.replicate (4 - (lg_sl ([.ref (ad (0, 0)), .int machine, .int one, .int other])).length) Slot.unset).toArray = ls at hl ⊢
  have hl : lv_has ls 4 [(0, .ref (ad (0, 0))), (1, .int machine), (2, .int one), (3, .int other)] := hl
  have hn0 := hW.1.1
  have hn1 := hW.1.2.1
  have hn2 := hW.1.2.2.1
  have hn3 := hW.1.2.2.2.1
  have hn4 := hW.1.2.2.2.2
  refine lv_iload_n hx hb dX1_setup_0 rfl (lv_at hl 2 rfl) ?_
  refine lv_iload_n hx hb dX1_setup_1 rfl (lv_at hl 3 rfl) ?_
  refine lv_icmp_ne (tgt := 9) hx hb dX1_setup_2 (by decide) (fun c_2 => ?_) (fun c_2 => ?_)
  · refine lv_aload_n hx hb dX1_setup_9 rfl (lv_at hl 0 rfl) ?_
    refine g_X1_29 F hK (xw_0 hR) (v := .ref (ad (3, 0))) rfl dX1_setup_10 ?_
    refine lv_iload_n hx hb dX1_setup_13 rfl (lv_at hl 1 rfl) ?_
    refine xc_P (va_runV (As := [.int machine]) (rest := []) F (xJ2_get_20 g1 (A := A) (S := S) (ad := ad) (z := z) (xi.up h_machine (by omega)) (by first | assumption | omega)) (cwV 1 hts (lw_V q486 q487 q488 q60 q489) rfl rfl rfl hdV_J2_get ⟨Nat.le_of_ble_eq_true rfl, Nat.le_of_ble_eq_true rfl⟩) (xpreV (xrecv hK (xw_3 hR) rfl) hWK hS hR) rfl rfl hl.1 rfl (lv_room (Nat.le_of_ble_eq_true rfl)) dX1_setup_14 ⟨Nat.le_of_ble_eq_true rfl, Nat.le_of_ble_eq_true rfl⟩) ?_
    refine x_castO F hK rfl (xw_20 hR (xi.up h_machine (by omega)).lt) (hts _ q501) dX1_setup_17 ?_
    refine g_X1_128 F hWK g hK (xw_20 hR (xi.up h_machine (by omega)).lt) (v := .int (S.2.1 1 mac 0)) rfl dX1_setup_20 ?_
    exact xr_Pi hx hb hr hlocks ((by first | rfl | simp [mSetup, c_2])) dX1_setup_23
  · refine lv_iconst (v := 0) hx hb dX1_setup_5 (by decide) ?_
    refine lv_goto (tgt := 23) hx hb dX1_setup_6 (by decide) ?_
    exact xr_Pi hx hb hr hlocks ((by first | rfl | simp [mSetup, c_2])) dX1_setup_23

set_option maxHeartbeats 4000000 in
theorem xX7_end {l : Launch} {G : xG} {s0 : State} {b0 : Nat} (g1 : xG1 l G s0 b0) {A : Nat → Prop} {S : xS} {ad : Nat × Nat → Nat} {z : xZ} (en : Nat) (he : en < S.1 2 0) : Met l yX7_end (ws_ yX7_end cX7_end 1 (some .int)) ({ frames := 0, cells := 0, slots := 0, locals := 0 } : Room) (xP s0 A [.ref (ad (23, en))] (fun H => xRX G A S ad z H)) (xQp (some (.int (mEnd S.2.1 en)))) 0 0 (fun _ => False) := by
  refine Met.ofW (cc := cX7_end) (maxL := 1) (ret := (some .int)) (by decide) rfl ?_
  intro p e s m args below meth c s₁ B hml hv
  obtain ⟨rfl, hWK, hR⟩ := hv
  have g := g1.1
  have hx := B.exec
  have hb := B.bytes
  have hr := B.returns
  have hts := atoms_spec (ws := ws_ yX7_end cX7_end 1 (some .int)) B.pre
  have hts : ∀ w ∈ lw_all, w.before _ s = true := fun w h => hts w (List.mem_cons_of_mem _ h)
  have hown : s.vm.findClass "Lendlathe$Stay" = some m.cls := findClass_of_methodNamed B.named
  have hlocks := B.notSynchronized
  have hK := hWK.K g
  have F : CallFix p m c cX7_end 1 s _ lw_all "Lendlathe$Stay" := ⟨hx, hb, hml, hown, hts⟩
  have hS : va_S A s.heap s.heap [] := va_S.rf
  have hl := lv_entry ([.ref (ad (23, en))]) (n := 1) (Nat.le_of_ble_eq_true rfl)
  rw [lg_entry_eq]
  generalize (lg_sl ([.ref (ad (23, en))]) ++ List.replicate (1 - (lg_sl ([.ref (ad (23, en))])).length) Slot.unset).toArray = ls at hl ⊢
  have hl : lv_has ls 1 [(0, .ref (ad (23, en)))] := hl
  refine lv_aload_n hx hb dX7_end_0 rfl (lv_at hl 0 rfl) ?_
  refine g_X7_19 F hK (xw_23 hR he) (v := .int (S.2.1 13 en 0)) rfl dX7_end_1 ?_
  refine lv_aload_n hx hb dX7_end_4 rfl (lv_at hl 0 rfl) ?_
  refine g_X7_22 F hK (xw_23 hR he) (v := .int (S.2.1 14 en 0)) rfl dX7_end_5 ?_
  refine lv_iadd hx hb dX7_end_8 ?_
  exact xr_Pi hx hb hr hlocks (rfl) dX7_end_9

set_option maxHeartbeats 4000000 in
theorem xX7_overlaps {l : Launch} {G : xG} {s0 : State} {b0 : Nat} (g1 : xG1 l G s0 b0) {A : Nat → Prop} {S : xS} {ad : Nat × Nat → Nat} {z : xZ} (en : Nat) (a b : Int32) (he : en < S.1 2 0) : Met l yX7_overlaps (ws_ yX7_overlaps cX7_overlaps 3 (some .boolean)) ({ frames := 1, cells := 0, slots := 0, locals := 20 } : Room) (xP s0 A [.ref (ad (23, en)), .int a, .int b] (fun H => xRX G A S ad z H)) (xQp (some (.int (bI (xOv S.2.1 en a b))))) 0 0 (fun _ => False) := by
  refine Met.ofW (cc := cX7_overlaps) (maxL := 3) (ret := (some .boolean)) (by decide) rfl ?_
  intro p e s m args below meth c s₁ B hml hv
  obtain ⟨rfl, hWK, hR⟩ := hv
  have g := g1.1
  have hx := B.exec
  have hb := B.bytes
  have hr := B.returns
  have hts := atoms_spec (ws := ws_ yX7_overlaps cX7_overlaps 3 (some .boolean)) B.pre
  have hts : ∀ w ∈ lw_all, w.before _ s = true := fun w h => hts w (List.mem_cons_of_mem _ h)
  have hown : s.vm.findClass "Lendlathe$Stay" = some m.cls := findClass_of_methodNamed B.named
  have hlocks := B.notSynchronized
  have hK := hWK.K g
  have F : CallFix p m c cX7_overlaps 3 s _ lw_all "Lendlathe$Stay" := ⟨hx, hb, hml, hown, hts⟩
  have hS : va_S A s.heap s.heap [] := va_S.rf
  have hl := lv_entry ([.ref (ad (23, en)), .int a, .int b]) (n := 3) (Nat.le_of_ble_eq_true rfl)
  rw [lg_entry_eq]
  generalize (lg_sl ([.ref (ad (23, en)), .int a, .int b]) ++ List.replicate (3 - (lg_sl ([.ref (ad (23, en)), .int a, .int b])).length) Slot.unset).toArray = ls at hl ⊢
  have hl : lv_has ls 3 [(0, .ref (ad (23, en))), (1, .int a), (2, .int b)] := hl
  refine lv_aload_n hx hb dX7_overlaps_0 rfl (lv_at hl 0 rfl) ?_
  refine g_X7_19 F hK (xw_23 hR he) (v := .int (S.2.1 13 en 0)) rfl dX7_overlaps_1 ?_
  refine lv_iload_n hx hb dX7_overlaps_4 rfl (lv_at hl 2 rfl) ?_
  refine lv_icmp_ge (tgt := 20) hx hb dX7_overlaps_5 (by decide) (fun c_5 => ?_) (fun c_5 => ?_)
  · have n_5 := Int32.not_lt.mpr c_5
    refine lv_iconst (v := 0) hx hb dX7_overlaps_20 (by decide) ?_
    exact xr_Pz hx hb hr hlocks ((bI_f (by first | rfl | simp [xOv, Int32.not_lt, c_5, n_5])).symm) dX7_overlaps_21
  · have n_5 := Int32.not_le.mp c_5
    refine lv_iload_n hx hb dX7_overlaps_8 rfl (lv_at hl 1 rfl) ?_
    refine lv_aload_n hx hb dX7_overlaps_9 rfl (lv_at hl 0 rfl) ?_
    refine xc_P (va_runU (As := []) (rest := [.int a]) F (xX7_end g1 (A := A) (S := S) (ad := ad) (z := z) en he) (va_cwU (x := ⟨"Lendlathe$Stay", "end", "()I"⟩) (C := "Lendlathe$Entry") (owner := "Lendlathe$Stay") 0 hts (lw_U q521 q523 q524 q522 q88 q525) rfl rfl rfl rfl (by decide +kernel) ⟨Nat.le_of_ble_eq_true rfl, Nat.le_of_ble_eq_true rfl⟩) (xpreV (xrecv hK (xw_23 hR he) rfl) hWK hS hR) rfl rfl hl.1 rfl (lv_room (Nat.le_of_ble_eq_true rfl)) dX7_overlaps_10 ⟨Nat.le_of_ble_eq_true rfl, Nat.le_of_ble_eq_true rfl⟩) ?_
    refine lv_icmp_ge (tgt := 20) hx hb dX7_overlaps_13 (by decide) (fun c_13 => ?_) (fun c_13 => ?_)
    · have n_13 := Int32.not_lt.mpr c_13
      refine lv_iconst (v := 0) hx hb dX7_overlaps_20 (by decide) ?_
      exact xr_Pz hx hb hr hlocks ((bI_f (by first | rfl | simp [xOv, Int32.not_lt, c_5, c_13, n_5, n_13])).symm) dX7_overlaps_21
    · have n_13 := Int32.not_le.mp c_13
      refine lv_iconst (v := 1) hx hb dX7_overlaps_16 (by decide) ?_
      refine lv_goto (tgt := 21) hx hb dX7_overlaps_17 (by decide) ?_
      exact xr_Pz hx hb hr hlocks ((bI_t (by first | rfl | simp [xOv, Int32.not_lt, c_5, c_13, n_5, n_13])).symm) dX7_overlaps_21

set_option maxHeartbeats 4000000 in
theorem xX8_isTaken {l : Launch} {G : xG} {s0 : State} {b0 : Nat} (g1 : xG1 l G s0 b0) {A : Nat → Prop} {S : xS} {ad : Nat × Nat → Nat} {z : xZ} (en : Nat) (he : en < S.1 2 0) : Met l yX8_isTaken (ws_ yX8_isTaken cX8_isTaken 1 (some .boolean)) ({ frames := 0, cells := 0, slots := 0, locals := 0 } : Room) (xP s0 A [.ref (ad (23, en))] (fun H => xRX G A S ad z H)) (xQp (some (.int (bI (xTaken S.2.1 en))))) 0 0 (fun _ => False) := by
  refine Met.ofW (cc := cX8_isTaken) (maxL := 1) (ret := (some .boolean)) (by decide) rfl ?_
  intro p e s m args below meth c s₁ B hml hv
  obtain ⟨rfl, hWK, hR⟩ := hv
  have g := g1.1
  have hx := B.exec
  have hb := B.bytes
  have hr := B.returns
  have hts := atoms_spec (ws := ws_ yX8_isTaken cX8_isTaken 1 (some .boolean)) B.pre
  have hts : ∀ w ∈ lw_all, w.before _ s = true := fun w h => hts w (List.mem_cons_of_mem _ h)
  have hown : s.vm.findClass "Lendlathe$Entry" = some m.cls := findClass_of_methodNamed B.named
  have hlocks := B.notSynchronized
  have hK := hWK.K g
  have F : CallFix p m c cX8_isTaken 1 s _ lw_all "Lendlathe$Entry" := ⟨hx, hb, hml, hown, hts⟩
  have hS : va_S A s.heap s.heap [] := va_S.rf
  have hl := lv_entry ([.ref (ad (23, en))]) (n := 1) (Nat.le_of_ble_eq_true rfl)
  rw [lg_entry_eq]
  generalize (lg_sl ([.ref (ad (23, en))]) ++ List.replicate (1 - (lg_sl ([.ref (ad (23, en))])).length) Slot.unset).toArray = ls at hl ⊢
  have hl : lv_has ls 1 [(0, .ref (ad (23, en)))] := hl
  refine lv_aload_n hx hb dX8_isTaken_0 rfl (lv_at hl 0 rfl) ?_
  refine g_X8_26 F hK (xw_23 hR he) (v := .int (S.2.1 16 en 0)) rfl dX8_isTaken_1 ?_
  refine lv_bipush (v := 98) hx hb dX8_isTaken_4 (by decide) ?_
  refine lv_icmp_eq (tgt := 18) hx hb dX8_isTaken_6 (by decide) (fun c_6 => ?_) (fun c_6 => ?_)
  · refine lv_iconst (v := 1) hx hb dX8_isTaken_18 (by decide) ?_
    refine lv_goto (tgt := 23) hx hb dX8_isTaken_19 (by decide) ?_
    exact xr_Pz hx hb hr hlocks ((bI_t (by first | rfl | simp [xTaken, c_6])).symm) dX8_isTaken_23
  · refine lv_aload_n hx hb dX8_isTaken_9 rfl (lv_at hl 0 rfl) ?_
    refine g_X8_26 F hK (xw_23 hR he) (v := .int (S.2.1 16 en 0)) rfl dX8_isTaken_10 ?_
    refine lv_bipush (v := 100) hx hb dX8_isTaken_13 (by decide) ?_
    refine lv_icmp_ne (tgt := 22) hx hb dX8_isTaken_15 (by decide) (fun c_15 => ?_) (fun c_15 => ?_)
    · refine lv_iconst (v := 0) hx hb dX8_isTaken_22 (by decide) ?_
      exact xr_Pz hx hb hr hlocks ((bI_f (by first | rfl | simp [xTaken, c_6, c_15])).symm) dX8_isTaken_23
    · refine lv_iconst (v := 1) hx hb dX8_isTaken_18 (by decide) ?_
      refine lv_goto (tgt := 23) hx hb dX8_isTaken_19 (by decide) ?_
      exact xr_Pz hx hb hr hlocks ((bI_t (by first | rfl | simp [xTaken, c_6, c_15])).symm) dX8_isTaken_23

set_option maxHeartbeats 4000000 in
theorem xX8_takes {l : Launch} {G : xG} {s0 : State} {b0 : Nat} (g1 : xG1 l G s0 b0) {A : Nat → Prop} {S : xS} {ad : Nat × Nat → Nat} {z : xZ} (en : Nat) (bar : Int32) (he : en < S.1 2 0) (hW : xW S) : Met l yX8_takes (ws_ yX8_takes cX8_takes 4 (some .int)) ({ frames := 0, cells := 0, slots := 0, locals := 0 } : Room) (xP s0 A [.ref (ad (23, en)), .int bar] (fun H => xRX G A S ad z H)) (xQp (some (.int (xTakes S en bar (S.1 6 en))))) 0 0 (fun _ => False) := by
  refine Met.ofW (cc := cX8_takes) (maxL := 4) (ret := (some .int)) (by decide) rfl ?_
  intro p e s m args below meth c s₁ B hml hv
  obtain ⟨rfl, hWK, hR⟩ := hv
  have g := g1.1
  have hx := B.exec
  have hb := B.bytes
  have hr := B.returns
  have hts := atoms_spec (ws := ws_ yX8_takes cX8_takes 4 (some .int)) B.pre
  have hts : ∀ w ∈ lw_all, w.before _ s = true := fun w h => hts w (List.mem_cons_of_mem _ h)
  have hown : s.vm.findClass "Lendlathe$Entry" = some m.cls := findClass_of_methodNamed B.named
  have hlocks := B.notSynchronized
  have hK := hWK.K g
  have F : CallFix p m c cX8_takes 4 s _ lw_all "Lendlathe$Entry" := ⟨hx, hb, hml, hown, hts⟩
  have hS : va_S A s.heap s.heap [] := va_S.rf
  have hl := lv_entry ([.ref (ad (23, en)), .int bar]) (n := 4) (Nat.le_of_ble_eq_true rfl)
  rw [lg_entry_eq]
  generalize (lg_sl ([.ref (ad (23, en)), .int bar]) ++ List.replicate (4 - (lg_sl ([.ref (ad (23, en)), .int bar])).length) Slot.unset).toArray = ls at hl ⊢
  have hl : lv_has ls 4 [(0, .ref (ad (23, en))), (1, .int bar)] := hl
  have hn0 := hW.1.1
  have hn1 := hW.1.2.1
  have hn2 := hW.1.2.2.1
  have hn3 := hW.1.2.2.2.1
  have hn4 := hW.1.2.2.2.2
  have hc5 := hW.cut en
  refine lv_iconst (v := 0) hx hb dX8_takes_0 (by decide) ?_
  refine lv_istore_n (lv' := [(2, .int 0), (0, .ref (ad (23, en))), (1, .int bar)]) hx hb dX8_takes_1 rfl hl (by decide) rfl (fun ls hl => ?_)
  refine lv_iconst (v := 0) hx hb dX8_takes_2 (by decide) ?_
  refine lv_istore_n (lv' := [(3, .int 0), (2, .int 0), (0, .ref (ad (23, en))), (1, .int bar)]) hx hb dX8_takes_3 rfl hl (by decide) rfl (fun ls hl => ?_)
  have L4 : ∀ (n : Nat) (k : Nat) (acc : Int32), S.1 6 en - k < n → (k ≤ S.1 6 en) → (acc = xTakes S en bar k) → ∀ (ls : Array Slot), lv_has ls 4 [(3, .int (nI k)), (2, .int acc), (0, .ref (ad (23, en))), (1, .int bar)] → W p l e (headSpec (ws_ yX8_takes cX8_takes 4 (some .int)) ({ frames := 0, cells := 0, slots := 0, locals := 0 } : Room)).room s m ([.ref (ad (23, en)), .int bar] : List Value).toArray below meth c s.heap [] 0 0 (MQ below (xQp (some (.int (xTakes S en bar (S.1 6 en))))) ([.ref (ad (23, en)), .int bar] : List Value).toArray s 0 0 (fun _ => False)) (F0 m 4 ls []) := by
    intro n4
    induction n4 with
    | zero =>
      intro k acc hn4
      exact absurd hn4 (Nat.not_lt_zero _)
    | succ n4 ih4 =>
      intro k acc hn4 hk ea ls hl
      refine lv_iload_n hx hb dX8_takes_4 rfl (lv_at hl 0 rfl) ?_
      refine lv_aload_n hx hb dX8_takes_5 rfl (lv_at hl 2 rfl) ?_
      refine g_X8_33 F hK (xw_23 hR he) (v := .int (nI (S.1 6 en))) rfl dX8_takes_6 ?_
      refine xn_ge (tgt := 43) k (S.1 6 en) rfl rfl (by omega) (by omega) hx hb dX8_takes_9 (by decide) (fun c_9 => ?_) (fun c_9 => ?_)
      · have n_9 := Nat.not_lt.mpr c_9
        refine lv_iload_n hx hb dX8_takes_43 rfl (lv_at hl 1 rfl) ?_
        exact xr_Pi hx hb hr hlocks ((by have hk9 : k = S.1 6 en := (by omega); subst hk9; exact ea)) dX8_takes_44
      · have n_9 := Nat.not_le.mpr c_9
        refine lv_iload_n hx hb dX8_takes_12 rfl (lv_at hl 1 rfl) ?_
        refine lv_aload_n hx hb dX8_takes_13 rfl (lv_at hl 2 rfl) ?_
        refine g_X8_15 F hK (xw_23 hR he) (v := .ref (ad (24, en))) rfl dX8_takes_14 ?_
        refine lv_iload_n hx hb dX8_takes_17 rfl (lv_at hl 0 rfl) ?_
        refine x_iald hx hb hK (xw_24 hR he) (v := .int (S.2.1 18 en k)) (xi_nI (n := 5) (by omega) (by omega)) (rfl) dX8_takes_18 ?_
        refine lv_iload_n hx hb dX8_takes_19 rfl (lv_at hl 3 rfl) ?_
        refine lv_icmp_ne (tgt := 34) hx hb dX8_takes_20 (by decide) (fun c_20 => ?_) (fun c_20 => ?_)
        · refine lv_iconst (v := 0) hx hb dX8_takes_34 (by decide) ?_
          refine lv_iadd hx hb dX8_takes_35 ?_
          refine lv_istore_n (lv' := [(2, .int (acc + 0)), (3, .int (nI k)), (0, .ref (ad (23, en))), (1, .int bar)]) hx hb dX8_takes_36 rfl hl (by decide) rfl (fun ls hl => ?_)
          refine lv_iinc (v := nI (k + 1)) (lv' := [(3, .int (nI (k + 1))), (2, .int (acc + 0)), (0, .ref (ad (23, en))), (1, .int bar)]) hx hb dX8_takes_37 hl (k := 1) rfl (nI_1 _) (by decide) rfl (fun ls hl => ?_)
          refine lv_goto (tgt := 4) hx hb dX8_takes_40 (by decide) ?_
          exact ih4 (k + 1) (acc + 0) (by omega) (by omega) (by rw [ea]; simp [xTakes, sumI, c_20]) ls (lv_sub hl [0, 1, 2, 3] rfl)
        · refine lv_aload_n hx hb dX8_takes_23 rfl (lv_at hl 2 rfl) ?_
          refine g_X8_19 F hK (xw_23 hR he) (v := .ref (ad (25, en))) rfl dX8_takes_24 ?_
          refine lv_iload_n hx hb dX8_takes_27 rfl (lv_at hl 0 rfl) ?_
          refine x_iald hx hb hK (xw_25 hR he) (v := .int (S.2.1 19 en k)) (xi_nI (n := 5) (by omega) (by omega)) (rfl) dX8_takes_28 ?_
          refine lv_iconst (v := 3) hx hb dX8_takes_29 (by decide) ?_
          refine lv_iadd hx hb dX8_takes_30 ?_
          refine lv_goto (tgt := 35) hx hb dX8_takes_31 (by decide) ?_
          refine lv_iadd hx hb dX8_takes_35 ?_
          refine lv_istore_n (lv' := [(2, .int (acc + ((S.2.1 19 en k) + 3))), (3, .int (nI k)), (0, .ref (ad (23, en))), (1, .int bar)]) hx hb dX8_takes_36 rfl hl (by decide) rfl (fun ls hl => ?_)
          refine lv_iinc (v := nI (k + 1)) (lv' := [(3, .int (nI (k + 1))), (2, .int (acc + ((S.2.1 19 en k) + 3))), (0, .ref (ad (23, en))), (1, .int bar)]) hx hb dX8_takes_37 hl (k := 1) rfl (nI_1 _) (by decide) rfl (fun ls hl => ?_)
          refine lv_goto (tgt := 4) hx hb dX8_takes_40 (by decide) ?_
          exact ih4 (k + 1) (acc + ((S.2.1 19 en k) + 3)) (by omega) (by omega) (by rw [ea]; simp [xTakes, sumI, c_20]) ls (lv_sub hl [0, 1, 2, 3] rfl)
  exact L4 (S.1 6 en + 1) 0 0 (by omega) (by omega) rfl ls (lv_sub hl [0, 1, 2, 3] rfl)

set_option maxHeartbeats 4000000 in
theorem xX6_owes {l : Launch} {G : xG} {s0 : State} {b0 : Nat} (g1 : xG1 l G s0 b0) {A : Nat → Prop} {S : xS} {ad : Nat × Nat → Nat} {z : xZ} (mi : Nat) (hm : mi < S.1 1 0) : Met l yX6_owes (ws_ yX6_owes cX6_owes 1 (some .int)) ({ frames := 0, cells := 0, slots := 0, locals := 0 } : Room) (xP s0 A [.ref (ad (21, mi))] (fun H => xRX G A S ad z H)) (xQp (some (.int (S.2.1 4 mi 0 - S.2.1 3 mi 0)))) 0 0 (fun _ => False) := by
  refine Met.ofW (cc := cX6_owes) (maxL := 1) (ret := (some .int)) (by decide) rfl ?_
  intro p e s m args below meth c s₁ B hml hv
  obtain ⟨rfl, hWK, hR⟩ := hv
  have g := g1.1
  have hx := B.exec
  have hb := B.bytes
  have hr := B.returns
  have hts := atoms_spec (ws := ws_ yX6_owes cX6_owes 1 (some .int)) B.pre
  have hts : ∀ w ∈ lw_all, w.before _ s = true := fun w h => hts w (List.mem_cons_of_mem _ h)
  have hown : s.vm.findClass "Lendlathe$Member" = some m.cls := findClass_of_methodNamed B.named
  have hlocks := B.notSynchronized
  have hK := hWK.K g
  have F : CallFix p m c cX6_owes 1 s _ lw_all "Lendlathe$Member" := ⟨hx, hb, hml, hown, hts⟩
  have hS : va_S A s.heap s.heap [] := va_S.rf
  have hl := lv_entry ([.ref (ad (21, mi))]) (n := 1) (Nat.le_of_ble_eq_true rfl)
  rw [lg_entry_eq]
  generalize (lg_sl ([.ref (ad (21, mi))]) ++ List.replicate (1 - (lg_sl ([.ref (ad (21, mi))])).length) Slot.unset).toArray = ls at hl ⊢
  have hl : lv_has ls 1 [(0, .ref (ad (21, mi)))] := hl
  refine lv_aload_n hx hb dX6_owes_0 rfl (lv_at hl 0 rfl) ?_
  refine g_X6_27 F hK (xw_21 hR hm) (v := .int (S.2.1 4 mi 0)) rfl dX6_owes_1 ?_
  refine lv_aload_n hx hb dX6_owes_4 rfl (lv_at hl 0 rfl) ?_
  refine g_X6_31 F hK (xw_21 hR hm) (v := .int (S.2.1 3 mi 0)) rfl dX6_owes_5 ?_
  refine lv_isub hx hb dX6_owes_8 ?_
  exact xr_Pi hx hb hr hlocks (rfl) dX6_owes_9

set_option maxHeartbeats 4000000 in
theorem xX1_want_ok {l : Launch} {G : xG} {s0 : State} {b0 : Nat} (g1 : xG1 l G s0 b0) {A : Nat → Prop} (b : Bool) (hok : b = true) : Met l yX1_want (ws_ yX1_want cX1_want 1 none) ({ frames := 0, cells := 0, slots := 0, locals := 0 } : Room) (xP s0 A [.int (bI b)] (fun H => True)) (xQp none) 0 0 (fun _ => False) := by
  refine Met.ofW (cc := cX1_want) (maxL := 1) (ret := none) (by decide) rfl ?_
  intro p e s m args below meth c s₁ B hml hv
  obtain ⟨rfl, hWK, hR⟩ := hv
  have g := g1.1
  have hx := B.exec
  have hb := B.bytes
  have hr := B.returns
  have hts := atoms_spec (ws := ws_ yX1_want cX1_want 1 none) B.pre
  have hts : ∀ w ∈ lw_all, w.before _ s = true := fun w h => hts w (List.mem_cons_of_mem _ h)
  have hown : s.vm.findClass "Lendlathe" = some m.cls := findClass_of_methodNamed B.named
  have hlocks := B.notSynchronized
  have hK := hWK.K g
  have F : CallFix p m c cX1_want 1 s _ lw_all "Lendlathe" := ⟨hx, hb, hml, hown, hts⟩
  have hS : va_S A s.heap s.heap [] := va_S.rf
  have hl := lv_entry ([.int (bI b)]) (n := 1) (Nat.le_of_ble_eq_true rfl)
  rw [lg_entry_eq]
  generalize (lg_sl ([.int (bI b)]) ++ List.replicate (1 - (lg_sl ([.int (bI b)])).length) Slot.unset).toArray = ls at hl ⊢
  have hl : lv_has ls 1 [(0, .int (bI b))] := hl
  refine lv_iload_n hx hb dX1_want_0 rfl (lv_at hl 0 rfl) ?_
  refine x_ifne (tgt := 12) hx hb dX1_want_1 (by decide) (fun c_1 => ?_) (fun c_1 => ?_)
  · exact xr_Pv hx hb hr hlocks dX1_want_12
  · exact absurd hok (by simp [c_1])

set_option maxHeartbeats 4000000 in
theorem xX1_want_no {l : Launch} {G : xG} {s0 : State} {b0 : Nat} (g1 : xG1 l G s0 b0) {A : Nat → Prop} (b : Bool) (hok : b = false) : vx_Met l yX1_want (ws_ yX1_want cX1_want 1 none) ({ frames := 6, cells := 1, slots := 6, locals := 81 } : Room) (xP s0 A [.int (bI b)] (fun H => True)) xQn (xXc (fun E H0 H1 => E = xExn (1) ∧ xGrow H0 H1) A) 1 6 A := by
  refine vx_ofW (cc := cX1_want) (maxL := 1) (ret := none) (by decide) rfl ?_
  intro p e s m args below meth c s₁ B hml hnt hv
  obtain ⟨rfl, hWK, hR⟩ := hv
  have g := g1.1
  have hx := B.exec
  have hb := B.bytes
  have hr := B.returns
  have hts := atoms_spec (ws := ws_ yX1_want cX1_want 1 none) B.pre
  have hts : ∀ w ∈ lw_all, w.before _ s = true := fun w h => hts w (List.mem_cons_of_mem _ h)
  have hown : s.vm.findClass "Lendlathe" = some m.cls := findClass_of_methodNamed B.named
  have hlocks := B.notSynchronized
  have hK := hWK.K g
  have F : CallFix p m c cX1_want 1 s _ lw_all "Lendlathe" := ⟨hx, hb, hml, hown, hts⟩
  have hS : va_S A s.heap s.heap [] := va_S.rf
  have hl := lv_entry ([.int (bI b)]) (n := 1) (Nat.le_of_ble_eq_true rfl)
  rw [lg_entry_eq]
  generalize (lg_sl ([.int (bI b)]) ++ List.replicate (1 - (lg_sl ([.int (bI b)])).length) Slot.unset).toArray = ls at hl ⊢
  have hl : lv_has ls 1 [(0, .int (bI b))] := hl
  refine lv_iload_n hx hb dX1_want_0 rfl (lv_at hl 0 rfl) ?_
  refine x_ifne (tgt := 12) hx hb dX1_want_1 (by decide) (fun c_1 => ?_) (fun c_1 => ?_)
  · exact absurd hok (by simp [c_1])
  · have e9 : (1 : Nat) = 1 := rfl
    exact x_throw1 g1 hWK F hS hl.1 dX1_want_4 dX1_want_7 dX1_want_8 dX1_want_11 hnt hlocks (Nat.le_of_ble_eq_true rfl) (Nat.le_of_ble_eq_true rfl) (Nat.le_of_ble_eq_true rfl) (Nat.le_of_ble_eq_true rfl) (fun t9 _ hz9 hg9 => ⟨⟨(⟨rfl, hz9, hg9⟩ : xExn 1 = xExn 1 ∧ xGrow s.heap t9.heap).1.trans (congrArg xExn e9).symm, (⟨rfl, hz9, hg9⟩ : xExn 1 = xExn 1 ∧ xGrow s.heap t9.heap).2⟩, (xGrow.S (⟨hz9, hg9⟩ : xGrow s.heap t9.heap) hS).F rfl⟩) (Nat.le_of_ble_eq_true rfl) (Nat.le_of_ble_eq_true rfl)

set_option maxHeartbeats 4000000 in
theorem xX1_ready_ok {l : Launch} {G : xG} {s0 : State} {b0 : Nat} (g1 : xG1 l G s0 b0) {A : Nat → Prop} (b : Bool) (hok : b = true) : Met l yX1_ready (ws_ yX1_ready cX1_ready 1 none) ({ frames := 0, cells := 0, slots := 0, locals := 0 } : Room) (xP s0 A [.int (bI b)] (fun H => True)) (xQp none) 0 0 (fun _ => False) := by
  refine Met.ofW (cc := cX1_ready) (maxL := 1) (ret := none) (by decide) rfl ?_
  intro p e s m args below meth c s₁ B hml hv
  obtain ⟨rfl, hWK, hR⟩ := hv
  have g := g1.1
  have hx := B.exec
  have hb := B.bytes
  have hr := B.returns
  have hts := atoms_spec (ws := ws_ yX1_ready cX1_ready 1 none) B.pre
  have hts : ∀ w ∈ lw_all, w.before _ s = true := fun w h => hts w (List.mem_cons_of_mem _ h)
  have hown : s.vm.findClass "Lendlathe" = some m.cls := findClass_of_methodNamed B.named
  have hlocks := B.notSynchronized
  have hK := hWK.K g
  have F : CallFix p m c cX1_ready 1 s _ lw_all "Lendlathe" := ⟨hx, hb, hml, hown, hts⟩
  have hS : va_S A s.heap s.heap [] := va_S.rf
  have hl := lv_entry ([.int (bI b)]) (n := 1) (Nat.le_of_ble_eq_true rfl)
  rw [lg_entry_eq]
  generalize (lg_sl ([.int (bI b)]) ++ List.replicate (1 - (lg_sl ([.int (bI b)])).length) Slot.unset).toArray = ls at hl ⊢
  have hl : lv_has ls 1 [(0, .int (bI b))] := hl
  refine lv_iload_n hx hb dX1_ready_0 rfl (lv_at hl 0 rfl) ?_
  refine x_ifne (tgt := 12) hx hb dX1_ready_1 (by decide) (fun c_1 => ?_) (fun c_1 => ?_)
  · exact xr_Pv hx hb hr hlocks dX1_ready_12
  · exact absurd hok (by simp [c_1])

set_option maxHeartbeats 4000000 in
theorem xX1_ready_no {l : Launch} {G : xG} {s0 : State} {b0 : Nat} (g1 : xG1 l G s0 b0) {A : Nat → Prop} (b : Bool) (hok : b = false) : vx_Met l yX1_ready (ws_ yX1_ready cX1_ready 1 none) ({ frames := 6, cells := 1, slots := 6, locals := 81 } : Room) (xP s0 A [.int (bI b)] (fun H => True)) xQn (xXc (fun E H0 H1 => E = xExn (2) ∧ xGrow H0 H1) A) 1 6 A := by
  refine vx_ofW (cc := cX1_ready) (maxL := 1) (ret := none) (by decide) rfl ?_
  intro p e s m args below meth c s₁ B hml hnt hv
  obtain ⟨rfl, hWK, hR⟩ := hv
  have g := g1.1
  have hx := B.exec
  have hb := B.bytes
  have hr := B.returns
  have hts := atoms_spec (ws := ws_ yX1_ready cX1_ready 1 none) B.pre
  have hts : ∀ w ∈ lw_all, w.before _ s = true := fun w h => hts w (List.mem_cons_of_mem _ h)
  have hown : s.vm.findClass "Lendlathe" = some m.cls := findClass_of_methodNamed B.named
  have hlocks := B.notSynchronized
  have hK := hWK.K g
  have F : CallFix p m c cX1_ready 1 s _ lw_all "Lendlathe" := ⟨hx, hb, hml, hown, hts⟩
  have hS : va_S A s.heap s.heap [] := va_S.rf
  have hl := lv_entry ([.int (bI b)]) (n := 1) (Nat.le_of_ble_eq_true rfl)
  rw [lg_entry_eq]
  generalize (lg_sl ([.int (bI b)]) ++ List.replicate (1 - (lg_sl ([.int (bI b)])).length) Slot.unset).toArray = ls at hl ⊢
  have hl : lv_has ls 1 [(0, .int (bI b))] := hl
  refine lv_iload_n hx hb dX1_ready_0 rfl (lv_at hl 0 rfl) ?_
  refine x_ifne (tgt := 12) hx hb dX1_ready_1 (by decide) (fun c_1 => ?_) (fun c_1 => ?_)
  · exact absurd hok (by simp [c_1])
  · have e9 : (2 : Nat) = 2 := rfl
    exact x_throw2 g1 hWK F hS hl.1 dX1_ready_4 dX1_ready_7 dX1_ready_8 dX1_ready_11 hnt hlocks (Nat.le_of_ble_eq_true rfl) (Nat.le_of_ble_eq_true rfl) (Nat.le_of_ble_eq_true rfl) (Nat.le_of_ble_eq_true rfl) (fun t9 _ hz9 hg9 => ⟨⟨(⟨rfl, hz9, hg9⟩ : xExn 2 = xExn 2 ∧ xGrow s.heap t9.heap).1.trans (congrArg xExn e9).symm, (⟨rfl, hz9, hg9⟩ : xExn 2 = xExn 2 ∧ xGrow s.heap t9.heap).2⟩, (xGrow.S (⟨hz9, hg9⟩ : xGrow s.heap t9.heap) hS).F rfl⟩) (Nat.le_of_ble_eq_true rfl) (Nat.le_of_ble_eq_true rfl)

set_option maxHeartbeats 4000000 in
theorem xX1_known_ok {l : Launch} {G : xG} {s0 : State} {b0 : Nat} (g1 : xG1 l G s0 b0) {A : Nat → Prop} (b : Bool) (hok : b = true) : Met l yX1_known (ws_ yX1_known cX1_known 1 none) ({ frames := 0, cells := 0, slots := 0, locals := 0 } : Room) (xP s0 A [.int (bI b)] (fun H => True)) (xQp none) 0 0 (fun _ => False) := by
  refine Met.ofW (cc := cX1_known) (maxL := 1) (ret := none) (by decide) rfl ?_
  intro p e s m args below meth c s₁ B hml hv
  obtain ⟨rfl, hWK, hR⟩ := hv
  have g := g1.1
  have hx := B.exec
  have hb := B.bytes
  have hr := B.returns
  have hts := atoms_spec (ws := ws_ yX1_known cX1_known 1 none) B.pre
  have hts : ∀ w ∈ lw_all, w.before _ s = true := fun w h => hts w (List.mem_cons_of_mem _ h)
  have hown : s.vm.findClass "Lendlathe" = some m.cls := findClass_of_methodNamed B.named
  have hlocks := B.notSynchronized
  have hK := hWK.K g
  have F : CallFix p m c cX1_known 1 s _ lw_all "Lendlathe" := ⟨hx, hb, hml, hown, hts⟩
  have hS : va_S A s.heap s.heap [] := va_S.rf
  have hl := lv_entry ([.int (bI b)]) (n := 1) (Nat.le_of_ble_eq_true rfl)
  rw [lg_entry_eq]
  generalize (lg_sl ([.int (bI b)]) ++ List.replicate (1 - (lg_sl ([.int (bI b)])).length) Slot.unset).toArray = ls at hl ⊢
  have hl : lv_has ls 1 [(0, .int (bI b))] := hl
  refine lv_iload_n hx hb dX1_known_0 rfl (lv_at hl 0 rfl) ?_
  refine x_ifne (tgt := 12) hx hb dX1_known_1 (by decide) (fun c_1 => ?_) (fun c_1 => ?_)
  · exact xr_Pv hx hb hr hlocks dX1_known_12
  · exact absurd hok (by simp [c_1])

set_option maxHeartbeats 4000000 in
theorem xX1_known_no {l : Launch} {G : xG} {s0 : State} {b0 : Nat} (g1 : xG1 l G s0 b0) {A : Nat → Prop} (b : Bool) (hok : b = false) : vx_Met l yX1_known (ws_ yX1_known cX1_known 1 none) ({ frames := 6, cells := 1, slots := 6, locals := 81 } : Room) (xP s0 A [.int (bI b)] (fun H => True)) xQn (xXc (fun E H0 H1 => E = xExn (3) ∧ xGrow H0 H1) A) 1 6 A := by
  refine vx_ofW (cc := cX1_known) (maxL := 1) (ret := none) (by decide) rfl ?_
  intro p e s m args below meth c s₁ B hml hnt hv
  obtain ⟨rfl, hWK, hR⟩ := hv
  have g := g1.1
  have hx := B.exec
  have hb := B.bytes
  have hr := B.returns
  have hts := atoms_spec (ws := ws_ yX1_known cX1_known 1 none) B.pre
  have hts : ∀ w ∈ lw_all, w.before _ s = true := fun w h => hts w (List.mem_cons_of_mem _ h)
  have hown : s.vm.findClass "Lendlathe" = some m.cls := findClass_of_methodNamed B.named
  have hlocks := B.notSynchronized
  have hK := hWK.K g
  have F : CallFix p m c cX1_known 1 s _ lw_all "Lendlathe" := ⟨hx, hb, hml, hown, hts⟩
  have hS : va_S A s.heap s.heap [] := va_S.rf
  have hl := lv_entry ([.int (bI b)]) (n := 1) (Nat.le_of_ble_eq_true rfl)
  rw [lg_entry_eq]
  generalize (lg_sl ([.int (bI b)]) ++ List.replicate (1 - (lg_sl ([.int (bI b)])).length) Slot.unset).toArray = ls at hl ⊢
  have hl : lv_has ls 1 [(0, .int (bI b))] := hl
  refine lv_iload_n hx hb dX1_known_0 rfl (lv_at hl 0 rfl) ?_
  refine x_ifne (tgt := 12) hx hb dX1_known_1 (by decide) (fun c_1 => ?_) (fun c_1 => ?_)
  · exact absurd hok (by simp [c_1])
  · have e9 : (3 : Nat) = 3 := rfl
    exact x_throw3 g1 hWK F hS hl.1 dX1_known_4 dX1_known_7 dX1_known_8 dX1_known_11 hnt hlocks (Nat.le_of_ble_eq_true rfl) (Nat.le_of_ble_eq_true rfl) (Nat.le_of_ble_eq_true rfl) (Nat.le_of_ble_eq_true rfl) (fun t9 _ hz9 hg9 => ⟨⟨(⟨rfl, hz9, hg9⟩ : xExn 3 = xExn 3 ∧ xGrow s.heap t9.heap).1.trans (congrArg xExn e9).symm, (⟨rfl, hz9, hg9⟩ : xExn 3 = xExn 3 ∧ xGrow s.heap t9.heap).2⟩, (xGrow.S (⟨hz9, hg9⟩ : xGrow s.heap t9.heap) hS).F rfl⟩) (Nat.le_of_ble_eq_true rfl) (Nat.le_of_ble_eq_true rfl)

set_option maxHeartbeats 4000000 in
theorem xX1_there_ok {l : Launch} {G : xG} {s0 : State} {b0 : Nat} (g1 : xG1 l G s0 b0) {A : Nat → Prop} (b : Bool) (hok : b = true) : Met l yX1_there (ws_ yX1_there cX1_there 1 none) ({ frames := 0, cells := 0, slots := 0, locals := 0 } : Room) (xP s0 A [.int (bI b)] (fun H => True)) (xQp none) 0 0 (fun _ => False) := by
  refine Met.ofW (cc := cX1_there) (maxL := 1) (ret := none) (by decide) rfl ?_
  intro p e s m args below meth c s₁ B hml hv
  obtain ⟨rfl, hWK, hR⟩ := hv
  have g := g1.1
  have hx := B.exec
  have hb := B.bytes
  have hr := B.returns
  have hts := atoms_spec (ws := ws_ yX1_there cX1_there 1 none) B.pre
  have hts : ∀ w ∈ lw_all, w.before _ s = true := fun w h => hts w (List.mem_cons_of_mem _ h)
  have hown : s.vm.findClass "Lendlathe" = some m.cls := findClass_of_methodNamed B.named
  have hlocks := B.notSynchronized
  have hK := hWK.K g
  have F : CallFix p m c cX1_there 1 s _ lw_all "Lendlathe" := ⟨hx, hb, hml, hown, hts⟩
  have hS : va_S A s.heap s.heap [] := va_S.rf
  have hl := lv_entry ([.int (bI b)]) (n := 1) (Nat.le_of_ble_eq_true rfl)
  rw [lg_entry_eq]
  generalize (lg_sl ([.int (bI b)]) ++ List.replicate (1 - (lg_sl ([.int (bI b)])).length) Slot.unset).toArray = ls at hl ⊢
  have hl : lv_has ls 1 [(0, .int (bI b))] := hl
  refine lv_iload_n hx hb dX1_there_0 rfl (lv_at hl 0 rfl) ?_
  refine x_ifne (tgt := 12) hx hb dX1_there_1 (by decide) (fun c_1 => ?_) (fun c_1 => ?_)
  · exact xr_Pv hx hb hr hlocks dX1_there_12
  · exact absurd hok (by simp [c_1])

set_option maxHeartbeats 4000000 in
theorem xX1_there_no {l : Launch} {G : xG} {s0 : State} {b0 : Nat} (g1 : xG1 l G s0 b0) {A : Nat → Prop} (b : Bool) (hok : b = false) : vx_Met l yX1_there (ws_ yX1_there cX1_there 1 none) ({ frames := 6, cells := 1, slots := 6, locals := 81 } : Room) (xP s0 A [.int (bI b)] (fun H => True)) xQn (xXc (fun E H0 H1 => E = xExn (4) ∧ xGrow H0 H1) A) 1 6 A := by
  refine vx_ofW (cc := cX1_there) (maxL := 1) (ret := none) (by decide) rfl ?_
  intro p e s m args below meth c s₁ B hml hnt hv
  obtain ⟨rfl, hWK, hR⟩ := hv
  have g := g1.1
  have hx := B.exec
  have hb := B.bytes
  have hr := B.returns
  have hts := atoms_spec (ws := ws_ yX1_there cX1_there 1 none) B.pre
  have hts : ∀ w ∈ lw_all, w.before _ s = true := fun w h => hts w (List.mem_cons_of_mem _ h)
  have hown : s.vm.findClass "Lendlathe" = some m.cls := findClass_of_methodNamed B.named
  have hlocks := B.notSynchronized
  have hK := hWK.K g
  have F : CallFix p m c cX1_there 1 s _ lw_all "Lendlathe" := ⟨hx, hb, hml, hown, hts⟩
  have hS : va_S A s.heap s.heap [] := va_S.rf
  have hl := lv_entry ([.int (bI b)]) (n := 1) (Nat.le_of_ble_eq_true rfl)
  rw [lg_entry_eq]
  generalize (lg_sl ([.int (bI b)]) ++ List.replicate (1 - (lg_sl ([.int (bI b)])).length) Slot.unset).toArray = ls at hl ⊢
  have hl : lv_has ls 1 [(0, .int (bI b))] := hl
  refine lv_iload_n hx hb dX1_there_0 rfl (lv_at hl 0 rfl) ?_
  refine x_ifne (tgt := 12) hx hb dX1_there_1 (by decide) (fun c_1 => ?_) (fun c_1 => ?_)
  · exact absurd hok (by simp [c_1])
  · have e9 : (4 : Nat) = 4 := rfl
    exact x_throw4 g1 hWK F hS hl.1 dX1_there_4 dX1_there_7 dX1_there_8 dX1_there_11 hnt hlocks (Nat.le_of_ble_eq_true rfl) (Nat.le_of_ble_eq_true rfl) (Nat.le_of_ble_eq_true rfl) (Nat.le_of_ble_eq_true rfl) (fun t9 _ hz9 hg9 => ⟨⟨(⟨rfl, hz9, hg9⟩ : xExn 4 = xExn 4 ∧ xGrow s.heap t9.heap).1.trans (congrArg xExn e9).symm, (⟨rfl, hz9, hg9⟩ : xExn 4 = xExn 4 ∧ xGrow s.heap t9.heap).2⟩, (xGrow.S (⟨hz9, hg9⟩ : xGrow s.heap t9.heap) hS).F rfl⟩) (Nat.le_of_ble_eq_true rfl) (Nat.le_of_ble_eq_true rfl)

set_option maxHeartbeats 4000000 in
theorem xX1_mayAsk_ok {l : Launch} {G : xG} {s0 : State} {b0 : Nat} (g1 : xG1 l G s0 b0) {A : Nat → Prop} {S : xS} {ad : Nat × Nat → Nat} {z : xZ} (member machine on start minutes work : Int32) (hok : xMayAsk S member machine on start minutes work = 0) : Met l yX1_mayAsk (ws_ yX1_mayAsk cX1_mayAsk 7 none) ({ frames := 7, cells := 0, slots := 0, locals := 101 } : Room) (xP s0 A [.ref (ad (0, 0)), .int member, .int machine, .int on, .int start, .int minutes, .int work] (fun H => xRX G A S ad z H)) (xQp none) 0 0 (fun _ => False) := by
  refine Met.ofW (cc := cX1_mayAsk) (maxL := 7) (ret := none) (by decide) rfl ?_
  intro p e s m args below meth c s₁ B hml hv
  obtain ⟨rfl, hWK, hR⟩ := hv
  have g := g1.1
  have hx := B.exec
  have hb := B.bytes
  have hr := B.returns
  have hts := atoms_spec (ws := ws_ yX1_mayAsk cX1_mayAsk 7 none) B.pre
  have hts : ∀ w ∈ lw_all, w.before _ s = true := fun w h => hts w (List.mem_cons_of_mem _ h)
  have hown : s.vm.findClass "Lendlathe" = some m.cls := findClass_of_methodNamed B.named
  have hlocks := B.notSynchronized
  have hK := hWK.K g
  have F : CallFix p m c cX1_mayAsk 7 s _ lw_all "Lendlathe" := ⟨hx, hb, hml, hown, hts⟩
  have hS : va_S A s.heap s.heap [] := va_S.rf
  have hl := lv_entry ([.ref (ad (0, 0)), .int member, .int machine, .int on, .int start, .int minutes, .int work]) (n := 7) (Nat.le_of_ble_eq_true rfl)
  rw [lg_entry_eq]
  generalize (lg_sl ([.ref (ad (0, 0)), .int member, .int machine, .int on, .int start, .int minutes, .int work]) ++ List.replicate (7 - (lg_sl ([.ref (ad (0, 0)), .int member, .int machine, .int on, .int start, .int minutes, .int work])).length) Slot.unset).toArray = ls at hl ⊢
  have hl : lv_has ls 7 [(0, .ref (ad (0, 0))), (1, .int member), (2, .int machine), (3, .int on), (4, .int start), (5, .int minutes), (6, .int work)] := hl
  refine lv_aload_n hx hb dX1_mayAsk_0 rfl (lv_at hl 0 rfl) ?_
  refine lv_iload_n hx hb dX1_mayAsk_1 rfl (lv_at hl 1 rfl) ?_
  refine xc_P (va_runV (As := [.int member]) (rest := []) F (xX1_isMember g1 (A := A) (S := S) (ad := ad) (z := z) member) (cwV 1 hts (lw_V q933 q935 qs20 q56 q936) rfl rfl rfl hdV_X1_isMember ⟨Nat.le_of_ble_eq_true rfl, Nat.le_of_ble_eq_true rfl⟩) (xpreV (xrecv hK (xw_0 hR) rfl) hWK hS hR) rfl rfl hl.1 rfl (lv_room (Nat.le_of_ble_eq_true rfl)) dX1_mayAsk_2 ⟨Nat.le_of_ble_eq_true rfl, Nat.le_of_ble_eq_true rfl⟩) ?_
  refine x_ifeq (tgt := 20) hx hb dX1_mayAsk_5 (by decide) (fun c_5 => ?_) (fun c_5 => ?_)
  · refine lv_iconst (v := 0) hx hb dX1_mayAsk_20 (by decide) ?_
    exact absurd hok (by simp [xMayAsk, c_5])
  · refine lv_aload_n hx hb dX1_mayAsk_8 rfl (lv_at hl 0 rfl) ?_
    refine lv_iload_n hx hb dX1_mayAsk_9 rfl (lv_at hl 2 rfl) ?_
    refine xc_P (va_runV (As := [.int machine]) (rest := []) F (xX1_isMachine g1 (A := A) (S := S) (ad := ad) (z := z) machine) (cwV 1 hts (lw_V q1003 q1005 qs22 q56 q1006) rfl rfl rfl hdV_X1_isMachine ⟨Nat.le_of_ble_eq_true rfl, Nat.le_of_ble_eq_true rfl⟩) (xpreV (xrecv hK (xw_0 hR) rfl) hWK hS hR) rfl rfl hl.1 rfl (lv_room (Nat.le_of_ble_eq_true rfl)) dX1_mayAsk_10 ⟨Nat.le_of_ble_eq_true rfl, Nat.le_of_ble_eq_true rfl⟩) ?_
    refine x_ifeq (tgt := 20) hx hb dX1_mayAsk_13 (by decide) (fun c_13 => ?_) (fun c_13 => ?_)
    · refine lv_iconst (v := 0) hx hb dX1_mayAsk_20 (by decide) ?_
      exact absurd hok (by simp [xMayAsk, c_5, c_13])
    · refine lv_iconst (v := 1) hx hb dX1_mayAsk_16 (by decide) ?_
      refine lv_goto (tgt := 21) hx hb dX1_mayAsk_17 (by decide) ?_
      refine xc_P0 (va_runS (As := [.int 1]) (rest := []) F (xX1_there_ok g1 (A := A) true rfl) (va_cwS 1 hts (lw_S q937 q938 q56 q939) rfl rfl rfl hdS_X1_there ⟨Nat.le_of_ble_eq_true rfl, Nat.le_of_ble_eq_true rfl⟩) (xpre hWK hS trivial) rfl rfl hl.1 rfl (lv_room (Nat.le_of_ble_eq_true rfl)) dX1_mayAsk_21 ⟨Nat.le_of_ble_eq_true rfl, Nat.le_of_ble_eq_true rfl⟩) ?_
      refine lv_aload_n hx hb dX1_mayAsk_24 rfl (lv_at hl 0 rfl) ?_
      refine lv_iload_n hx hb dX1_mayAsk_25 rfl (lv_at hl 3 rfl) ?_
      refine xc_P (va_runV (As := [.int on]) (rest := []) F (xX1_isAhead g1 (A := A) (S := S) (ad := ad) (z := z) on) (cwV 1 hts (lw_V q1007 q1009 qs23 q56 q1010) rfl rfl rfl hdV_X1_isAhead ⟨Nat.le_of_ble_eq_true rfl, Nat.le_of_ble_eq_true rfl⟩) (xpreV (xrecv hK (xw_0 hR) rfl) hWK hS hR) rfl rfl hl.1 rfl (lv_room (Nat.le_of_ble_eq_true rfl)) dX1_mayAsk_26 ⟨Nat.le_of_ble_eq_true rfl, Nat.le_of_ble_eq_true rfl⟩) ?_
      refine x_ifeq (tgt := 72) hx hb dX1_mayAsk_29 (by decide) (fun c_29 => ?_) (fun c_29 => ?_)
      · refine lv_iconst (v := 0) hx hb dX1_mayAsk_72 (by decide) ?_
        exact absurd hok (by simp [xMayAsk, c_5, c_13, c_29])
      · refine lv_iload hx hb dX1_mayAsk_32 (lv_at hl 4 rfl) ?_
        refine lv_if_lt (tgt := 72) hx hb dX1_mayAsk_34 (by decide) (fun c_34 => ?_) (fun c_34 => ?_)
        · have n_34 := Int32.not_le.mpr c_34
          refine lv_iconst (v := 0) hx hb dX1_mayAsk_72 (by decide) ?_
          exact absurd hok (by simp [xMayAsk, c_5, c_13, c_29, c_34, n_34])
        · have n_34 := Int32.not_lt.mp c_34
          refine lv_iload hx hb dX1_mayAsk_37 (lv_at hl 5 rfl) ?_
          refine lv_iconst (v := 1) hx hb dX1_mayAsk_39 (by decide) ?_
          refine lv_sipush (v := 240) hx hb dX1_mayAsk_40 (by decide) ?_
          refine xc_P (va_runS (As := [.int minutes, .int 1, .int 240]) (rest := []) F (xX1_in g1 (A := A) minutes 1 240) (va_cwS 3 hts (lw_S q758 q759 q56 q760) rfl rfl rfl hdS_X1_in ⟨Nat.le_of_ble_eq_true rfl, Nat.le_of_ble_eq_true rfl⟩) (xpre hWK hS trivial) rfl rfl hl.1 rfl (lv_room (Nat.le_of_ble_eq_true rfl)) dX1_mayAsk_43 ⟨Nat.le_of_ble_eq_true rfl, Nat.le_of_ble_eq_true rfl⟩) ?_
          refine x_ifeq (tgt := 72) hx hb dX1_mayAsk_46 (by decide) (fun c_46 => ?_) (fun c_46 => ?_)
          · refine lv_iconst (v := 0) hx hb dX1_mayAsk_72 (by decide) ?_
            exact absurd hok (by simp [xMayAsk, c_5, c_13, c_29, c_34, c_46, n_34])
          · refine lv_iload hx hb dX1_mayAsk_49 (lv_at hl 4 rfl) ?_
            refine lv_sipush (v := 480) hx hb dX1_mayAsk_51 (by decide) ?_
            refine lv_iload hx hb dX1_mayAsk_54 (lv_at hl 5 rfl) ?_
            refine lv_isub hx hb dX1_mayAsk_56 ?_
            refine lv_icmp_gt (tgt := 72) hx hb dX1_mayAsk_57 (by decide) (fun c_57 => ?_) (fun c_57 => ?_)
            · have n_57 := Int32.not_le.mpr c_57
              refine lv_iconst (v := 0) hx hb dX1_mayAsk_72 (by decide) ?_
              exact absurd hok (by simp [xMayAsk, c_5, c_13, c_29, c_34, c_46, c_57, n_34, n_57])
            · have n_57 := Int32.not_lt.mp c_57
              refine lv_iload hx hb dX1_mayAsk_60 (lv_at hl 6 rfl) ?_
              refine xc_P (va_runS (As := [.int work]) (rest := []) F (xX1_isWork g1 (A := A) work) (va_cwS 1 hts (lw_S q1011 q1012 q56 q1013) rfl rfl rfl hdS_X1_isWork ⟨Nat.le_of_ble_eq_true rfl, Nat.le_of_ble_eq_true rfl⟩) (xpre hWK hS trivial) rfl rfl hl.1 rfl (lv_room (Nat.le_of_ble_eq_true rfl)) dX1_mayAsk_62 ⟨Nat.le_of_ble_eq_true rfl, Nat.le_of_ble_eq_true rfl⟩) ?_
              refine x_ifeq (tgt := 72) hx hb dX1_mayAsk_65 (by decide) (fun c_65 => ?_) (fun c_65 => ?_)
              · refine lv_iconst (v := 0) hx hb dX1_mayAsk_72 (by decide) ?_
                exact absurd hok (by simp [xMayAsk, c_5, c_13, c_29, c_34, c_46, c_57, c_65, n_34, n_57])
              · refine lv_iconst (v := 1) hx hb dX1_mayAsk_68 (by decide) ?_
                refine lv_goto (tgt := 73) hx hb dX1_mayAsk_69 (by decide) ?_
                refine xc_P0 (va_runS (As := [.int 1]) (rest := []) F (xX1_want_ok g1 (A := A) true rfl) (va_cwS 1 hts (lw_S q761 q762 q56 q763) rfl rfl rfl hdS_X1_want ⟨Nat.le_of_ble_eq_true rfl, Nat.le_of_ble_eq_true rfl⟩) (xpre hWK hS trivial) rfl rfl hl.1 rfl (lv_room (Nat.le_of_ble_eq_true rfl)) dX1_mayAsk_73 ⟨Nat.le_of_ble_eq_true rfl, Nat.le_of_ble_eq_true rfl⟩) ?_
                exact xr_Pv hx hb hr hlocks dX1_mayAsk_76

set_option maxHeartbeats 4000000 in
theorem xX1_mayAsk_no {l : Launch} {G : xG} {s0 : State} {b0 : Nat} (g1 : xG1 l G s0 b0) {A : Nat → Prop} {S : xS} {ad : Nat × Nat → Nat} {z : xZ} (member machine on start minutes work : Int32) (hok : ¬ xMayAsk S member machine on start minutes work = 0) : vx_Met l yX1_mayAsk (ws_ yX1_mayAsk cX1_mayAsk 7 none) ({ frames := 7, cells := 1, slots := 6, locals := 101 } : Room) (xP s0 A [.ref (ad (0, 0)), .int member, .int machine, .int on, .int start, .int minutes, .int work] (fun H => xRX G A S ad z H)) xQn (xXc (fun E H0 H1 => E = xExn (xMayAsk S member machine on start minutes work) ∧ xGrow H0 H1) A) 1 6 A := by
  refine vx_ofW (cc := cX1_mayAsk) (maxL := 7) (ret := none) (by decide) rfl ?_
  intro p e s m args below meth c s₁ B hml hnt hv
  obtain ⟨rfl, hWK, hR⟩ := hv
  have g := g1.1
  have hx := B.exec
  have hb := B.bytes
  have hr := B.returns
  have hts := atoms_spec (ws := ws_ yX1_mayAsk cX1_mayAsk 7 none) B.pre
  have hts : ∀ w ∈ lw_all, w.before _ s = true := fun w h => hts w (List.mem_cons_of_mem _ h)
  have hown : s.vm.findClass "Lendlathe" = some m.cls := findClass_of_methodNamed B.named
  have hlocks := B.notSynchronized
  have hK := hWK.K g
  have F : CallFix p m c cX1_mayAsk 7 s _ lw_all "Lendlathe" := ⟨hx, hb, hml, hown, hts⟩
  have hS : va_S A s.heap s.heap [] := va_S.rf
  have hl := lv_entry ([.ref (ad (0, 0)), .int member, .int machine, .int on, .int start, .int minutes, .int work]) (n := 7) (Nat.le_of_ble_eq_true rfl)
  rw [lg_entry_eq]
  generalize (lg_sl ([.ref (ad (0, 0)), .int member, .int machine, .int on, .int start, .int minutes, .int work]) ++ List.replicate (7 - (lg_sl ([.ref (ad (0, 0)), .int member, .int machine, .int on, .int start, .int minutes, .int work])).length) Slot.unset).toArray = ls at hl ⊢
  have hl : lv_has ls 7 [(0, .ref (ad (0, 0))), (1, .int member), (2, .int machine), (3, .int on), (4, .int start), (5, .int minutes), (6, .int work)] := hl
  refine lv_aload_n hx hb dX1_mayAsk_0 rfl (lv_at hl 0 rfl) ?_
  refine lv_iload_n hx hb dX1_mayAsk_1 rfl (lv_at hl 1 rfl) ?_
  refine xc_P (va_runV (As := [.int member]) (rest := []) F (xX1_isMember g1 (A := A) (S := S) (ad := ad) (z := z) member) (cwV 1 hts (lw_V q933 q935 qs20 q56 q936) rfl rfl rfl hdV_X1_isMember ⟨Nat.le_of_ble_eq_true rfl, Nat.le_of_ble_eq_true rfl⟩) (xpreV (xrecv hK (xw_0 hR) rfl) hWK hS hR) rfl rfl hl.1 rfl (lv_room (Nat.le_of_ble_eq_true rfl)) dX1_mayAsk_2 ⟨Nat.le_of_ble_eq_true rfl, Nat.le_of_ble_eq_true rfl⟩) ?_
  refine x_ifeq (tgt := 20) hx hb dX1_mayAsk_5 (by decide) (fun c_5 => ?_) (fun c_5 => ?_)
  · refine lv_iconst (v := 0) hx hb dX1_mayAsk_20 (by decide) ?_
    have e9 : xMayAsk S member machine on start minutes work = 4 := by simp [xMayAsk, c_5]
    exact xc_T (vx_runS (As := [.int 0]) (rest := []) F (xX1_there_no g1 (A := A) false rfl) (va_cwS 1 hts (lw_S q937 q938 q56 q939) rfl rfl rfl hdS_X1_there ⟨Nat.le_of_ble_eq_true rfl, Nat.le_of_ble_eq_true rfl⟩) (xpre hWK hS trivial) rfl rfl hl.1 rfl (lv_room (Nat.le_of_ble_eq_true rfl)) dX1_mayAsk_21 ⟨Nat.le_of_ble_eq_true rfl, Nat.le_of_ble_eq_true rfl⟩) hS (fun E ce q9 H locs hX hz hk hS hq9 hv9 hc9 => vx_out (fun x hx => (hnt x hx).elim) hlocks hq9 hv9 hc9 (fun t ht _ => ⟨by rw [ht]; exact ⟨hX.1.trans (congrArg xExn e9).symm, hX.2⟩, hS.F ht⟩) hS.2.2 (Nat.le_of_ble_eq_true rfl) (Nat.le_of_ble_eq_true rfl))
  · refine lv_aload_n hx hb dX1_mayAsk_8 rfl (lv_at hl 0 rfl) ?_
    refine lv_iload_n hx hb dX1_mayAsk_9 rfl (lv_at hl 2 rfl) ?_
    refine xc_P (va_runV (As := [.int machine]) (rest := []) F (xX1_isMachine g1 (A := A) (S := S) (ad := ad) (z := z) machine) (cwV 1 hts (lw_V q1003 q1005 qs22 q56 q1006) rfl rfl rfl hdV_X1_isMachine ⟨Nat.le_of_ble_eq_true rfl, Nat.le_of_ble_eq_true rfl⟩) (xpreV (xrecv hK (xw_0 hR) rfl) hWK hS hR) rfl rfl hl.1 rfl (lv_room (Nat.le_of_ble_eq_true rfl)) dX1_mayAsk_10 ⟨Nat.le_of_ble_eq_true rfl, Nat.le_of_ble_eq_true rfl⟩) ?_
    refine x_ifeq (tgt := 20) hx hb dX1_mayAsk_13 (by decide) (fun c_13 => ?_) (fun c_13 => ?_)
    · refine lv_iconst (v := 0) hx hb dX1_mayAsk_20 (by decide) ?_
      have e9 : xMayAsk S member machine on start minutes work = 4 := by simp [xMayAsk, c_5, c_13]
      exact xc_T (vx_runS (As := [.int 0]) (rest := []) F (xX1_there_no g1 (A := A) false rfl) (va_cwS 1 hts (lw_S q937 q938 q56 q939) rfl rfl rfl hdS_X1_there ⟨Nat.le_of_ble_eq_true rfl, Nat.le_of_ble_eq_true rfl⟩) (xpre hWK hS trivial) rfl rfl hl.1 rfl (lv_room (Nat.le_of_ble_eq_true rfl)) dX1_mayAsk_21 ⟨Nat.le_of_ble_eq_true rfl, Nat.le_of_ble_eq_true rfl⟩) hS (fun E ce q9 H locs hX hz hk hS hq9 hv9 hc9 => vx_out (fun x hx => (hnt x hx).elim) hlocks hq9 hv9 hc9 (fun t ht _ => ⟨by rw [ht]; exact ⟨hX.1.trans (congrArg xExn e9).symm, hX.2⟩, hS.F ht⟩) hS.2.2 (Nat.le_of_ble_eq_true rfl) (Nat.le_of_ble_eq_true rfl))
    · refine lv_iconst (v := 1) hx hb dX1_mayAsk_16 (by decide) ?_
      refine lv_goto (tgt := 21) hx hb dX1_mayAsk_17 (by decide) ?_
      refine xc_P0 (va_runS (As := [.int 1]) (rest := []) F (xX1_there_ok g1 (A := A) true rfl) (va_cwS 1 hts (lw_S q937 q938 q56 q939) rfl rfl rfl hdS_X1_there ⟨Nat.le_of_ble_eq_true rfl, Nat.le_of_ble_eq_true rfl⟩) (xpre hWK hS trivial) rfl rfl hl.1 rfl (lv_room (Nat.le_of_ble_eq_true rfl)) dX1_mayAsk_21 ⟨Nat.le_of_ble_eq_true rfl, Nat.le_of_ble_eq_true rfl⟩) ?_
      refine lv_aload_n hx hb dX1_mayAsk_24 rfl (lv_at hl 0 rfl) ?_
      refine lv_iload_n hx hb dX1_mayAsk_25 rfl (lv_at hl 3 rfl) ?_
      refine xc_P (va_runV (As := [.int on]) (rest := []) F (xX1_isAhead g1 (A := A) (S := S) (ad := ad) (z := z) on) (cwV 1 hts (lw_V q1007 q1009 qs23 q56 q1010) rfl rfl rfl hdV_X1_isAhead ⟨Nat.le_of_ble_eq_true rfl, Nat.le_of_ble_eq_true rfl⟩) (xpreV (xrecv hK (xw_0 hR) rfl) hWK hS hR) rfl rfl hl.1 rfl (lv_room (Nat.le_of_ble_eq_true rfl)) dX1_mayAsk_26 ⟨Nat.le_of_ble_eq_true rfl, Nat.le_of_ble_eq_true rfl⟩) ?_
      refine x_ifeq (tgt := 72) hx hb dX1_mayAsk_29 (by decide) (fun c_29 => ?_) (fun c_29 => ?_)
      · refine lv_iconst (v := 0) hx hb dX1_mayAsk_72 (by decide) ?_
        have e9 : xMayAsk S member machine on start minutes work = 1 := by simp [xMayAsk, c_5, c_13, c_29]
        exact xc_T (vx_runS (As := [.int 0]) (rest := []) F (xX1_want_no g1 (A := A) false rfl) (va_cwS 1 hts (lw_S q761 q762 q56 q763) rfl rfl rfl hdS_X1_want ⟨Nat.le_of_ble_eq_true rfl, Nat.le_of_ble_eq_true rfl⟩) (xpre hWK hS trivial) rfl rfl hl.1 rfl (lv_room (Nat.le_of_ble_eq_true rfl)) dX1_mayAsk_73 ⟨Nat.le_of_ble_eq_true rfl, Nat.le_of_ble_eq_true rfl⟩) hS (fun E ce q9 H locs hX hz hk hS hq9 hv9 hc9 => vx_out (fun x hx => (hnt x hx).elim) hlocks hq9 hv9 hc9 (fun t ht _ => ⟨by rw [ht]; exact ⟨hX.1.trans (congrArg xExn e9).symm, hX.2⟩, hS.F ht⟩) hS.2.2 (Nat.le_of_ble_eq_true rfl) (Nat.le_of_ble_eq_true rfl))
      · refine lv_iload hx hb dX1_mayAsk_32 (lv_at hl 4 rfl) ?_
        refine lv_if_lt (tgt := 72) hx hb dX1_mayAsk_34 (by decide) (fun c_34 => ?_) (fun c_34 => ?_)
        · have n_34 := Int32.not_le.mpr c_34
          refine lv_iconst (v := 0) hx hb dX1_mayAsk_72 (by decide) ?_
          have e9 : xMayAsk S member machine on start minutes work = 1 := by simp [xMayAsk, c_5, c_13, c_29, c_34, n_34]
          exact xc_T (vx_runS (As := [.int 0]) (rest := []) F (xX1_want_no g1 (A := A) false rfl) (va_cwS 1 hts (lw_S q761 q762 q56 q763) rfl rfl rfl hdS_X1_want ⟨Nat.le_of_ble_eq_true rfl, Nat.le_of_ble_eq_true rfl⟩) (xpre hWK hS trivial) rfl rfl hl.1 rfl (lv_room (Nat.le_of_ble_eq_true rfl)) dX1_mayAsk_73 ⟨Nat.le_of_ble_eq_true rfl, Nat.le_of_ble_eq_true rfl⟩) hS (fun E ce q9 H locs hX hz hk hS hq9 hv9 hc9 => vx_out (fun x hx => (hnt x hx).elim) hlocks hq9 hv9 hc9 (fun t ht _ => ⟨by rw [ht]; exact ⟨hX.1.trans (congrArg xExn e9).symm, hX.2⟩, hS.F ht⟩) hS.2.2 (Nat.le_of_ble_eq_true rfl) (Nat.le_of_ble_eq_true rfl))
        · have n_34 := Int32.not_lt.mp c_34
          refine lv_iload hx hb dX1_mayAsk_37 (lv_at hl 5 rfl) ?_
          refine lv_iconst (v := 1) hx hb dX1_mayAsk_39 (by decide) ?_
          refine lv_sipush (v := 240) hx hb dX1_mayAsk_40 (by decide) ?_
          refine xc_P (va_runS (As := [.int minutes, .int 1, .int 240]) (rest := []) F (xX1_in g1 (A := A) minutes 1 240) (va_cwS 3 hts (lw_S q758 q759 q56 q760) rfl rfl rfl hdS_X1_in ⟨Nat.le_of_ble_eq_true rfl, Nat.le_of_ble_eq_true rfl⟩) (xpre hWK hS trivial) rfl rfl hl.1 rfl (lv_room (Nat.le_of_ble_eq_true rfl)) dX1_mayAsk_43 ⟨Nat.le_of_ble_eq_true rfl, Nat.le_of_ble_eq_true rfl⟩) ?_
          refine x_ifeq (tgt := 72) hx hb dX1_mayAsk_46 (by decide) (fun c_46 => ?_) (fun c_46 => ?_)
          · refine lv_iconst (v := 0) hx hb dX1_mayAsk_72 (by decide) ?_
            have e9 : xMayAsk S member machine on start minutes work = 1 := by simp [xMayAsk, c_5, c_13, c_29, c_34, c_46, n_34]
            exact xc_T (vx_runS (As := [.int 0]) (rest := []) F (xX1_want_no g1 (A := A) false rfl) (va_cwS 1 hts (lw_S q761 q762 q56 q763) rfl rfl rfl hdS_X1_want ⟨Nat.le_of_ble_eq_true rfl, Nat.le_of_ble_eq_true rfl⟩) (xpre hWK hS trivial) rfl rfl hl.1 rfl (lv_room (Nat.le_of_ble_eq_true rfl)) dX1_mayAsk_73 ⟨Nat.le_of_ble_eq_true rfl, Nat.le_of_ble_eq_true rfl⟩) hS (fun E ce q9 H locs hX hz hk hS hq9 hv9 hc9 => vx_out (fun x hx => (hnt x hx).elim) hlocks hq9 hv9 hc9 (fun t ht _ => ⟨by rw [ht]; exact ⟨hX.1.trans (congrArg xExn e9).symm, hX.2⟩, hS.F ht⟩) hS.2.2 (Nat.le_of_ble_eq_true rfl) (Nat.le_of_ble_eq_true rfl))
          · refine lv_iload hx hb dX1_mayAsk_49 (lv_at hl 4 rfl) ?_
            refine lv_sipush (v := 480) hx hb dX1_mayAsk_51 (by decide) ?_
            refine lv_iload hx hb dX1_mayAsk_54 (lv_at hl 5 rfl) ?_
            refine lv_isub hx hb dX1_mayAsk_56 ?_
            refine lv_icmp_gt (tgt := 72) hx hb dX1_mayAsk_57 (by decide) (fun c_57 => ?_) (fun c_57 => ?_)
            · have n_57 := Int32.not_le.mpr c_57
              refine lv_iconst (v := 0) hx hb dX1_mayAsk_72 (by decide) ?_
              have e9 : xMayAsk S member machine on start minutes work = 1 := by simp [xMayAsk, c_5, c_13, c_29, c_34, c_46, c_57, n_34, n_57]
              exact xc_T (vx_runS (As := [.int 0]) (rest := []) F (xX1_want_no g1 (A := A) false rfl) (va_cwS 1 hts (lw_S q761 q762 q56 q763) rfl rfl rfl hdS_X1_want ⟨Nat.le_of_ble_eq_true rfl, Nat.le_of_ble_eq_true rfl⟩) (xpre hWK hS trivial) rfl rfl hl.1 rfl (lv_room (Nat.le_of_ble_eq_true rfl)) dX1_mayAsk_73 ⟨Nat.le_of_ble_eq_true rfl, Nat.le_of_ble_eq_true rfl⟩) hS (fun E ce q9 H locs hX hz hk hS hq9 hv9 hc9 => vx_out (fun x hx => (hnt x hx).elim) hlocks hq9 hv9 hc9 (fun t ht _ => ⟨by rw [ht]; exact ⟨hX.1.trans (congrArg xExn e9).symm, hX.2⟩, hS.F ht⟩) hS.2.2 (Nat.le_of_ble_eq_true rfl) (Nat.le_of_ble_eq_true rfl))
            · have n_57 := Int32.not_lt.mp c_57
              refine lv_iload hx hb dX1_mayAsk_60 (lv_at hl 6 rfl) ?_
              refine xc_P (va_runS (As := [.int work]) (rest := []) F (xX1_isWork g1 (A := A) work) (va_cwS 1 hts (lw_S q1011 q1012 q56 q1013) rfl rfl rfl hdS_X1_isWork ⟨Nat.le_of_ble_eq_true rfl, Nat.le_of_ble_eq_true rfl⟩) (xpre hWK hS trivial) rfl rfl hl.1 rfl (lv_room (Nat.le_of_ble_eq_true rfl)) dX1_mayAsk_62 ⟨Nat.le_of_ble_eq_true rfl, Nat.le_of_ble_eq_true rfl⟩) ?_
              refine x_ifeq (tgt := 72) hx hb dX1_mayAsk_65 (by decide) (fun c_65 => ?_) (fun c_65 => ?_)
              · refine lv_iconst (v := 0) hx hb dX1_mayAsk_72 (by decide) ?_
                have e9 : xMayAsk S member machine on start minutes work = 1 := by simp [xMayAsk, c_5, c_13, c_29, c_34, c_46, c_57, c_65, n_34, n_57]
                exact xc_T (vx_runS (As := [.int 0]) (rest := []) F (xX1_want_no g1 (A := A) false rfl) (va_cwS 1 hts (lw_S q761 q762 q56 q763) rfl rfl rfl hdS_X1_want ⟨Nat.le_of_ble_eq_true rfl, Nat.le_of_ble_eq_true rfl⟩) (xpre hWK hS trivial) rfl rfl hl.1 rfl (lv_room (Nat.le_of_ble_eq_true rfl)) dX1_mayAsk_73 ⟨Nat.le_of_ble_eq_true rfl, Nat.le_of_ble_eq_true rfl⟩) hS (fun E ce q9 H locs hX hz hk hS hq9 hv9 hc9 => vx_out (fun x hx => (hnt x hx).elim) hlocks hq9 hv9 hc9 (fun t ht _ => ⟨by rw [ht]; exact ⟨hX.1.trans (congrArg xExn e9).symm, hX.2⟩, hS.F ht⟩) hS.2.2 (Nat.le_of_ble_eq_true rfl) (Nat.le_of_ble_eq_true rfl))
              · refine lv_iconst (v := 1) hx hb dX1_mayAsk_68 (by decide) ?_
                refine lv_goto (tgt := 73) hx hb dX1_mayAsk_69 (by decide) ?_
                refine xc_P0 (va_runS (As := [.int 1]) (rest := []) F (xX1_want_ok g1 (A := A) true rfl) (va_cwS 1 hts (lw_S q761 q762 q56 q763) rfl rfl rfl hdS_X1_want ⟨Nat.le_of_ble_eq_true rfl, Nat.le_of_ble_eq_true rfl⟩) (xpre hWK hS trivial) rfl rfl hl.1 rfl (lv_room (Nat.le_of_ble_eq_true rfl)) dX1_mayAsk_73 ⟨Nat.le_of_ble_eq_true rfl, Nat.le_of_ble_eq_true rfl⟩) ?_
                exact absurd hok (by simp [xMayAsk, c_5, c_13, c_29, c_34, c_46, c_57, c_65, n_34, n_57])

set_option maxHeartbeats 4000000 in
theorem xX1_mayLook_ok {l : Launch} {G : xG} {s0 : State} {b0 : Nat} (g1 : xG1 l G s0 b0) {A : Nat → Prop} {S : xS} {ad : Nat × Nat → Nat} {z : xZ} (machine on : Int32) (hok : xMayLook S machine on = 0) : Met l yX1_mayLook (ws_ yX1_mayLook cX1_mayLook 3 none) ({ frames := 7, cells := 0, slots := 0, locals := 101 } : Room) (xP s0 A [.ref (ad (0, 0)), .int machine, .int on] (fun H => xRX G A S ad z H)) (xQp none) 0 0 (fun _ => False) := by
  refine Met.ofW (cc := cX1_mayLook) (maxL := 3) (ret := none) (by decide) rfl ?_
  intro p e s m args below meth c s₁ B hml hv
  obtain ⟨rfl, hWK, hR⟩ := hv
  have g := g1.1
  have hx := B.exec
  have hb := B.bytes
  have hr := B.returns
  have hts := atoms_spec (ws := ws_ yX1_mayLook cX1_mayLook 3 none) B.pre
  have hts : ∀ w ∈ lw_all, w.before _ s = true := fun w h => hts w (List.mem_cons_of_mem _ h)
  have hown : s.vm.findClass "Lendlathe" = some m.cls := findClass_of_methodNamed B.named
  have hlocks := B.notSynchronized
  have hK := hWK.K g
  have F : CallFix p m c cX1_mayLook 3 s _ lw_all "Lendlathe" := ⟨hx, hb, hml, hown, hts⟩
  have hS : va_S A s.heap s.heap [] := va_S.rf
  have hl := lv_entry ([.ref (ad (0, 0)), .int machine, .int on]) (n := 3) (Nat.le_of_ble_eq_true rfl)
  rw [lg_entry_eq]
  generalize (lg_sl ([.ref (ad (0, 0)), .int machine, .int on]) ++ List.replicate (3 - (lg_sl ([.ref (ad (0, 0)), .int machine, .int on])).length) Slot.unset).toArray = ls at hl ⊢
  have hl : lv_has ls 3 [(0, .ref (ad (0, 0))), (1, .int machine), (2, .int on)] := hl
  refine lv_aload_n hx hb dX1_mayLook_0 rfl (lv_at hl 0 rfl) ?_
  refine lv_iload_n hx hb dX1_mayLook_1 rfl (lv_at hl 1 rfl) ?_
  refine xc_P (va_runV (As := [.int machine]) (rest := []) F (xX1_isMachine g1 (A := A) (S := S) (ad := ad) (z := z) machine) (cwV 1 hts (lw_V q1003 q1005 qs22 q56 q1006) rfl rfl rfl hdV_X1_isMachine ⟨Nat.le_of_ble_eq_true rfl, Nat.le_of_ble_eq_true rfl⟩) (xpreV (xrecv hK (xw_0 hR) rfl) hWK hS hR) rfl rfl hl.1 rfl (lv_room (Nat.le_of_ble_eq_true rfl)) dX1_mayLook_2 ⟨Nat.le_of_ble_eq_true rfl, Nat.le_of_ble_eq_true rfl⟩) ?_
  rcases xbtf (inI machine 0 (nI (S.1 0 0) - 1)) with c_5 | c_5
  · refine xc_P0 (va_runS (As := [.int (bI (inI machine 0 (nI (S.1 0 0) - 1)))]) (rest := []) F (xX1_there_ok g1 (A := A) (inI machine 0 (nI (S.1 0 0) - 1)) c_5) (va_cwS 1 hts (lw_S q937 q938 q56 q939) rfl rfl rfl hdS_X1_there ⟨Nat.le_of_ble_eq_true rfl, Nat.le_of_ble_eq_true rfl⟩) (xpre hWK hS trivial) rfl rfl hl.1 rfl (lv_room (Nat.le_of_ble_eq_true rfl)) dX1_mayLook_5 ⟨Nat.le_of_ble_eq_true rfl, Nat.le_of_ble_eq_true rfl⟩) ?_
    refine lv_iload_n hx hb dX1_mayLook_8 rfl (lv_at hl 2 rfl) ?_
    refine lv_iconst (v := 0) hx hb dX1_mayLook_9 (by decide) ?_
    refine lv_aload_n hx hb dX1_mayLook_10 rfl (lv_at hl 0 rfl) ?_
    refine g_X1_215 F hK (xw_0 hR) (v := .int (S.2.1 7 0 0)) rfl dX1_mayLook_11 ?_
    refine lv_bipush (v := 6) hx hb dX1_mayLook_14 (by decide) ?_
    refine lv_iadd hx hb dX1_mayLook_16 ?_
    refine xc_P (va_runS (As := [.int on, .int 0, .int ((S.2.1 7 0 0) + 6)]) (rest := []) F (xX1_in g1 (A := A) on 0 ((S.2.1 7 0 0) + 6)) (va_cwS 3 hts (lw_S q758 q759 q56 q760) rfl rfl rfl hdS_X1_in ⟨Nat.le_of_ble_eq_true rfl, Nat.le_of_ble_eq_true rfl⟩) (xpre hWK hS trivial) rfl rfl hl.1 rfl (lv_room (Nat.le_of_ble_eq_true rfl)) dX1_mayLook_17 ⟨Nat.le_of_ble_eq_true rfl, Nat.le_of_ble_eq_true rfl⟩) ?_
    rcases xbtf (inI on 0 ((S.2.1 7 0 0) + 6)) with c_20 | c_20
    · refine xc_P0 (va_runS (As := [.int (bI (inI on 0 ((S.2.1 7 0 0) + 6)))]) (rest := []) F (xX1_want_ok g1 (A := A) (inI on 0 ((S.2.1 7 0 0) + 6)) c_20) (va_cwS 1 hts (lw_S q761 q762 q56 q763) rfl rfl rfl hdS_X1_want ⟨Nat.le_of_ble_eq_true rfl, Nat.le_of_ble_eq_true rfl⟩) (xpre hWK hS trivial) rfl rfl hl.1 rfl (lv_room (Nat.le_of_ble_eq_true rfl)) dX1_mayLook_20 ⟨Nat.le_of_ble_eq_true rfl, Nat.le_of_ble_eq_true rfl⟩) ?_
      exact xr_Pv hx hb hr hlocks dX1_mayLook_23
    · exact absurd hok (by simp [xMayLook, c_5, c_20])
  · exact absurd hok (by simp [xMayLook, c_5])

set_option maxHeartbeats 4000000 in
theorem xX1_mayLook_no {l : Launch} {G : xG} {s0 : State} {b0 : Nat} (g1 : xG1 l G s0 b0) {A : Nat → Prop} {S : xS} {ad : Nat × Nat → Nat} {z : xZ} (machine on : Int32) (hok : ¬ xMayLook S machine on = 0) : vx_Met l yX1_mayLook (ws_ yX1_mayLook cX1_mayLook 3 none) ({ frames := 7, cells := 1, slots := 6, locals := 101 } : Room) (xP s0 A [.ref (ad (0, 0)), .int machine, .int on] (fun H => xRX G A S ad z H)) xQn (xXc (fun E H0 H1 => E = xExn (xMayLook S machine on) ∧ xGrow H0 H1) A) 1 6 A := by
  refine vx_ofW (cc := cX1_mayLook) (maxL := 3) (ret := none) (by decide) rfl ?_
  intro p e s m args below meth c s₁ B hml hnt hv
  obtain ⟨rfl, hWK, hR⟩ := hv
  have g := g1.1
  have hx := B.exec
  have hb := B.bytes
  have hr := B.returns
  have hts := atoms_spec (ws := ws_ yX1_mayLook cX1_mayLook 3 none) B.pre
  have hts : ∀ w ∈ lw_all, w.before _ s = true := fun w h => hts w (List.mem_cons_of_mem _ h)
  have hown : s.vm.findClass "Lendlathe" = some m.cls := findClass_of_methodNamed B.named
  have hlocks := B.notSynchronized
  have hK := hWK.K g
  have F : CallFix p m c cX1_mayLook 3 s _ lw_all "Lendlathe" := ⟨hx, hb, hml, hown, hts⟩
  have hS : va_S A s.heap s.heap [] := va_S.rf
  have hl := lv_entry ([.ref (ad (0, 0)), .int machine, .int on]) (n := 3) (Nat.le_of_ble_eq_true rfl)
  rw [lg_entry_eq]
  generalize (lg_sl ([.ref (ad (0, 0)), .int machine, .int on]) ++ List.replicate (3 - (lg_sl ([.ref (ad (0, 0)), .int machine, .int on])).length) Slot.unset).toArray = ls at hl ⊢
  have hl : lv_has ls 3 [(0, .ref (ad (0, 0))), (1, .int machine), (2, .int on)] := hl
  refine lv_aload_n hx hb dX1_mayLook_0 rfl (lv_at hl 0 rfl) ?_
  refine lv_iload_n hx hb dX1_mayLook_1 rfl (lv_at hl 1 rfl) ?_
  refine xc_P (va_runV (As := [.int machine]) (rest := []) F (xX1_isMachine g1 (A := A) (S := S) (ad := ad) (z := z) machine) (cwV 1 hts (lw_V q1003 q1005 qs22 q56 q1006) rfl rfl rfl hdV_X1_isMachine ⟨Nat.le_of_ble_eq_true rfl, Nat.le_of_ble_eq_true rfl⟩) (xpreV (xrecv hK (xw_0 hR) rfl) hWK hS hR) rfl rfl hl.1 rfl (lv_room (Nat.le_of_ble_eq_true rfl)) dX1_mayLook_2 ⟨Nat.le_of_ble_eq_true rfl, Nat.le_of_ble_eq_true rfl⟩) ?_
  rcases xbtf (inI machine 0 (nI (S.1 0 0) - 1)) with c_5 | c_5
  · refine xc_P0 (va_runS (As := [.int (bI (inI machine 0 (nI (S.1 0 0) - 1)))]) (rest := []) F (xX1_there_ok g1 (A := A) (inI machine 0 (nI (S.1 0 0) - 1)) c_5) (va_cwS 1 hts (lw_S q937 q938 q56 q939) rfl rfl rfl hdS_X1_there ⟨Nat.le_of_ble_eq_true rfl, Nat.le_of_ble_eq_true rfl⟩) (xpre hWK hS trivial) rfl rfl hl.1 rfl (lv_room (Nat.le_of_ble_eq_true rfl)) dX1_mayLook_5 ⟨Nat.le_of_ble_eq_true rfl, Nat.le_of_ble_eq_true rfl⟩) ?_
    refine lv_iload_n hx hb dX1_mayLook_8 rfl (lv_at hl 2 rfl) ?_
    refine lv_iconst (v := 0) hx hb dX1_mayLook_9 (by decide) ?_
    refine lv_aload_n hx hb dX1_mayLook_10 rfl (lv_at hl 0 rfl) ?_
    refine g_X1_215 F hK (xw_0 hR) (v := .int (S.2.1 7 0 0)) rfl dX1_mayLook_11 ?_
    refine lv_bipush (v := 6) hx hb dX1_mayLook_14 (by decide) ?_
    refine lv_iadd hx hb dX1_mayLook_16 ?_
    refine xc_P (va_runS (As := [.int on, .int 0, .int ((S.2.1 7 0 0) + 6)]) (rest := []) F (xX1_in g1 (A := A) on 0 ((S.2.1 7 0 0) + 6)) (va_cwS 3 hts (lw_S q758 q759 q56 q760) rfl rfl rfl hdS_X1_in ⟨Nat.le_of_ble_eq_true rfl, Nat.le_of_ble_eq_true rfl⟩) (xpre hWK hS trivial) rfl rfl hl.1 rfl (lv_room (Nat.le_of_ble_eq_true rfl)) dX1_mayLook_17 ⟨Nat.le_of_ble_eq_true rfl, Nat.le_of_ble_eq_true rfl⟩) ?_
    rcases xbtf (inI on 0 ((S.2.1 7 0 0) + 6)) with c_20 | c_20
    · refine xc_P0 (va_runS (As := [.int (bI (inI on 0 ((S.2.1 7 0 0) + 6)))]) (rest := []) F (xX1_want_ok g1 (A := A) (inI on 0 ((S.2.1 7 0 0) + 6)) c_20) (va_cwS 1 hts (lw_S q761 q762 q56 q763) rfl rfl rfl hdS_X1_want ⟨Nat.le_of_ble_eq_true rfl, Nat.le_of_ble_eq_true rfl⟩) (xpre hWK hS trivial) rfl rfl hl.1 rfl (lv_room (Nat.le_of_ble_eq_true rfl)) dX1_mayLook_20 ⟨Nat.le_of_ble_eq_true rfl, Nat.le_of_ble_eq_true rfl⟩) ?_
      exact absurd hok (by simp [xMayLook, c_5, c_20])
    · have e9 : xMayLook S machine on = 1 := by simp [xMayLook, c_5, c_20]
      exact xc_T (vx_runS (As := [.int (bI (inI on 0 ((S.2.1 7 0 0) + 6)))]) (rest := []) F (xX1_want_no g1 (A := A) (inI on 0 ((S.2.1 7 0 0) + 6)) c_20) (va_cwS 1 hts (lw_S q761 q762 q56 q763) rfl rfl rfl hdS_X1_want ⟨Nat.le_of_ble_eq_true rfl, Nat.le_of_ble_eq_true rfl⟩) (xpre hWK hS trivial) rfl rfl hl.1 rfl (lv_room (Nat.le_of_ble_eq_true rfl)) dX1_mayLook_20 ⟨Nat.le_of_ble_eq_true rfl, Nat.le_of_ble_eq_true rfl⟩) hS (fun E ce q9 H locs hX hz hk hS hq9 hv9 hc9 => vx_out (fun x hx => (hnt x hx).elim) hlocks hq9 hv9 hc9 (fun t ht _ => ⟨by rw [ht]; exact ⟨hX.1.trans (congrArg xExn e9).symm, hX.2⟩, hS.F ht⟩) hS.2.2 (Nat.le_of_ble_eq_true rfl) (Nat.le_of_ble_eq_true rfl))
  · have e9 : xMayLook S machine on = 4 := by simp [xMayLook, c_5]
    exact xc_T (vx_runS (As := [.int (bI (inI machine 0 (nI (S.1 0 0) - 1)))]) (rest := []) F (xX1_there_no g1 (A := A) (inI machine 0 (nI (S.1 0 0) - 1)) c_5) (va_cwS 1 hts (lw_S q937 q938 q56 q939) rfl rfl rfl hdS_X1_there ⟨Nat.le_of_ble_eq_true rfl, Nat.le_of_ble_eq_true rfl⟩) (xpre hWK hS trivial) rfl rfl hl.1 rfl (lv_room (Nat.le_of_ble_eq_true rfl)) dX1_mayLook_5 ⟨Nat.le_of_ble_eq_true rfl, Nat.le_of_ble_eq_true rfl⟩) hS (fun E ce q9 H locs hX hz hk hS hq9 hv9 hc9 => vx_out (fun x hx => (hnt x hx).elim) hlocks hq9 hv9 hc9 (fun t ht _ => ⟨by rw [ht]; exact ⟨hX.1.trans (congrArg xExn e9).symm, hX.2⟩, hS.F ht⟩) hS.2.2 (Nat.le_of_ble_eq_true rfl) (Nat.le_of_ble_eq_true rfl))

set_option maxHeartbeats 4000000 in
theorem xX1_mayStart_ok {l : Launch} {G : xG} {s0 : State} {b0 : Nat} (g1 : xG1 l G s0 b0) {A : Nat → Prop} {S : xS} {ad : Nat × Nat → Nat} {z : xZ} (machine on minutes work : Int32) (hok : xMayStart S machine on minutes work = 0) : Met l yX1_mayStart (ws_ yX1_mayStart cX1_mayStart 5 none) ({ frames := 7, cells := 0, slots := 0, locals := 101 } : Room) (xP s0 A [.ref (ad (0, 0)), .int machine, .int on, .int minutes, .int work] (fun H => xRX G A S ad z H)) (xQp none) 0 0 (fun _ => False) := by
  refine Met.ofW (cc := cX1_mayStart) (maxL := 5) (ret := none) (by decide) rfl ?_
  intro p e s m args below meth c s₁ B hml hv
  obtain ⟨rfl, hWK, hR⟩ := hv
  have g := g1.1
  have hx := B.exec
  have hb := B.bytes
  have hr := B.returns
  have hts := atoms_spec (ws := ws_ yX1_mayStart cX1_mayStart 5 none) B.pre
  have hts : ∀ w ∈ lw_all, w.before _ s = true := fun w h => hts w (List.mem_cons_of_mem _ h)
  have hown : s.vm.findClass "Lendlathe" = some m.cls := findClass_of_methodNamed B.named
  have hlocks := B.notSynchronized
  have hK := hWK.K g
  have F : CallFix p m c cX1_mayStart 5 s _ lw_all "Lendlathe" := ⟨hx, hb, hml, hown, hts⟩
  have hS : va_S A s.heap s.heap [] := va_S.rf
  have hl := lv_entry ([.ref (ad (0, 0)), .int machine, .int on, .int minutes, .int work]) (n := 5) (Nat.le_of_ble_eq_true rfl)
  rw [lg_entry_eq]
  generalize (lg_sl ([.ref (ad (0, 0)), .int machine, .int on, .int minutes, .int work]) ++ List.replicate (5 - (lg_sl ([.ref (ad (0, 0)), .int machine, .int on, .int minutes, .int work])).length) Slot.unset).toArray = ls at hl ⊢
  have hl : lv_has ls 5 [(0, .ref (ad (0, 0))), (1, .int machine), (2, .int on), (3, .int minutes), (4, .int work)] := hl
  refine lv_aload_n hx hb dX1_mayStart_0 rfl (lv_at hl 0 rfl) ?_
  refine lv_iload_n hx hb dX1_mayStart_1 rfl (lv_at hl 1 rfl) ?_
  refine xc_P (va_runV (As := [.int machine]) (rest := []) F (xX1_isMachine g1 (A := A) (S := S) (ad := ad) (z := z) machine) (cwV 1 hts (lw_V q1003 q1005 qs22 q56 q1006) rfl rfl rfl hdV_X1_isMachine ⟨Nat.le_of_ble_eq_true rfl, Nat.le_of_ble_eq_true rfl⟩) (xpreV (xrecv hK (xw_0 hR) rfl) hWK hS hR) rfl rfl hl.1 rfl (lv_room (Nat.le_of_ble_eq_true rfl)) dX1_mayStart_2 ⟨Nat.le_of_ble_eq_true rfl, Nat.le_of_ble_eq_true rfl⟩) ?_
  rcases xbtf (inI machine 0 (nI (S.1 0 0) - 1)) with c_5 | c_5
  · refine xc_P0 (va_runS (As := [.int (bI (inI machine 0 (nI (S.1 0 0) - 1)))]) (rest := []) F (xX1_there_ok g1 (A := A) (inI machine 0 (nI (S.1 0 0) - 1)) c_5) (va_cwS 1 hts (lw_S q937 q938 q56 q939) rfl rfl rfl hdS_X1_there ⟨Nat.le_of_ble_eq_true rfl, Nat.le_of_ble_eq_true rfl⟩) (xpre hWK hS trivial) rfl rfl hl.1 rfl (lv_room (Nat.le_of_ble_eq_true rfl)) dX1_mayStart_5 ⟨Nat.le_of_ble_eq_true rfl, Nat.le_of_ble_eq_true rfl⟩) ?_
    refine lv_aload_n hx hb dX1_mayStart_8 rfl (lv_at hl 0 rfl) ?_
    refine lv_iload_n hx hb dX1_mayStart_9 rfl (lv_at hl 2 rfl) ?_
    refine xc_P (va_runV (As := [.int on]) (rest := []) F (xX1_isAhead g1 (A := A) (S := S) (ad := ad) (z := z) on) (cwV 1 hts (lw_V q1007 q1009 qs23 q56 q1010) rfl rfl rfl hdV_X1_isAhead ⟨Nat.le_of_ble_eq_true rfl, Nat.le_of_ble_eq_true rfl⟩) (xpreV (xrecv hK (xw_0 hR) rfl) hWK hS hR) rfl rfl hl.1 rfl (lv_room (Nat.le_of_ble_eq_true rfl)) dX1_mayStart_10 ⟨Nat.le_of_ble_eq_true rfl, Nat.le_of_ble_eq_true rfl⟩) ?_
    refine x_ifeq (tgt := 39) hx hb dX1_mayStart_13 (by decide) (fun c_13 => ?_) (fun c_13 => ?_)
    · refine lv_iconst (v := 0) hx hb dX1_mayStart_39 (by decide) ?_
      exact absurd hok (by simp [xMayStart, c_5, c_13])
    · refine lv_iload_n hx hb dX1_mayStart_16 rfl (lv_at hl 3 rfl) ?_
      refine lv_iconst (v := 1) hx hb dX1_mayStart_17 (by decide) ?_
      refine lv_sipush (v := 240) hx hb dX1_mayStart_18 (by decide) ?_
      refine xc_P (va_runS (As := [.int minutes, .int 1, .int 240]) (rest := []) F (xX1_in g1 (A := A) minutes 1 240) (va_cwS 3 hts (lw_S q758 q759 q56 q760) rfl rfl rfl hdS_X1_in ⟨Nat.le_of_ble_eq_true rfl, Nat.le_of_ble_eq_true rfl⟩) (xpre hWK hS trivial) rfl rfl hl.1 rfl (lv_room (Nat.le_of_ble_eq_true rfl)) dX1_mayStart_21 ⟨Nat.le_of_ble_eq_true rfl, Nat.le_of_ble_eq_true rfl⟩) ?_
      refine x_ifeq (tgt := 39) hx hb dX1_mayStart_24 (by decide) (fun c_24 => ?_) (fun c_24 => ?_)
      · refine lv_iconst (v := 0) hx hb dX1_mayStart_39 (by decide) ?_
        exact absurd hok (by simp [xMayStart, c_5, c_13, c_24])
      · refine lv_iload hx hb dX1_mayStart_27 (lv_at hl 4 rfl) ?_
        refine xc_P (va_runS (As := [.int work]) (rest := []) F (xX1_isWork g1 (A := A) work) (va_cwS 1 hts (lw_S q1011 q1012 q56 q1013) rfl rfl rfl hdS_X1_isWork ⟨Nat.le_of_ble_eq_true rfl, Nat.le_of_ble_eq_true rfl⟩) (xpre hWK hS trivial) rfl rfl hl.1 rfl (lv_room (Nat.le_of_ble_eq_true rfl)) dX1_mayStart_29 ⟨Nat.le_of_ble_eq_true rfl, Nat.le_of_ble_eq_true rfl⟩) ?_
        refine x_ifeq (tgt := 39) hx hb dX1_mayStart_32 (by decide) (fun c_32 => ?_) (fun c_32 => ?_)
        · refine lv_iconst (v := 0) hx hb dX1_mayStart_39 (by decide) ?_
          exact absurd hok (by simp [xMayStart, c_5, c_13, c_24, c_32])
        · refine lv_iconst (v := 1) hx hb dX1_mayStart_35 (by decide) ?_
          refine lv_goto (tgt := 40) hx hb dX1_mayStart_36 (by decide) ?_
          refine xc_P0 (va_runS (As := [.int 1]) (rest := []) F (xX1_want_ok g1 (A := A) true rfl) (va_cwS 1 hts (lw_S q761 q762 q56 q763) rfl rfl rfl hdS_X1_want ⟨Nat.le_of_ble_eq_true rfl, Nat.le_of_ble_eq_true rfl⟩) (xpre hWK hS trivial) rfl rfl hl.1 rfl (lv_room (Nat.le_of_ble_eq_true rfl)) dX1_mayStart_40 ⟨Nat.le_of_ble_eq_true rfl, Nat.le_of_ble_eq_true rfl⟩) ?_
          exact xr_Pv hx hb hr hlocks dX1_mayStart_43
  · exact absurd hok (by simp [xMayStart, c_5])

set_option maxHeartbeats 4000000 in
theorem xX1_mayStart_no {l : Launch} {G : xG} {s0 : State} {b0 : Nat} (g1 : xG1 l G s0 b0) {A : Nat → Prop} {S : xS} {ad : Nat × Nat → Nat} {z : xZ} (machine on minutes work : Int32) (hok : ¬ xMayStart S machine on minutes work = 0) : vx_Met l yX1_mayStart (ws_ yX1_mayStart cX1_mayStart 5 none) ({ frames := 7, cells := 1, slots := 6, locals := 101 } : Room) (xP s0 A [.ref (ad (0, 0)), .int machine, .int on, .int minutes, .int work] (fun H => xRX G A S ad z H)) xQn (xXc (fun E H0 H1 => E = xExn (xMayStart S machine on minutes work) ∧ xGrow H0 H1) A) 1 6 A := by
  refine vx_ofW (cc := cX1_mayStart) (maxL := 5) (ret := none) (by decide) rfl ?_
  intro p e s m args below meth c s₁ B hml hnt hv
  obtain ⟨rfl, hWK, hR⟩ := hv
  have g := g1.1
  have hx := B.exec
  have hb := B.bytes
  have hr := B.returns
  have hts := atoms_spec (ws := ws_ yX1_mayStart cX1_mayStart 5 none) B.pre
  have hts : ∀ w ∈ lw_all, w.before _ s = true := fun w h => hts w (List.mem_cons_of_mem _ h)
  have hown : s.vm.findClass "Lendlathe" = some m.cls := findClass_of_methodNamed B.named
  have hlocks := B.notSynchronized
  have hK := hWK.K g
  have F : CallFix p m c cX1_mayStart 5 s _ lw_all "Lendlathe" := ⟨hx, hb, hml, hown, hts⟩
  have hS : va_S A s.heap s.heap [] := va_S.rf
  have hl := lv_entry ([.ref (ad (0, 0)), .int machine, .int on, .int minutes, .int work]) (n := 5) (Nat.le_of_ble_eq_true rfl)
  rw [lg_entry_eq]
  generalize (lg_sl ([.ref (ad (0, 0)), .int machine, .int on, .int minutes, .int work]) ++ List.replicate (5 - (lg_sl ([.ref (ad (0, 0)), .int machine, .int on, .int minutes, .int work])).length) Slot.unset).toArray = ls at hl ⊢
  have hl : lv_has ls 5 [(0, .ref (ad (0, 0))), (1, .int machine), (2, .int on), (3, .int minutes), (4, .int work)] := hl
  refine lv_aload_n hx hb dX1_mayStart_0 rfl (lv_at hl 0 rfl) ?_
  refine lv_iload_n hx hb dX1_mayStart_1 rfl (lv_at hl 1 rfl) ?_
  refine xc_P (va_runV (As := [.int machine]) (rest := []) F (xX1_isMachine g1 (A := A) (S := S) (ad := ad) (z := z) machine) (cwV 1 hts (lw_V q1003 q1005 qs22 q56 q1006) rfl rfl rfl hdV_X1_isMachine ⟨Nat.le_of_ble_eq_true rfl, Nat.le_of_ble_eq_true rfl⟩) (xpreV (xrecv hK (xw_0 hR) rfl) hWK hS hR) rfl rfl hl.1 rfl (lv_room (Nat.le_of_ble_eq_true rfl)) dX1_mayStart_2 ⟨Nat.le_of_ble_eq_true rfl, Nat.le_of_ble_eq_true rfl⟩) ?_
  rcases xbtf (inI machine 0 (nI (S.1 0 0) - 1)) with c_5 | c_5
  · refine xc_P0 (va_runS (As := [.int (bI (inI machine 0 (nI (S.1 0 0) - 1)))]) (rest := []) F (xX1_there_ok g1 (A := A) (inI machine 0 (nI (S.1 0 0) - 1)) c_5) (va_cwS 1 hts (lw_S q937 q938 q56 q939) rfl rfl rfl hdS_X1_there ⟨Nat.le_of_ble_eq_true rfl, Nat.le_of_ble_eq_true rfl⟩) (xpre hWK hS trivial) rfl rfl hl.1 rfl (lv_room (Nat.le_of_ble_eq_true rfl)) dX1_mayStart_5 ⟨Nat.le_of_ble_eq_true rfl, Nat.le_of_ble_eq_true rfl⟩) ?_
    refine lv_aload_n hx hb dX1_mayStart_8 rfl (lv_at hl 0 rfl) ?_
    refine lv_iload_n hx hb dX1_mayStart_9 rfl (lv_at hl 2 rfl) ?_
    refine xc_P (va_runV (As := [.int on]) (rest := []) F (xX1_isAhead g1 (A := A) (S := S) (ad := ad) (z := z) on) (cwV 1 hts (lw_V q1007 q1009 qs23 q56 q1010) rfl rfl rfl hdV_X1_isAhead ⟨Nat.le_of_ble_eq_true rfl, Nat.le_of_ble_eq_true rfl⟩) (xpreV (xrecv hK (xw_0 hR) rfl) hWK hS hR) rfl rfl hl.1 rfl (lv_room (Nat.le_of_ble_eq_true rfl)) dX1_mayStart_10 ⟨Nat.le_of_ble_eq_true rfl, Nat.le_of_ble_eq_true rfl⟩) ?_
    refine x_ifeq (tgt := 39) hx hb dX1_mayStart_13 (by decide) (fun c_13 => ?_) (fun c_13 => ?_)
    · refine lv_iconst (v := 0) hx hb dX1_mayStart_39 (by decide) ?_
      have e9 : xMayStart S machine on minutes work = 1 := by simp [xMayStart, c_5, c_13]
      exact xc_T (vx_runS (As := [.int 0]) (rest := []) F (xX1_want_no g1 (A := A) false rfl) (va_cwS 1 hts (lw_S q761 q762 q56 q763) rfl rfl rfl hdS_X1_want ⟨Nat.le_of_ble_eq_true rfl, Nat.le_of_ble_eq_true rfl⟩) (xpre hWK hS trivial) rfl rfl hl.1 rfl (lv_room (Nat.le_of_ble_eq_true rfl)) dX1_mayStart_40 ⟨Nat.le_of_ble_eq_true rfl, Nat.le_of_ble_eq_true rfl⟩) hS (fun E ce q9 H locs hX hz hk hS hq9 hv9 hc9 => vx_out (fun x hx => (hnt x hx).elim) hlocks hq9 hv9 hc9 (fun t ht _ => ⟨by rw [ht]; exact ⟨hX.1.trans (congrArg xExn e9).symm, hX.2⟩, hS.F ht⟩) hS.2.2 (Nat.le_of_ble_eq_true rfl) (Nat.le_of_ble_eq_true rfl))
    · refine lv_iload_n hx hb dX1_mayStart_16 rfl (lv_at hl 3 rfl) ?_
      refine lv_iconst (v := 1) hx hb dX1_mayStart_17 (by decide) ?_
      refine lv_sipush (v := 240) hx hb dX1_mayStart_18 (by decide) ?_
      refine xc_P (va_runS (As := [.int minutes, .int 1, .int 240]) (rest := []) F (xX1_in g1 (A := A) minutes 1 240) (va_cwS 3 hts (lw_S q758 q759 q56 q760) rfl rfl rfl hdS_X1_in ⟨Nat.le_of_ble_eq_true rfl, Nat.le_of_ble_eq_true rfl⟩) (xpre hWK hS trivial) rfl rfl hl.1 rfl (lv_room (Nat.le_of_ble_eq_true rfl)) dX1_mayStart_21 ⟨Nat.le_of_ble_eq_true rfl, Nat.le_of_ble_eq_true rfl⟩) ?_
      refine x_ifeq (tgt := 39) hx hb dX1_mayStart_24 (by decide) (fun c_24 => ?_) (fun c_24 => ?_)
      · refine lv_iconst (v := 0) hx hb dX1_mayStart_39 (by decide) ?_
        have e9 : xMayStart S machine on minutes work = 1 := by simp [xMayStart, c_5, c_13, c_24]
        exact xc_T (vx_runS (As := [.int 0]) (rest := []) F (xX1_want_no g1 (A := A) false rfl) (va_cwS 1 hts (lw_S q761 q762 q56 q763) rfl rfl rfl hdS_X1_want ⟨Nat.le_of_ble_eq_true rfl, Nat.le_of_ble_eq_true rfl⟩) (xpre hWK hS trivial) rfl rfl hl.1 rfl (lv_room (Nat.le_of_ble_eq_true rfl)) dX1_mayStart_40 ⟨Nat.le_of_ble_eq_true rfl, Nat.le_of_ble_eq_true rfl⟩) hS (fun E ce q9 H locs hX hz hk hS hq9 hv9 hc9 => vx_out (fun x hx => (hnt x hx).elim) hlocks hq9 hv9 hc9 (fun t ht _ => ⟨by rw [ht]; exact ⟨hX.1.trans (congrArg xExn e9).symm, hX.2⟩, hS.F ht⟩) hS.2.2 (Nat.le_of_ble_eq_true rfl) (Nat.le_of_ble_eq_true rfl))
      · refine lv_iload hx hb dX1_mayStart_27 (lv_at hl 4 rfl) ?_
        refine xc_P (va_runS (As := [.int work]) (rest := []) F (xX1_isWork g1 (A := A) work) (va_cwS 1 hts (lw_S q1011 q1012 q56 q1013) rfl rfl rfl hdS_X1_isWork ⟨Nat.le_of_ble_eq_true rfl, Nat.le_of_ble_eq_true rfl⟩) (xpre hWK hS trivial) rfl rfl hl.1 rfl (lv_room (Nat.le_of_ble_eq_true rfl)) dX1_mayStart_29 ⟨Nat.le_of_ble_eq_true rfl, Nat.le_of_ble_eq_true rfl⟩) ?_
        refine x_ifeq (tgt := 39) hx hb dX1_mayStart_32 (by decide) (fun c_32 => ?_) (fun c_32 => ?_)
        · refine lv_iconst (v := 0) hx hb dX1_mayStart_39 (by decide) ?_
          have e9 : xMayStart S machine on minutes work = 1 := by simp [xMayStart, c_5, c_13, c_24, c_32]
          exact xc_T (vx_runS (As := [.int 0]) (rest := []) F (xX1_want_no g1 (A := A) false rfl) (va_cwS 1 hts (lw_S q761 q762 q56 q763) rfl rfl rfl hdS_X1_want ⟨Nat.le_of_ble_eq_true rfl, Nat.le_of_ble_eq_true rfl⟩) (xpre hWK hS trivial) rfl rfl hl.1 rfl (lv_room (Nat.le_of_ble_eq_true rfl)) dX1_mayStart_40 ⟨Nat.le_of_ble_eq_true rfl, Nat.le_of_ble_eq_true rfl⟩) hS (fun E ce q9 H locs hX hz hk hS hq9 hv9 hc9 => vx_out (fun x hx => (hnt x hx).elim) hlocks hq9 hv9 hc9 (fun t ht _ => ⟨by rw [ht]; exact ⟨hX.1.trans (congrArg xExn e9).symm, hX.2⟩, hS.F ht⟩) hS.2.2 (Nat.le_of_ble_eq_true rfl) (Nat.le_of_ble_eq_true rfl))
        · refine lv_iconst (v := 1) hx hb dX1_mayStart_35 (by decide) ?_
          refine lv_goto (tgt := 40) hx hb dX1_mayStart_36 (by decide) ?_
          refine xc_P0 (va_runS (As := [.int 1]) (rest := []) F (xX1_want_ok g1 (A := A) true rfl) (va_cwS 1 hts (lw_S q761 q762 q56 q763) rfl rfl rfl hdS_X1_want ⟨Nat.le_of_ble_eq_true rfl, Nat.le_of_ble_eq_true rfl⟩) (xpre hWK hS trivial) rfl rfl hl.1 rfl (lv_room (Nat.le_of_ble_eq_true rfl)) dX1_mayStart_40 ⟨Nat.le_of_ble_eq_true rfl, Nat.le_of_ble_eq_true rfl⟩) ?_
          exact absurd hok (by simp [xMayStart, c_5, c_13, c_24, c_32])
  · have e9 : xMayStart S machine on minutes work = 4 := by simp [xMayStart, c_5]
    exact xc_T (vx_runS (As := [.int (bI (inI machine 0 (nI (S.1 0 0) - 1)))]) (rest := []) F (xX1_there_no g1 (A := A) (inI machine 0 (nI (S.1 0 0) - 1)) c_5) (va_cwS 1 hts (lw_S q937 q938 q56 q939) rfl rfl rfl hdS_X1_there ⟨Nat.le_of_ble_eq_true rfl, Nat.le_of_ble_eq_true rfl⟩) (xpre hWK hS trivial) rfl rfl hl.1 rfl (lv_room (Nat.le_of_ble_eq_true rfl)) dX1_mayStart_5 ⟨Nat.le_of_ble_eq_true rfl, Nat.le_of_ble_eq_true rfl⟩) hS (fun E ce q9 H locs hX hz hk hS hq9 hv9 hc9 => vx_out (fun x hx => (hnt x hx).elim) hlocks hq9 hv9 hc9 (fun t ht _ => ⟨by rw [ht]; exact ⟨hX.1.trans (congrArg xExn e9).symm, hX.2⟩, hS.F ht⟩) hS.2.2 (Nat.le_of_ble_eq_true rfl) (Nat.le_of_ble_eq_true rfl))

set_option maxHeartbeats 4000000 in
theorem xX1_mayAdd_ok {l : Launch} {G : xG} {s0 : State} {b0 : Nat} (g1 : xG1 l G s0 b0) {A : Nat → Prop} {S : xS} {ad : Nat × Nat → Nat} {z : xZ} (kind v most : Int32) (hW : xW S) (hok : xMayAdd S kind v most = 0) : Met l yX1_mayAdd (ws_ yX1_mayAdd cX1_mayAdd 4 none) ({ frames := 7, cells := 0, slots := 0, locals := 101 } : Room) (xP s0 A [.ref (ad (0, 0)), .int kind, .int v, .int most] (fun H => xRX G A S ad z H)) (xQp none) 0 0 (fun _ => False) := by
  refine Met.ofW (cc := cX1_mayAdd) (maxL := 4) (ret := none) (by decide) rfl ?_
  intro p e s m args below meth c s₁ B hml hv
  obtain ⟨rfl, hWK, hR⟩ := hv
  have g := g1.1
  have hx := B.exec
  have hb := B.bytes
  have hr := B.returns
  have hts := atoms_spec (ws := ws_ yX1_mayAdd cX1_mayAdd 4 none) B.pre
  have hts : ∀ w ∈ lw_all, w.before _ s = true := fun w h => hts w (List.mem_cons_of_mem _ h)
  have hown : s.vm.findClass "Lendlathe" = some m.cls := findClass_of_methodNamed B.named
  have hlocks := B.notSynchronized
  have hK := hWK.K g
  have F : CallFix p m c cX1_mayAdd 4 s _ lw_all "Lendlathe" := ⟨hx, hb, hml, hown, hts⟩
  have hS : va_S A s.heap s.heap [] := va_S.rf
  have hl := lv_entry ([.ref (ad (0, 0)), .int kind, .int v, .int most]) (n := 4) (Nat.le_of_ble_eq_true rfl)
  rw [lg_entry_eq]
  generalize (lg_sl ([.ref (ad (0, 0)), .int kind, .int v, .int most]) ++ List.replicate (4 - (lg_sl ([.ref (ad (0, 0)), .int kind, .int v, .int most])).length) Slot.unset).toArray = ls at hl ⊢
  have hl : lv_has ls 4 [(0, .ref (ad (0, 0))), (1, .int kind), (2, .int v), (3, .int most)] := hl
  have hn0 := hW.1.1
  have hn1 := hW.1.2.1
  have hn2 := hW.1.2.2.1
  have hn3 := hW.1.2.2.2.1
  have hn4 := hW.1.2.2.2.2
  refine lv_iload_n hx hb dX1_mayAdd_0 rfl (lv_at hl 1 rfl) ?_
  refine xc_P (va_runS (As := [.int kind]) (rest := []) F (xX1_isKind g1 (A := A) kind) (va_cwS 1 hts (lw_S q755 q756 q56 q757) rfl rfl rfl hdS_X1_isKind ⟨Nat.le_of_ble_eq_true rfl, Nat.le_of_ble_eq_true rfl⟩) (xpre hWK hS trivial) rfl rfl hl.1 rfl (lv_room (Nat.le_of_ble_eq_true rfl)) dX1_mayAdd_1 ⟨Nat.le_of_ble_eq_true rfl, Nat.le_of_ble_eq_true rfl⟩) ?_
  refine x_ifeq (tgt := 20) hx hb dX1_mayAdd_4 (by decide) (fun c_4 => ?_) (fun c_4 => ?_)
  · refine lv_iconst (v := 0) hx hb dX1_mayAdd_20 (by decide) ?_
    exact absurd hok (by simp [xMayAdd, c_4])
  · refine lv_iload_n hx hb dX1_mayAdd_7 rfl (lv_at hl 2 rfl) ?_
    refine lv_iconst (v := 0) hx hb dX1_mayAdd_8 (by decide) ?_
    refine lv_iload_n hx hb dX1_mayAdd_9 rfl (lv_at hl 3 rfl) ?_
    refine xc_P (va_runS (As := [.int v, .int 0, .int most]) (rest := []) F (xX1_in g1 (A := A) v 0 most) (va_cwS 3 hts (lw_S q758 q759 q56 q760) rfl rfl rfl hdS_X1_in ⟨Nat.le_of_ble_eq_true rfl, Nat.le_of_ble_eq_true rfl⟩) (xpre hWK hS trivial) rfl rfl hl.1 rfl (lv_room (Nat.le_of_ble_eq_true rfl)) dX1_mayAdd_10 ⟨Nat.le_of_ble_eq_true rfl, Nat.le_of_ble_eq_true rfl⟩) ?_
    refine x_ifeq (tgt := 20) hx hb dX1_mayAdd_13 (by decide) (fun c_13 => ?_) (fun c_13 => ?_)
    · refine lv_iconst (v := 0) hx hb dX1_mayAdd_20 (by decide) ?_
      exact absurd hok (by simp [xMayAdd, c_4, c_13])
    · refine lv_iconst (v := 1) hx hb dX1_mayAdd_16 (by decide) ?_
      refine lv_goto (tgt := 21) hx hb dX1_mayAdd_17 (by decide) ?_
      refine xc_P0 (va_runS (As := [.int 1]) (rest := []) F (xX1_want_ok g1 (A := A) true rfl) (va_cwS 1 hts (lw_S q761 q762 q56 q763) rfl rfl rfl hdS_X1_want ⟨Nat.le_of_ble_eq_true rfl, Nat.le_of_ble_eq_true rfl⟩) (xpre hWK hS trivial) rfl rfl hl.1 rfl (lv_room (Nat.le_of_ble_eq_true rfl)) dX1_mayAdd_21 ⟨Nat.le_of_ble_eq_true rfl, Nat.le_of_ble_eq_true rfl⟩) ?_
      obtain ⟨kj, hkj, rfl⟩ := inI_of' (n := 4) (by first | rfl | decide) (by first | decide | omega) c_4
      have h5k := hW.lay hkj
      refine lv_aload_n hx hb dX1_mayAdd_24 rfl (lv_at hl 0 rfl) ?_
      refine g_X1_15 F hK (xw_0 hR) (v := .ref (ad (2, 0))) rfl dX1_mayAdd_25 ?_
      refine lv_iload_n hx hb dX1_mayAdd_28 rfl (lv_at hl 1 rfl) ?_
      refine x_iald hx hb hK (xw_2 hR) (v := .int (nI (S.1 5 kj))) (xi_nI (n := 4) (by omega) (by omega)) (rfl) dX1_mayAdd_29 ?_
      refine lv_bipush (v := 6) hx hb dX1_mayAdd_30 (by decide) ?_
      refine xn_ge (tgt := 39) (S.1 5 kj) 6 rfl (by decide) (by omega) (by omega) hx hb dX1_mayAdd_32 (by decide) (fun c_32 => ?_) (fun c_32 => ?_)
      · have n_32 := Nat.not_lt.mpr c_32
        refine lv_iconst (v := 0) hx hb dX1_mayAdd_39 (by decide) ?_
        exact absurd hok (by simp [xMayAdd, c_4, c_13, c_32, n_32, nI_clamp (show kj < 2 ^ 31 by omega)])
      · have n_32 := Nat.not_le.mpr c_32
        refine lv_iconst (v := 1) hx hb dX1_mayAdd_35 (by decide) ?_
        refine lv_goto (tgt := 40) hx hb dX1_mayAdd_36 (by decide) ?_
        refine xc_P0 (va_runS (As := [.int 1]) (rest := []) F (xX1_ready_ok g1 (A := A) true rfl) (va_cwS 1 hts (lw_S q769 q770 q56 q771) rfl rfl rfl hdS_X1_ready ⟨Nat.le_of_ble_eq_true rfl, Nat.le_of_ble_eq_true rfl⟩) (xpre hWK hS trivial) rfl rfl hl.1 rfl (lv_room (Nat.le_of_ble_eq_true rfl)) dX1_mayAdd_40 ⟨Nat.le_of_ble_eq_true rfl, Nat.le_of_ble_eq_true rfl⟩) ?_
        exact xr_Pv hx hb hr hlocks dX1_mayAdd_43

set_option maxHeartbeats 4000000 in
theorem xX1_mayAdd_no {l : Launch} {G : xG} {s0 : State} {b0 : Nat} (g1 : xG1 l G s0 b0) {A : Nat → Prop} {S : xS} {ad : Nat × Nat → Nat} {z : xZ} (kind v most : Int32) (hW : xW S) (hok : ¬ xMayAdd S kind v most = 0) : vx_Met l yX1_mayAdd (ws_ yX1_mayAdd cX1_mayAdd 4 none) ({ frames := 7, cells := 1, slots := 6, locals := 101 } : Room) (xP s0 A [.ref (ad (0, 0)), .int kind, .int v, .int most] (fun H => xRX G A S ad z H)) xQn (xXc (fun E H0 H1 => E = xExn (xMayAdd S kind v most) ∧ xGrow H0 H1) A) 1 6 A := by
  refine vx_ofW (cc := cX1_mayAdd) (maxL := 4) (ret := none) (by decide) rfl ?_
  intro p e s m args below meth c s₁ B hml hnt hv
  obtain ⟨rfl, hWK, hR⟩ := hv
  have g := g1.1
  have hx := B.exec
  have hb := B.bytes
  have hr := B.returns
  have hts := atoms_spec (ws := ws_ yX1_mayAdd cX1_mayAdd 4 none) B.pre
  have hts : ∀ w ∈ lw_all, w.before _ s = true := fun w h => hts w (List.mem_cons_of_mem _ h)
  have hown : s.vm.findClass "Lendlathe" = some m.cls := findClass_of_methodNamed B.named
  have hlocks := B.notSynchronized
  have hK := hWK.K g
  have F : CallFix p m c cX1_mayAdd 4 s _ lw_all "Lendlathe" := ⟨hx, hb, hml, hown, hts⟩
  have hS : va_S A s.heap s.heap [] := va_S.rf
  have hl := lv_entry ([.ref (ad (0, 0)), .int kind, .int v, .int most]) (n := 4) (Nat.le_of_ble_eq_true rfl)
  rw [lg_entry_eq]
  generalize (lg_sl ([.ref (ad (0, 0)), .int kind, .int v, .int most]) ++ List.replicate (4 - (lg_sl ([.ref (ad (0, 0)), .int kind, .int v, .int most])).length) Slot.unset).toArray = ls at hl ⊢
  have hl : lv_has ls 4 [(0, .ref (ad (0, 0))), (1, .int kind), (2, .int v), (3, .int most)] := hl
  have hn0 := hW.1.1
  have hn1 := hW.1.2.1
  have hn2 := hW.1.2.2.1
  have hn3 := hW.1.2.2.2.1
  have hn4 := hW.1.2.2.2.2
  refine lv_iload_n hx hb dX1_mayAdd_0 rfl (lv_at hl 1 rfl) ?_
  refine xc_P (va_runS (As := [.int kind]) (rest := []) F (xX1_isKind g1 (A := A) kind) (va_cwS 1 hts (lw_S q755 q756 q56 q757) rfl rfl rfl hdS_X1_isKind ⟨Nat.le_of_ble_eq_true rfl, Nat.le_of_ble_eq_true rfl⟩) (xpre hWK hS trivial) rfl rfl hl.1 rfl (lv_room (Nat.le_of_ble_eq_true rfl)) dX1_mayAdd_1 ⟨Nat.le_of_ble_eq_true rfl, Nat.le_of_ble_eq_true rfl⟩) ?_
  refine x_ifeq (tgt := 20) hx hb dX1_mayAdd_4 (by decide) (fun c_4 => ?_) (fun c_4 => ?_)
  · refine lv_iconst (v := 0) hx hb dX1_mayAdd_20 (by decide) ?_
    have e9 : xMayAdd S kind v most = 1 := by simp [xMayAdd, c_4]
    exact xc_T (vx_runS (As := [.int 0]) (rest := []) F (xX1_want_no g1 (A := A) false rfl) (va_cwS 1 hts (lw_S q761 q762 q56 q763) rfl rfl rfl hdS_X1_want ⟨Nat.le_of_ble_eq_true rfl, Nat.le_of_ble_eq_true rfl⟩) (xpre hWK hS trivial) rfl rfl hl.1 rfl (lv_room (Nat.le_of_ble_eq_true rfl)) dX1_mayAdd_21 ⟨Nat.le_of_ble_eq_true rfl, Nat.le_of_ble_eq_true rfl⟩) hS (fun E ce q9 H locs hX hz hk hS hq9 hv9 hc9 => vx_out (fun x hx => (hnt x hx).elim) hlocks hq9 hv9 hc9 (fun t ht _ => ⟨by rw [ht]; exact ⟨hX.1.trans (congrArg xExn e9).symm, hX.2⟩, hS.F ht⟩) hS.2.2 (Nat.le_of_ble_eq_true rfl) (Nat.le_of_ble_eq_true rfl))
  · refine lv_iload_n hx hb dX1_mayAdd_7 rfl (lv_at hl 2 rfl) ?_
    refine lv_iconst (v := 0) hx hb dX1_mayAdd_8 (by decide) ?_
    refine lv_iload_n hx hb dX1_mayAdd_9 rfl (lv_at hl 3 rfl) ?_
    refine xc_P (va_runS (As := [.int v, .int 0, .int most]) (rest := []) F (xX1_in g1 (A := A) v 0 most) (va_cwS 3 hts (lw_S q758 q759 q56 q760) rfl rfl rfl hdS_X1_in ⟨Nat.le_of_ble_eq_true rfl, Nat.le_of_ble_eq_true rfl⟩) (xpre hWK hS trivial) rfl rfl hl.1 rfl (lv_room (Nat.le_of_ble_eq_true rfl)) dX1_mayAdd_10 ⟨Nat.le_of_ble_eq_true rfl, Nat.le_of_ble_eq_true rfl⟩) ?_
    refine x_ifeq (tgt := 20) hx hb dX1_mayAdd_13 (by decide) (fun c_13 => ?_) (fun c_13 => ?_)
    · refine lv_iconst (v := 0) hx hb dX1_mayAdd_20 (by decide) ?_
      have e9 : xMayAdd S kind v most = 1 := by simp [xMayAdd, c_4, c_13]
      exact xc_T (vx_runS (As := [.int 0]) (rest := []) F (xX1_want_no g1 (A := A) false rfl) (va_cwS 1 hts (lw_S q761 q762 q56 q763) rfl rfl rfl hdS_X1_want ⟨Nat.le_of_ble_eq_true rfl, Nat.le_of_ble_eq_true rfl⟩) (xpre hWK hS trivial) rfl rfl hl.1 rfl (lv_room (Nat.le_of_ble_eq_true rfl)) dX1_mayAdd_21 ⟨Nat.le_of_ble_eq_true rfl, Nat.le_of_ble_eq_true rfl⟩) hS (fun E ce q9 H locs hX hz hk hS hq9 hv9 hc9 => vx_out (fun x hx => (hnt x hx).elim) hlocks hq9 hv9 hc9 (fun t ht _ => ⟨by rw [ht]; exact ⟨hX.1.trans (congrArg xExn e9).symm, hX.2⟩, hS.F ht⟩) hS.2.2 (Nat.le_of_ble_eq_true rfl) (Nat.le_of_ble_eq_true rfl))
    · refine lv_iconst (v := 1) hx hb dX1_mayAdd_16 (by decide) ?_
      refine lv_goto (tgt := 21) hx hb dX1_mayAdd_17 (by decide) ?_
      refine xc_P0 (va_runS (As := [.int 1]) (rest := []) F (xX1_want_ok g1 (A := A) true rfl) (va_cwS 1 hts (lw_S q761 q762 q56 q763) rfl rfl rfl hdS_X1_want ⟨Nat.le_of_ble_eq_true rfl, Nat.le_of_ble_eq_true rfl⟩) (xpre hWK hS trivial) rfl rfl hl.1 rfl (lv_room (Nat.le_of_ble_eq_true rfl)) dX1_mayAdd_21 ⟨Nat.le_of_ble_eq_true rfl, Nat.le_of_ble_eq_true rfl⟩) ?_
      obtain ⟨kj, hkj, rfl⟩ := inI_of' (n := 4) (by first | rfl | decide) (by first | decide | omega) c_4
      have h5k := hW.lay hkj
      refine lv_aload_n hx hb dX1_mayAdd_24 rfl (lv_at hl 0 rfl) ?_
      refine g_X1_15 F hK (xw_0 hR) (v := .ref (ad (2, 0))) rfl dX1_mayAdd_25 ?_
      refine lv_iload_n hx hb dX1_mayAdd_28 rfl (lv_at hl 1 rfl) ?_
      refine x_iald hx hb hK (xw_2 hR) (v := .int (nI (S.1 5 kj))) (xi_nI (n := 4) (by omega) (by omega)) (rfl) dX1_mayAdd_29 ?_
      refine lv_bipush (v := 6) hx hb dX1_mayAdd_30 (by decide) ?_
      refine xn_ge (tgt := 39) (S.1 5 kj) 6 rfl (by decide) (by omega) (by omega) hx hb dX1_mayAdd_32 (by decide) (fun c_32 => ?_) (fun c_32 => ?_)
      · have n_32 := Nat.not_lt.mpr c_32
        refine lv_iconst (v := 0) hx hb dX1_mayAdd_39 (by decide) ?_
        have e9 : xMayAdd S (nI kj) v most = 2 := by simp [xMayAdd, c_4, c_13, c_32, n_32, nI_clamp (show kj < 2 ^ 31 by omega)]
        exact xc_T (vx_runS (As := [.int 0]) (rest := []) F (xX1_ready_no g1 (A := A) false rfl) (va_cwS 1 hts (lw_S q769 q770 q56 q771) rfl rfl rfl hdS_X1_ready ⟨Nat.le_of_ble_eq_true rfl, Nat.le_of_ble_eq_true rfl⟩) (xpre hWK hS trivial) rfl rfl hl.1 rfl (lv_room (Nat.le_of_ble_eq_true rfl)) dX1_mayAdd_40 ⟨Nat.le_of_ble_eq_true rfl, Nat.le_of_ble_eq_true rfl⟩) hS (fun E ce q9 H locs hX hz hk hS hq9 hv9 hc9 => vx_out (fun x hx => (hnt x hx).elim) hlocks hq9 hv9 hc9 (fun t ht _ => ⟨by rw [ht]; exact ⟨hX.1.trans (congrArg xExn e9).symm, hX.2⟩, hS.F ht⟩) hS.2.2 (Nat.le_of_ble_eq_true rfl) (Nat.le_of_ble_eq_true rfl))
      · have n_32 := Nat.not_le.mpr c_32
        refine lv_iconst (v := 1) hx hb dX1_mayAdd_35 (by decide) ?_
        refine lv_goto (tgt := 40) hx hb dX1_mayAdd_36 (by decide) ?_
        refine xc_P0 (va_runS (As := [.int 1]) (rest := []) F (xX1_ready_ok g1 (A := A) true rfl) (va_cwS 1 hts (lw_S q769 q770 q56 q771) rfl rfl rfl hdS_X1_ready ⟨Nat.le_of_ble_eq_true rfl, Nat.le_of_ble_eq_true rfl⟩) (xpre hWK hS trivial) rfl rfl hl.1 rfl (lv_room (Nat.le_of_ble_eq_true rfl)) dX1_mayAdd_40 ⟨Nat.le_of_ble_eq_true rfl, Nat.le_of_ble_eq_true rfl⟩) ?_
        exact absurd hok (by simp [xMayAdd, c_4, c_13, c_32, n_32, nI_clamp (show kj < 2 ^ 31 by omega)])

set_option maxHeartbeats 4000000 in
theorem xX1_entryAt_no {l : Launch} {G : xG} {s0 : State} {b0 : Nat} (g1 : xG1 l G s0 b0) {A : Nat → Prop} {S : xS} {ad : Nat × Nat → Nat} {z : xZ} (entry : Int32) (hW : xW S) (hok : inI entry 0 (nI (S.1 2 0) - 1) = false) : vx_Met l yX1_entryAt (ws_ yX1_entryAt cX1_entryAt 2 (some (.object "Lendlathe$Entry"))) ({ frames := 7, cells := 1, slots := 6, locals := 101 } : Room) (xP s0 A [.ref (ad (0, 0)), .int entry] (fun H => xRX G A S ad z H)) xQn (xXc (fun E H0 H1 => E = xExn (3) ∧ xGrow H0 H1) A) 1 6 A := by
  refine vx_ofW (cc := cX1_entryAt) (maxL := 2) (ret := (some (.object "Lendlathe$Entry"))) (by decide) rfl ?_
  intro p e s m args below meth c s₁ B hml hnt hv
  obtain ⟨rfl, hWK, hR⟩ := hv
  have g := g1.1
  have hx := B.exec
  have hb := B.bytes
  have hr := B.returns
  have hts := atoms_spec (ws := ws_ yX1_entryAt cX1_entryAt 2 (some (.object "Lendlathe$Entry"))) B.pre
  have hts : ∀ w ∈ lw_all, w.before _ s = true := fun w h => hts w (List.mem_cons_of_mem _ h)
  have hown : s.vm.findClass "Lendlathe" = some m.cls := findClass_of_methodNamed B.named
  have hlocks := B.notSynchronized
  have hK := hWK.K g
  have F : CallFix p m c cX1_entryAt 2 s _ lw_all "Lendlathe" := ⟨hx, hb, hml, hown, hts⟩
  have hS : va_S A s.heap s.heap [] := va_S.rf
  have hl := lv_entry ([.ref (ad (0, 0)), .int entry]) (n := 2) (Nat.le_of_ble_eq_true rfl)
  rw [lg_entry_eq]
  generalize (lg_sl ([.ref (ad (0, 0)), .int entry]) ++ List.replicate (2 - (lg_sl ([.ref (ad (0, 0)), .int entry])).length) Slot.unset).toArray = ls at hl ⊢
  have hl : lv_has ls 2 [(0, .ref (ad (0, 0))), (1, .int entry)] := hl
  have hn0 := hW.1.1
  have hn1 := hW.1.2.1
  have hn2 := hW.1.2.2.1
  have hn3 := hW.1.2.2.2.1
  have hn4 := hW.1.2.2.2.2
  refine lv_iload_n hx hb dX1_entryAt_0 rfl (lv_at hl 1 rfl) ?_
  refine lv_iconst (v := 0) hx hb dX1_entryAt_1 (by decide) ?_
  refine lv_aload_n hx hb dX1_entryAt_2 rfl (lv_at hl 0 rfl) ?_
  refine g_X1_36 F hK (xw_0 hR) (v := .ref (ad (5, 0))) rfl dX1_entryAt_3 ?_
  refine xc_P (va_runV (As := []) (rest := [.int 0, .int entry]) F (xJ2_size_23 g1 (A := A) (S := S) (ad := ad) (z := z) ) (cwV 0 hts (lw_V q510 q511 q512 q60 q513) rfl rfl rfl hdV_J2_size ⟨Nat.le_of_ble_eq_true rfl, Nat.le_of_ble_eq_true rfl⟩) (xpreV (xrecv hK (xw_5 hR) rfl) hWK hS hR) rfl rfl hl.1 rfl (lv_room (Nat.le_of_ble_eq_true rfl)) dX1_entryAt_6 ⟨Nat.le_of_ble_eq_true rfl, Nat.le_of_ble_eq_true rfl⟩) ?_
  refine lv_iconst (v := 1) hx hb dX1_entryAt_9 (by decide) ?_
  refine lv_isub hx hb dX1_entryAt_10 ?_
  refine xc_P (va_runS (As := [.int entry, .int 0, .int ((nI (S.1 2 0)) - 1)]) (rest := []) F (xX1_in g1 (A := A) entry 0 ((nI (S.1 2 0)) - 1)) (va_cwS 3 hts (lw_S q758 q759 q56 q760) rfl rfl rfl hdS_X1_in ⟨Nat.le_of_ble_eq_true rfl, Nat.le_of_ble_eq_true rfl⟩) (xpre hWK hS trivial) rfl rfl hl.1 rfl (lv_room (Nat.le_of_ble_eq_true rfl)) dX1_entryAt_11 ⟨Nat.le_of_ble_eq_true rfl, Nat.le_of_ble_eq_true rfl⟩) ?_
  rcases xbtf (inI entry 0 ((nI (S.1 2 0)) - 1)) with c_14 | c_14
  · exact absurd hok (by simp [c_14])
  · have e9 : (3 : Nat) = 3 := rfl
    exact xc_T (vx_runS (As := [.int (bI (inI entry 0 ((nI (S.1 2 0)) - 1)))]) (rest := []) F (xX1_known_no g1 (A := A) (inI entry 0 ((nI (S.1 2 0)) - 1)) c_14) (va_cwS 1 hts (lw_S q1125 q1126 q56 q1127) rfl rfl rfl hdS_X1_known ⟨Nat.le_of_ble_eq_true rfl, Nat.le_of_ble_eq_true rfl⟩) (xpre hWK hS trivial) rfl rfl hl.1 rfl (lv_room (Nat.le_of_ble_eq_true rfl)) dX1_entryAt_14 ⟨Nat.le_of_ble_eq_true rfl, Nat.le_of_ble_eq_true rfl⟩) hS (fun E ce q9 H locs hX hz hk hS hq9 hv9 hc9 => vx_out (fun x hx => (hnt x hx).elim) hlocks hq9 hv9 hc9 (fun t ht _ => ⟨by rw [ht]; exact ⟨hX.1.trans (congrArg xExn e9).symm, hX.2⟩, hS.F ht⟩) hS.2.2 (Nat.le_of_ble_eq_true rfl) (Nat.le_of_ble_eq_true rfl))

set_option maxHeartbeats 4000000 in
theorem xX1_entryAt_ok {l : Launch} {G : xG} {s0 : State} {b0 : Nat} (g1 : xG1 l G s0 b0) {A : Nat → Prop} {S : xS} {ad : Nat × Nat → Nat} {z : xZ} {entry : Int32} {ei : Nat} (h_entry : xi entry ei (S.1 2 0)) (hW : xW S) : Met l yX1_entryAt (ws_ yX1_entryAt cX1_entryAt 2 (some (.object "Lendlathe$Entry"))) ({ frames := 7, cells := 0, slots := 0, locals := 101 } : Room) (xP s0 A [.ref (ad (0, 0)), .int entry] (fun H => xRX G A S ad z H)) (xQp (some (.ref (ad (23, ei))))) 0 0 (fun _ => False) := by
  refine Met.ofW (cc := cX1_entryAt) (maxL := 2) (ret := (some (.object "Lendlathe$Entry"))) (by decide) rfl ?_
  intro p e s m args below meth c s₁ B hml hv
  obtain ⟨rfl, hWK, hR⟩ := hv
  have g := g1.1
  have hx := B.exec
  have hb := B.bytes
  have hr := B.returns
  have hts := atoms_spec (ws := ws_ yX1_entryAt cX1_entryAt 2 (some (.object "Lendlathe$Entry"))) B.pre
  have hts : ∀ w ∈ lw_all, w.before _ s = true := fun w h => hts w (List.mem_cons_of_mem _ h)
  have hown : s.vm.findClass "Lendlathe" = some m.cls := findClass_of_methodNamed B.named
  have hlocks := B.notSynchronized
  have hK := hWK.K g
  have F : CallFix p m c cX1_entryAt 2 s _ lw_all "Lendlathe" := ⟨hx, hb, hml, hown, hts⟩
  have hS : va_S A s.heap s.heap [] := va_S.rf
  have hl := lv_entry ([.ref (ad (0, 0)), .int entry]) (n := 2) (Nat.le_of_ble_eq_true rfl)
  rw [lg_entry_eq]
  generalize (lg_sl ([.ref (ad (0, 0)), .int entry]) ++ List.replicate (2 - (lg_sl ([.ref (ad (0, 0)), .int entry])).length) Slot.unset).toArray = ls at hl ⊢
  have hl : lv_has ls 2 [(0, .ref (ad (0, 0))), (1, .int entry)] := hl
  have hn0 := hW.1.1
  have hn1 := hW.1.2.1
  have hn2 := hW.1.2.2.1
  have hn3 := hW.1.2.2.2.1
  have hn4 := hW.1.2.2.2.2
  have hok := xi_inI h_entry (by omega)
  refine lv_iload_n hx hb dX1_entryAt_0 rfl (lv_at hl 1 rfl) ?_
  refine lv_iconst (v := 0) hx hb dX1_entryAt_1 (by decide) ?_
  refine lv_aload_n hx hb dX1_entryAt_2 rfl (lv_at hl 0 rfl) ?_
  refine g_X1_36 F hK (xw_0 hR) (v := .ref (ad (5, 0))) rfl dX1_entryAt_3 ?_
  refine xc_P (va_runV (As := []) (rest := [.int 0, .int entry]) F (xJ2_size_23 g1 (A := A) (S := S) (ad := ad) (z := z) ) (cwV 0 hts (lw_V q510 q511 q512 q60 q513) rfl rfl rfl hdV_J2_size ⟨Nat.le_of_ble_eq_true rfl, Nat.le_of_ble_eq_true rfl⟩) (xpreV (xrecv hK (xw_5 hR) rfl) hWK hS hR) rfl rfl hl.1 rfl (lv_room (Nat.le_of_ble_eq_true rfl)) dX1_entryAt_6 ⟨Nat.le_of_ble_eq_true rfl, Nat.le_of_ble_eq_true rfl⟩) ?_
  refine lv_iconst (v := 1) hx hb dX1_entryAt_9 (by decide) ?_
  refine lv_isub hx hb dX1_entryAt_10 ?_
  refine xc_P (va_runS (As := [.int entry, .int 0, .int ((nI (S.1 2 0)) - 1)]) (rest := []) F (xX1_in g1 (A := A) entry 0 ((nI (S.1 2 0)) - 1)) (va_cwS 3 hts (lw_S q758 q759 q56 q760) rfl rfl rfl hdS_X1_in ⟨Nat.le_of_ble_eq_true rfl, Nat.le_of_ble_eq_true rfl⟩) (xpre hWK hS trivial) rfl rfl hl.1 rfl (lv_room (Nat.le_of_ble_eq_true rfl)) dX1_entryAt_11 ⟨Nat.le_of_ble_eq_true rfl, Nat.le_of_ble_eq_true rfl⟩) ?_
  rcases xbtf (inI entry 0 ((nI (S.1 2 0)) - 1)) with c_14 | c_14
  · refine xc_P0 (va_runS (As := [.int (bI (inI entry 0 ((nI (S.1 2 0)) - 1)))]) (rest := []) F (xX1_known_ok g1 (A := A) (inI entry 0 ((nI (S.1 2 0)) - 1)) c_14) (va_cwS 1 hts (lw_S q1125 q1126 q56 q1127) rfl rfl rfl hdS_X1_known ⟨Nat.le_of_ble_eq_true rfl, Nat.le_of_ble_eq_true rfl⟩) (xpre hWK hS trivial) rfl rfl hl.1 rfl (lv_room (Nat.le_of_ble_eq_true rfl)) dX1_entryAt_14 ⟨Nat.le_of_ble_eq_true rfl, Nat.le_of_ble_eq_true rfl⟩) ?_
    refine lv_aload_n hx hb dX1_entryAt_17 rfl (lv_at hl 0 rfl) ?_
    refine g_X1_36 F hK (xw_0 hR) (v := .ref (ad (5, 0))) rfl dX1_entryAt_18 ?_
    refine lv_iload_n hx hb dX1_entryAt_21 rfl (lv_at hl 1 rfl) ?_
    refine xc_P (va_runV (As := [.int entry]) (rest := []) F (xJ2_get_23 g1 (A := A) (S := S) (ad := ad) (z := z) (xi.up h_entry (by omega)) (by first | assumption | omega)) (cwV 1 hts (lw_V q486 q487 q488 q60 q489) rfl rfl rfl hdV_J2_get ⟨Nat.le_of_ble_eq_true rfl, Nat.le_of_ble_eq_true rfl⟩) (xpreV (xrecv hK (xw_5 hR) rfl) hWK hS hR) rfl rfl hl.1 rfl (lv_room (Nat.le_of_ble_eq_true rfl)) dX1_entryAt_22 ⟨Nat.le_of_ble_eq_true rfl, Nat.le_of_ble_eq_true rfl⟩) ?_
    refine x_castO F hK rfl (xw_23 hR (xi.up h_entry (by omega)).lt) (hts _ q514) dX1_entryAt_25 ?_
    exact xr_Pa hx hb hr hlocks (by first | exact Or.inl ⟨_, rfl⟩ | exact Or.inr ⟨_, rfl⟩) (by first | exact Or.inl rfl | exact Or.inr ⟨_, rfl⟩) dX1_entryAt_28
  · exact absurd hok (by simp [c_14])

