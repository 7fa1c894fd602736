/-! contracts (printed by gen/mcon2.py) -/
set_option maxRecDepth 100000
set_option maxHeartbeats 4000000 in
theorem mX4_raises {l : Launch} {G : xG} {s0 : State} {b0 : Nat} (g : xG0 G s0 b0) {A : Nat → Prop} {S : xS} {ad : Nat × Nat → Nat} {z : xZ} (which : Int32) : Met l yX4_raises (ws_ yX4_raises cX4_raises 2 (some .int)) ({ frames := 0, cells := 0, slots := 0, locals := 0 } : Room) (xP s0 A [.ref (ad (0, 0)), .int which] (fun H => xRM G A S ad z H)) (xQc (some (.int ((mRaises S which).1))) (fun _ H => xRM G A (mRaises S which).2 ad z H) A) 0 0 A := by
  refine Met.ofW (cc := cX4_raises) (maxL := 2) (ret := (some .int)) (by decide) rfl ?_
  intro p e s m args below meth c s₁ B hml hv
  obtain ⟨rfl, hWK, hR⟩ := hv
  have hx := B.exec
  have hb := B.bytes
  have hr := B.returns
  have hts := atoms_spec (ws := ws_ yX4_raises cX4_raises 2 (some .int)) B.pre
  have hts : ∀ w ∈ lw_all, w.before _ s = true := fun w h => hts w (List.mem_cons_of_mem _ h)
  have hown : s.vm.findClass "LendlatheModel" = some m.cls := findClass_of_methodNamed B.named
  have hlocks := B.notSynchronized
  have hK := hWK.K g
  have F : CallFix p m c cX4_raises 2 s _ lw_all "LendlatheModel" := ⟨hx, hb, hml, hown, hts⟩
  have hS : va_S A s.heap s.heap [] := va_S.rf
  have hl := lv_entry ([.ref (ad (0, 0)), .int which]) (n := 2) (Nat.le_of_ble_eq_true rfl)
  rw [lg_entry_eq]
  generalize (lg_sl ([.ref (ad (0, 0)), .int which]) ++ List.replicate (2 - (lg_sl ([.ref (ad (0, 0)), .int which])).length) Slot.unset).toArray = ls at hl ⊢
  have hl : lv_has ls 2 [(0, .ref (ad (0, 0))), (1, .int which)] := hl
  refine lv_aload_n hx hb dX4_raises_0 rfl (lv_at hl 0 rfl) ?_
  refine lv_iload_n hx hb dX4_raises_1 rfl (lv_at hl 1 rfl) ?_
  refine p_X4_87 F hK hS (mw_0 hR) (ma_0 hR) (v := .int which) rfl rfl (Nat.le_of_ble_eq_true rfl) dX4_raises_2 (fun H locs hat hof hS => ?_)
  have hR := ms_0_29 hR hof hat
  refine lv_iconst (v := 0) hx hb dX4_raises_5 (by decide) ?_
  have e9 : mRaises S which = (0, (sF S 26 0 0 which)) := by simp [mRaises]
  exact xr_Ci hx hb hr hlocks ((congrArg Prod.fst e9).symm) (by show xRM G A (mRaises S which).2 ad z H; rw [show (mRaises S which).2 = (sF S 26 0 0 which) from congrArg Prod.snd e9]; exact hR) hS (by first | omega | decide) (by first | omega | decide) dX4_raises_6

set_option maxHeartbeats 4000000 in
theorem mX4_day {l : Launch} {G : xG} {s0 : State} {b0 : Nat} (g : xG0 G s0 b0) {A : Nat → Prop} {S : xS} {ad : Nat × Nat → Nat} {z : xZ} : Met l yX4_day (ws_ yX4_day cX4_day 1 (some .int)) ({ frames := 0, cells := 0, slots := 0, locals := 0 } : Room) (xP s0 A [.ref (ad (0, 0))] (fun H => xRM G A S ad z H)) (xQc (some (.int ((mDayOf S).1))) (fun _ H => xRM G A (mDayOf S).2 ad z H) A) 0 0 A := by
  refine Met.ofW (cc := cX4_day) (maxL := 1) (ret := (some .int)) (by decide) rfl ?_
  intro p e s m args below meth c s₁ B hml hv
  obtain ⟨rfl, hWK, hR⟩ := hv
  have hx := B.exec
  have hb := B.bytes
  have hr := B.returns
  have hts := atoms_spec (ws := ws_ yX4_day cX4_day 1 (some .int)) B.pre
  have hts : ∀ w ∈ lw_all, w.before _ s = true := fun w h => hts w (List.mem_cons_of_mem _ h)
  have hown : s.vm.findClass "LendlatheModel" = some m.cls := findClass_of_methodNamed B.named
  have hlocks := B.notSynchronized
  have hK := hWK.K g
  have F : CallFix p m c cX4_day 1 s _ lw_all "LendlatheModel" := ⟨hx, hb, hml, hown, hts⟩
  have hS : va_S A s.heap s.heap [] := va_S.rf
  have hl := lv_entry ([.ref (ad (0, 0))]) (n := 1) (Nat.le_of_ble_eq_true rfl)
  rw [lg_entry_eq]
  generalize (lg_sl ([.ref (ad (0, 0))]) ++ List.replicate (1 - (lg_sl ([.ref (ad (0, 0))])).length) Slot.unset).toArray = ls at hl ⊢
  have hl : lv_has ls 1 [(0, .ref (ad (0, 0)))] := hl
  refine lv_aload_n hx hb dX4_day_0 rfl (lv_at hl 0 rfl) ?_
  refine lv_iconst (v := 0) hx hb dX4_day_1 (by decide) ?_
  refine p_X4_87 F hK hS (mw_0 hR) (ma_0 hR) (v := .int 0) rfl rfl (Nat.le_of_ble_eq_true rfl) dX4_day_2 (fun H locs hat hof hS => ?_)
  have hR := ms_0_29 hR hof hat
  refine lv_aload_n hx hb dX4_day_5 rfl (lv_at hl 0 rfl) ?_
  refine g_X4_112 F hK (mw_0 hR) (v := .int (S.2.1 7 0 0)) rfl dX4_day_6 ?_
  have e9 : mDayOf S = (S.2.1 7 0 0, (sF S 26 0 0 0)) := by simp [mDayOf]
  exact xr_Ci hx hb hr hlocks ((congrArg Prod.fst e9).symm) (by show xRM G A (mDayOf S).2 ad z H; rw [show (mDayOf S).2 = (sF S 26 0 0 0) from congrArg Prod.snd e9]; exact hR) hS (by first | omega | decide) (by first | omega | decide) dX4_day_9

set_option maxHeartbeats 4000000 in
theorem mX4_entries {l : Launch} {G : xG} {s0 : State} {b0 : Nat} (g : xG0 G s0 b0) {A : Nat → Prop} {S : xS} {ad : Nat × Nat → Nat} {z : xZ} : Met l yX4_entries (ws_ yX4_entries cX4_entries 1 (some .int)) ({ frames := 0, cells := 0, slots := 0, locals := 0 } : Room) (xP s0 A [.ref (ad (0, 0))] (fun H => xRM G A S ad z H)) (xQc (some (.int ((mEntries S).1))) (fun _ H => xRM G A (mEntries S).2 ad z H) A) 0 0 A := by
  refine Met.ofW (cc := cX4_entries) (maxL := 1) (ret := (some .int)) (by decide) rfl ?_
  intro p e s m args below meth c s₁ B hml hv
  obtain ⟨rfl, hWK, hR⟩ := hv
  have hx := B.exec
  have hb := B.bytes
  have hr := B.returns
  have hts := atoms_spec (ws := ws_ yX4_entries cX4_entries 1 (some .int)) B.pre
  have hts : ∀ w ∈ lw_all, w.before _ s = true := fun w h => hts w (List.mem_cons_of_mem _ h)
  have hown : s.vm.findClass "LendlatheModel" = some m.cls := findClass_of_methodNamed B.named
  have hlocks := B.notSynchronized
  have hK := hWK.K g
  have F : CallFix p m c cX4_entries 1 s _ lw_all "LendlatheModel" := ⟨hx, hb, hml, hown, hts⟩
  have hS : va_S A s.heap s.heap [] := va_S.rf
  have hl := lv_entry ([.ref (ad (0, 0))]) (n := 1) (Nat.le_of_ble_eq_true rfl)
  rw [lg_entry_eq]
  generalize (lg_sl ([.ref (ad (0, 0))]) ++ List.replicate (1 - (lg_sl ([.ref (ad (0, 0))])).length) Slot.unset).toArray = ls at hl ⊢
  have hl : lv_has ls 1 [(0, .ref (ad (0, 0)))] := hl
  refine lv_aload_n hx hb dX4_entries_0 rfl (lv_at hl 0 rfl) ?_
  refine lv_iconst (v := 0) hx hb dX4_entries_1 (by decide) ?_
  refine p_X4_87 F hK hS (mw_0 hR) (ma_0 hR) (v := .int 0) rfl rfl (Nat.le_of_ble_eq_true rfl) dX4_entries_2 (fun H locs hat hof hS => ?_)
  have hR := ms_0_29 hR hof hat
  refine lv_aload_n hx hb dX4_entries_5 rfl (lv_at hl 0 rfl) ?_
  refine g_X4_101 F hK (mw_0 hR) (v := .int (nI (S.1 2 0))) rfl dX4_entries_6 ?_
  have e9 : mEntries S = (nI (S.1 2 0), (sF S 26 0 0 0)) := by simp [mEntries]
  exact xr_Ci hx hb hr hlocks ((congrArg Prod.fst e9).symm) (by show xRM G A (mEntries S).2 ad z H; rw [show (mEntries S).2 = (sF S 26 0 0 0) from congrArg Prod.snd e9]; exact hR) hS (by first | omega | decide) (by first | omega | decide) dX4_entries_9

set_option maxHeartbeats 4000000 in
theorem mX4_addMachine {l : Launch} {G : xG} {s0 : State} {b0 : Nat} (g : xG0 G s0 b0) {A : Nat → Prop} {S : xS} {ad : Nat × Nat → Nat} {z : xZ} (kind setup : Int32) (hW : mWF S) : Met l yX4_addMachine (ws_ yX4_addMachine cX4_addMachine 3 (some .int)) ({ frames := 2, cells := 0, slots := 0, locals := 42 } : Room) (xP s0 A [.ref (ad (0, 0)), .int kind, .int setup] (fun H => xRM G A S ad z H)) (xQc (some (.int ((mAddMachine S kind setup).1))) (fun _ H => xRM G A (mAddMachine S kind setup).2 ad z H) A) 0 0 A := by
  refine Met.ofW (cc := cX4_addMachine) (maxL := 3) (ret := (some .int)) (by decide) rfl ?_
  intro p e s m args below meth c s₁ B hml hv
  obtain ⟨rfl, hWK, hR⟩ := hv
  have hx := B.exec
  have hb := B.bytes
  have hr := B.returns
  have hts := atoms_spec (ws := ws_ yX4_addMachine cX4_addMachine 3 (some .int)) B.pre
  have hts : ∀ w ∈ lw_all, w.before _ s = true := fun w h => hts w (List.mem_cons_of_mem _ h)
  have hown : s.vm.findClass "LendlatheModel" = some m.cls := findClass_of_methodNamed B.named
  have hlocks := B.notSynchronized
  have hK := hWK.K g
  have F : CallFix p m c cX4_addMachine 3 s _ lw_all "LendlatheModel" := ⟨hx, hb, hml, hown, hts⟩
  have hS : va_S A s.heap s.heap [] := va_S.rf
  have hl := lv_entry ([.ref (ad (0, 0)), .int kind, .int setup]) (n := 3) (Nat.le_of_ble_eq_true rfl)
  rw [lg_entry_eq]
  generalize (lg_sl ([.ref (ad (0, 0)), .int kind, .int setup]) ++ List.replicate (3 - (lg_sl ([.ref (ad (0, 0)), .int kind, .int setup])).length) Slot.unset).toArray = ls at hl ⊢
  have hl : lv_has ls 3 [(0, .ref (ad (0, 0))), (1, .int kind), (2, .int setup)] := hl
  have hn0 := hW.1
  have hn1 := hW.2.1
  have hn2 := hW.2.2.1
  have hn3 := hW.2.2.2.1
  have hn4 := hW.2.2.2.2.1
  refine lv_aload_n hx hb dX4_addMachine_0 rfl (lv_at hl 0 rfl) ?_
  refine lv_iload_n hx hb dX4_addMachine_1 rfl (lv_at hl 1 rfl) ?_
  refine xc_P (va_runS (As := [.int kind]) (rest := [.ref (ad (0, 0))]) F (mX4_isKind g (A := A) kind) (va_cwS 1 hts (lw_S q1555 q1556 q80 q1557) rfl rfl rfl hdS_X4_isKind ⟨Nat.le_of_ble_eq_true rfl, Nat.le_of_ble_eq_true rfl⟩) (xpre hWK hS trivial) rfl rfl hl.1 rfl (lv_room (Nat.le_of_ble_eq_true rfl)) dX4_addMachine_2 ⟨Nat.le_of_ble_eq_true rfl, Nat.le_of_ble_eq_true rfl⟩) ?_
  refine x_ifeq (tgt := 18) hx hb dX4_addMachine_5 (by decide) (fun c_5 => ?_) (fun c_5 => ?_)
  · refine lv_iconst (v := 1) hx hb dX4_addMachine_18 (by decide) ?_
    refine lv_goto (tgt := 36) hx hb dX4_addMachine_19 (by decide) ?_
    refine p_X4_87 F hK hS (mw_0 hR) (ma_0 hR) (v := .int 1) rfl rfl (Nat.le_of_ble_eq_true rfl) dX4_addMachine_36 (fun H locs hat hof hS => ?_)
    have hR := ms_0_29 hR hof hat
    refine lv_aload_n hx hb dX4_addMachine_39 rfl (lv_at hl 0 rfl) ?_
    refine g_X4_87 F hK (mw_0 hR) (v := .int 1) (by simp [fset, nset, lset]) dX4_addMachine_40 ?_
    refine lv_if_le (tgt := 48) hx hb dX4_addMachine_43 (by decide) (fun c_43 => (by first | exact absurd c_43 (by decide) | exact absurd (by decide) c_43)) (fun c_43 => ?_)
    refine lv_iconst (v := 0) hx hb dX4_addMachine_46 (by decide) ?_
    have e9 : mAddMachine S kind setup = (0, (sF S 26 0 0 1)) := by simp [mAddMachine, c_5]
    exact xr_Ci hx hb hr hlocks ((congrArg Prod.fst e9).symm) (by show xRM G A (mAddMachine S kind setup).2 ad z H; rw [show (mAddMachine S kind setup).2 = (sF S 26 0 0 1) from congrArg Prod.snd e9]; exact hR) hS (by first | omega | decide) (by first | omega | decide) dX4_addMachine_47
  · refine lv_iload_n hx hb dX4_addMachine_8 rfl (lv_at hl 2 rfl) ?_
    refine lv_iconst (v := 0) hx hb dX4_addMachine_9 (by decide) ?_
    refine lv_bipush (v := 30) hx hb dX4_addMachine_10 (by decide) ?_
    refine xc_P (va_runS (As := [.int setup, .int 0, .int 30]) (rest := [.ref (ad (0, 0))]) F (mX4_in g (A := A) setup 0 30) (va_cwS 3 hts (lw_S q1558 q1559 q80 q1560) rfl rfl rfl hdS_X4_in ⟨Nat.le_of_ble_eq_true rfl, Nat.le_of_ble_eq_true rfl⟩) (xpre hWK hS trivial) rfl rfl hl.1 rfl (lv_room (Nat.le_of_ble_eq_true rfl)) dX4_addMachine_12 ⟨Nat.le_of_ble_eq_true rfl, Nat.le_of_ble_eq_true rfl⟩) ?_
    refine x_ifne (tgt := 22) hx hb dX4_addMachine_15 (by decide) (fun c_15 => ?_) (fun c_15 => ?_)
    · refine lv_aload_n hx hb dX4_addMachine_22 rfl (lv_at hl 0 rfl) ?_
      refine g_X4_98 F hK (mw_0 hR) (v := .int (nI (S.1 0 0))) rfl dX4_addMachine_23 ?_
      refine lv_bipush (v := 6) hx hb dX4_addMachine_26 (by decide) ?_
      refine xn_ne (tgt := 35) (S.1 0 0) 6 rfl (by decide) (by omega) (by omega) hx hb dX4_addMachine_28 (by decide) (fun c_28 => ?_) (fun c_28 => ?_)
      · refine lv_iconst (v := 0) hx hb dX4_addMachine_35 (by decide) ?_
        refine p_X4_87 F hK hS (mw_0 hR) (ma_0 hR) (v := .int 0) rfl rfl (Nat.le_of_ble_eq_true rfl) dX4_addMachine_36 (fun H locs hat hof hS => ?_)
        have hR := ms_0_29 hR hof hat
        refine lv_aload_n hx hb dX4_addMachine_39 rfl (lv_at hl 0 rfl) ?_
        refine g_X4_87 F hK (mw_0 hR) (v := .int 0) (by simp [fset, nset, lset]) dX4_addMachine_40 ?_
        refine lv_if_le (tgt := 48) hx hb dX4_addMachine_43 (by decide) (fun c_43 => ?_) (fun c_43 => (by first | exact absurd c_43 (by decide) | exact absurd (by decide) c_43))
        refine lv_aload_n hx hb dX4_addMachine_48 rfl (lv_at hl 0 rfl) ?_
        refine g_X4_9 F hK (mw_0 hR) (v := .ref (ad (1, 0))) rfl dX4_addMachine_49 ?_
        refine lv_aload_n hx hb dX4_addMachine_52 rfl (lv_at hl 0 rfl) ?_
        refine g_X4_98 F hK (mw_0 hR) (v := .int (nI (S.1 0 0))) rfl dX4_addMachine_53 ?_
        refine lv_iload_n hx hb dX4_addMachine_56 rfl (lv_at hl 1 rfl) ?_
        refine x_iast hx hb hK hS (mw_1 hR) (ma_1 hR) (xi_nI (n := 6) (by omega) (by omega)) dX4_addMachine_57 (fun H locs hat hof hS => ?_)
        have hR := ms_1_a hR hof hat
        refine lv_aload_n hx hb dX4_addMachine_58 rfl (lv_at hl 0 rfl) ?_
        refine g_X4_13 F hK (mw_0 hR) (v := .ref (ad (2, 0))) rfl dX4_addMachine_59 ?_
        refine lv_aload_n hx hb dX4_addMachine_62 rfl (lv_at hl 0 rfl) ?_
        refine g_X4_98 F hK (mw_0 hR) (v := .int (nI (S.1 0 0))) rfl dX4_addMachine_63 ?_
        refine lv_iload_n hx hb dX4_addMachine_66 rfl (lv_at hl 2 rfl) ?_
        refine x_iast hx hb hK hS (mw_2 hR) (ma_2 hR) (xi_nI (n := 6) (by omega) (by omega)) dX4_addMachine_67 (fun H locs hat hof hS => ?_)
        have hR := ms_2_a hR hof hat
        refine lv_aload_n hx hb dX4_addMachine_68 rfl (lv_at hl 0 rfl) ?_
        refine lv_dup hx hb dX4_addMachine_69 rfl ?_
        refine g_X4_98 F hK (mw_0 hR) (v := .int (nI (S.1 0 0))) rfl dX4_addMachine_70 ?_
        refine lv_iconst (v := 1) hx hb dX4_addMachine_73 (by decide) ?_
        refine lv_iadd hx hb dX4_addMachine_74 ?_
        refine x_topi (nI_1 _) ?_
        refine p_X4_98 F hK hS (mw_0 hR) (ma_0 hR) (v := .int (nI (S.1 0 0 + 1))) rfl rfl (Nat.le_of_ble_eq_true rfl) dX4_addMachine_75 (fun H locs hat hof hS => ?_)
        have hR := ms_0_2 hR hof hat
        refine lv_aload_n hx hb dX4_addMachine_78 rfl (lv_at hl 0 rfl) ?_
        refine g_X4_98 F hK (mw_0 hR) (v := .int (nI (S.1 0 0 + 1))) (by simp [fset, nset, lset]) dX4_addMachine_79 ?_
        refine lv_iconst (v := 1) hx hb dX4_addMachine_82 (by decide) ?_
        refine lv_isub hx hb dX4_addMachine_83 ?_
        have e9 : mAddMachine S kind setup = ((nI (S.1 0 0 + 1)) - 1, (sN (sF (sF (sF S 26 0 0 0) 0 (S.1 0 0) 0 kind) 1 (S.1 0 0) 0 setup) 0 0 (S.1 0 0 + 1))) := by simp [mAddMachine, c_5, c_15, c_28]
        exact xr_Ci hx hb hr hlocks ((congrArg Prod.fst e9).symm) (by show xRM G A (mAddMachine S kind setup).2 ad z H; rw [show (mAddMachine S kind setup).2 = (sN (sF (sF (sF S 26 0 0 0) 0 (S.1 0 0) 0 kind) 1 (S.1 0 0) 0 setup) 0 0 (S.1 0 0 + 1)) from congrArg Prod.snd e9]; exact hR) hS (by first | omega | decide) (by first | omega | decide) dX4_addMachine_84
      · refine lv_iconst (v := 2) hx hb dX4_addMachine_31 (by decide) ?_
        refine lv_goto (tgt := 36) hx hb dX4_addMachine_32 (by decide) ?_
        refine p_X4_87 F hK hS (mw_0 hR) (ma_0 hR) (v := .int 2) rfl rfl (Nat.le_of_ble_eq_true rfl) dX4_addMachine_36 (fun H locs hat hof hS => ?_)
        have hR := ms_0_29 hR hof hat
        refine lv_aload_n hx hb dX4_addMachine_39 rfl (lv_at hl 0 rfl) ?_
        refine g_X4_87 F hK (mw_0 hR) (v := .int 2) (by simp [fset, nset, lset]) dX4_addMachine_40 ?_
        refine lv_if_le (tgt := 48) hx hb dX4_addMachine_43 (by decide) (fun c_43 => (by first | exact absurd c_43 (by decide) | exact absurd (by decide) c_43)) (fun c_43 => ?_)
        refine lv_iconst (v := 0) hx hb dX4_addMachine_46 (by decide) ?_
        have e9 : mAddMachine S kind setup = (0, (sF S 26 0 0 2)) := by simp [mAddMachine, c_5, c_15, c_28]
        exact xr_Ci hx hb hr hlocks ((congrArg Prod.fst e9).symm) (by show xRM G A (mAddMachine S kind setup).2 ad z H; rw [show (mAddMachine S kind setup).2 = (sF S 26 0 0 2) from congrArg Prod.snd e9]; exact hR) hS (by first | omega | decide) (by first | omega | decide) dX4_addMachine_47
    · refine lv_iconst (v := 1) hx hb dX4_addMachine_18 (by decide) ?_
      refine lv_goto (tgt := 36) hx hb dX4_addMachine_19 (by decide) ?_
      refine p_X4_87 F hK hS (mw_0 hR) (ma_0 hR) (v := .int 1) rfl rfl (Nat.le_of_ble_eq_true rfl) dX4_addMachine_36 (fun H locs hat hof hS => ?_)
      have hR := ms_0_29 hR hof hat
      refine lv_aload_n hx hb dX4_addMachine_39 rfl (lv_at hl 0 rfl) ?_
      refine g_X4_87 F hK (mw_0 hR) (v := .int 1) (by simp [fset, nset, lset]) dX4_addMachine_40 ?_
      refine lv_if_le (tgt := 48) hx hb dX4_addMachine_43 (by decide) (fun c_43 => (by first | exact absurd c_43 (by decide) | exact absurd (by decide) c_43)) (fun c_43 => ?_)
      refine lv_iconst (v := 0) hx hb dX4_addMachine_46 (by decide) ?_
      have e9 : mAddMachine S kind setup = (0, (sF S 26 0 0 1)) := by simp [mAddMachine, c_5, c_15]
      exact xr_Ci hx hb hr hlocks ((congrArg Prod.fst e9).symm) (by show xRM G A (mAddMachine S kind setup).2 ad z H; rw [show (mAddMachine S kind setup).2 = (sF S 26 0 0 1) from congrArg Prod.snd e9]; exact hR) hS (by first | omega | decide) (by first | omega | decide) dX4_addMachine_47

set_option maxHeartbeats 4000000 in
theorem mX4_addMember {l : Launch} {G : xG} {s0 : State} {b0 : Nat} (g : xG0 G s0 b0) {A : Nat → Prop} {S : xS} {ad : Nat × Nat → Nat} {z : xZ} (hW : mWF S) : Met l yX4_addMember (ws_ yX4_addMember cX4_addMember 2 (some .int)) ({ frames := 1, cells := 0, slots := 0, locals := 21 } : Room) (xP s0 A [.ref (ad (0, 0))] (fun H => xRM G A S ad z H)) (xQc (some (.int ((mAddMember S).1))) (fun _ H => xRM G A (mAddMember S).2 ad z H) A) 0 0 A := by
  refine Met.ofW (cc := cX4_addMember) (maxL := 2) (ret := (some .int)) (by decide) rfl ?_
  intro p e s m args below meth c s₁ B hml hv
  obtain ⟨rfl, hWK, hR⟩ := hv
  have hx := B.exec
  have hb := B.bytes
  have hr := B.returns
  have hts := atoms_spec (ws := ws_ yX4_addMember cX4_addMember 2 (some .int)) B.pre
  have hts : ∀ w ∈ lw_all, w.before _ s = true := fun w h => hts w (List.mem_cons_of_mem _ h)
  have hown : s.vm.findClass "LendlatheModel" = some m.cls := findClass_of_methodNamed B.named
  have hlocks := B.notSynchronized
  have hK := hWK.K g
  have F : CallFix p m c cX4_addMember 2 s _ lw_all "LendlatheModel" := ⟨hx, hb, hml, hown, hts⟩
  have hS : va_S A s.heap s.heap [] := va_S.rf
  have hl := lv_entry ([.ref (ad (0, 0))]) (n := 2) (Nat.le_of_ble_eq_true rfl)
  rw [lg_entry_eq]
  generalize (lg_sl ([.ref (ad (0, 0))]) ++ List.replicate (2 - (lg_sl ([.ref (ad (0, 0))])).length) Slot.unset).toArray = ls at hl ⊢
  have hl : lv_has ls 2 [(0, .ref (ad (0, 0)))] := hl
  have hn0 := hW.1
  have hn1 := hW.2.1
  have hn2 := hW.2.2.1
  have hn3 := hW.2.2.2.1
  have hn4 := hW.2.2.2.2.1
  refine lv_aload_n hx hb dX4_addMember_0 rfl (lv_at hl 0 rfl) ?_
  refine g_X4_95 F hK (mw_0 hR) (v := .int (nI (S.1 1 0))) rfl dX4_addMember_1 ?_
  refine lv_bipush (v := 10) hx hb dX4_addMember_4 (by decide) ?_
  refine xn_ne (tgt := 15) (S.1 1 0) 10 rfl (by decide) (by omega) (by omega) hx hb dX4_addMember_6 (by decide) (fun c_6 => ?_) (fun c_6 => ?_)
  · refine lv_aload_n hx hb dX4_addMember_15 rfl (lv_at hl 0 rfl) ?_
    refine lv_iconst (v := 0) hx hb dX4_addMember_16 (by decide) ?_
    refine p_X4_87 F hK hS (mw_0 hR) (ma_0 hR) (v := .int 0) rfl rfl (Nat.le_of_ble_eq_true rfl) dX4_addMember_17 (fun H locs hat hof hS => ?_)
    have hR := ms_0_29 hR hof hat
    refine lv_iconst (v := 0) hx hb dX4_addMember_20 (by decide) ?_
    refine lv_istore_n (lv' := [(1, .int 0), (0, .ref (ad (0, 0)))]) hx hb dX4_addMember_21 rfl hl (by decide) rfl (fun ls hl => ?_)
    have L22 : ∀ (n : Nat) (k : Nat) (S1 : xS), 4 - k < n → (k ≤ 4) → (S1.1 1 0 = S.1 1 0) → (S1 = mTake (thr S 0) (S.1 1 0) k) → ∀ (H : Heap) (locs : List Loc), xRM G A S1 ad z H → va_S A s.heap H locs → ∀ (ls : Array Slot), lv_has ls 2 [(1, .int (nI k)), (0, .ref (ad (0, 0)))] → W p l e (headSpec (ws_ yX4_addMember cX4_addMember 2 (some .int)) ({ frames := 1, cells := 0, slots := 0, locals := 21 } : Room)).room s m ([.ref (ad (0, 0))] : List Value).toArray below meth c H locs 0 0 (MQ below (xQc (some (.int ((mAddMember S).1))) (fun _ H => xRM G A (mAddMember S).2 ad z H) A) ([.ref (ad (0, 0))] : List Value).toArray s 0 0 A) (F0 m 22 ls []) := by
      intro n22
      induction n22 with
      | zero =>
        intro k S1 hn22
        exact absurd hn22 (Nat.not_lt_zero _)
      | succ n22 ih22 =>
        intro k S1 hn22 hk4 hN eS H locs hR hS ls hl
        refine lv_iload_n hx hb dX4_addMember_22 rfl (lv_at hl 0 rfl) ?_
        refine lv_iconst (v := 4) hx hb dX4_addMember_23 (by decide) ?_
        refine xn_ge (tgt := 45) k 4 rfl (by decide) (by omega) (by omega) hx hb dX4_addMember_24 (by decide) (fun c_24 => ?_) (fun c_24 => ?_)
        · refine lv_aload_n hx hb dX4_addMember_45 rfl (lv_at hl 1 rfl) ?_
          refine lv_dup hx hb dX4_addMember_46 rfl ?_
          refine g_X4_95 F hK (mw_0 hR) (v := .int (nI (S1.1 1 0))) rfl dX4_addMember_47 ?_
          refine lv_iconst (v := 1) hx hb dX4_addMember_50 (by decide) ?_
          refine lv_iadd hx hb dX4_addMember_51 ?_
          refine x_topi (nI_1 _) ?_
          refine p_X4_95 F hK hS (mw_0 hR) (ma_0 hR) (v := .int (nI (S1.1 1 0 + 1))) rfl rfl (Nat.le_of_ble_eq_true rfl) dX4_addMember_52 (fun H locs hat hof hS => ?_)
          have hR := ms_0_3 hR hof hat
          refine lv_aload_n hx hb dX4_addMember_55 rfl (lv_at hl 1 rfl) ?_
          refine g_X4_95 F hK (mw_0 hR) (v := .int (nI (S1.1 1 0 + 1))) (by simp [fset, nset, lset]) dX4_addMember_56 ?_
          refine lv_iconst (v := 1) hx hb dX4_addMember_59 (by decide) ?_
          refine lv_isub hx hb dX4_addMember_60 ?_
          have hk9 : k = 4 := (by omega)
          subst hk9
          have e9 : mAddMember S = ((nI (S1.1 1 0 + 1)) - 1, (sN S1 1 0 (S1.1 1 0 + 1))) := by simp [mAddMember, mRaises, c_6, c_24, eS, mTake_1]
          exact xr_Ci hx hb hr hlocks ((congrArg Prod.fst e9).symm) (by show xRM G A (mAddMember S).2 ad z H; rw [show (mAddMember S).2 = (sN S1 1 0 (S1.1 1 0 + 1)) from congrArg Prod.snd e9]; exact hR) hS (by first | omega | decide) (by first | omega | decide) dX4_addMember_61
        · refine lv_aload_n hx hb dX4_addMember_27 rfl (lv_at hl 1 rfl) ?_
          refine g_X4_18 F hK (mw_0 hR) (v := .ref (ad (3, 0))) rfl dX4_addMember_28 ?_
          refine lv_aload_n hx hb dX4_addMember_31 rfl (lv_at hl 1 rfl) ?_
          refine g_X4_95 F hK (mw_0 hR) (v := .int (nI (S1.1 1 0))) rfl dX4_addMember_32 ?_
          refine x_aald hx hb hK (mw_3 hR) rfl rfl (v := .ref (ad (4, S1.1 1 0))) (xi_nI (n := 10) (by omega) (by omega)) (rfl) dX4_addMember_35 ?_
          refine lv_iload_n hx hb dX4_addMember_36 rfl (lv_at hl 0 rfl) ?_
          refine lv_iconst (v := (-1)) hx hb dX4_addMember_37 (by decide) ?_
          refine x_iast hx hb hK hS (mw_4 hR (by omega)) (ma_4 hR (by omega)) (xi_nI (n := 4) (by omega) (by omega)) dX4_addMember_38 (fun H locs hat hof hS => ?_)
          have hR := ms_4_a hR (by omega) hof hat
          refine lv_iinc (v := nI (k + 1)) (lv' := [(1, .int (nI (k + 1))), (0, .ref (ad (0, 0)))]) hx hb dX4_addMember_39 hl (k := 0) rfl (nI_1 _) (by decide) rfl (fun ls hl => ?_)
          refine lv_goto (tgt := 22) hx hb dX4_addMember_42 (by decide) ?_
          exact ih22 (k + 1) (sF S1 2 (S1.1 1 0) k (-1)) (by omega) (by omega) hN (by rw [hN, eS]; rfl) _ _ hR hS ls (lv_sub hl [0, 1] rfl)
    exact L22 5 0 (sF S 26 0 0 0) (by omega) (by omega) rfl rfl _ _ hR hS ls (lv_sub hl [0, 1] rfl)
  · refine lv_aload_n hx hb dX4_addMember_9 rfl (lv_at hl 0 rfl) ?_
    refine lv_iconst (v := 1) hx hb dX4_addMember_10 (by decide) ?_
    refine xc_C (va_runV (As := [.int 1]) (rest := []) F (mX4_raises g (A := A) (S := S) (ad := ad) (z := z) 1) (cwV 1 hts (lw_V q1565 q1567 qs30 q80 q1568) rfl rfl rfl hdV_X4_raises ⟨Nat.le_of_ble_eq_true rfl, Nat.le_of_ble_eq_true rfl⟩) (xpreV (xrecv hK (mw_0 hR) rfl) hWK hS hR) rfl rfl hl.1 rfl (lv_room (Nat.le_of_ble_eq_true rfl)) dX4_addMember_11 ⟨Nat.le_of_ble_eq_true rfl, Nat.le_of_ble_eq_true rfl⟩) hS (fun H locs hR1 hz hk hS => ?_)
    have hR : xRM G A (sF S 26 0 0 1) ad z H := hR1
    refine x_topi (show (mRaises S 1).1 = 0 from rfl) ?_
    have e9 : mAddMember S = (0, (sF S 26 0 0 1)) := by simp [mAddMember, mRaises, c_6]
    exact xr_Ci hx hb hr hlocks ((congrArg Prod.fst e9).symm) (by show xRM G A (mAddMember S).2 ad z H; rw [show (mAddMember S).2 = (sF S 26 0 0 1) from congrArg Prod.snd e9]; exact hR) hS (by first | omega | decide) (by first | omega | decide) dX4_addMember_14

set_option maxHeartbeats 4000000 in
theorem mX4_isLive {l : Launch} {G : xG} {s0 : State} {b0 : Nat} (g : xG0 G s0 b0) {A : Nat → Prop} {S : xS} {ad : Nat × Nat → Nat} {z : xZ} (member kind day : Int32) (hW : mWF S) (hA : ∃ rk, rkOK S.2.1 rk ∧ ∀ i, rk i < 4) : Met l yX4_isLive (ws_ yX4_isLive cX4_isLive 4 (some .boolean)) ({ frames := 5, cells := 0, slots := 0, locals := 146 } : Room) (xP s0 A [.ref (ad (0, 0)), .int member, .int kind, .int day] (fun H => xRM G A S ad z H)) (xQc (some (.int (bI ((mIsLive S member kind day).1)))) (fun _ H => xRM G A (mIsLive S member kind day).2 ad z H) A) 0 0 A := by
  refine Met.ofW (cc := cX4_isLive) (maxL := 4) (ret := (some .boolean)) (by decide) rfl ?_
  intro p e s m args below meth c s₁ B hml hv
  obtain ⟨rfl, hWK, hR⟩ := hv
  have hx := B.exec
  have hb := B.bytes
  have hr := B.returns
  have hts := atoms_spec (ws := ws_ yX4_isLive cX4_isLive 4 (some .boolean)) B.pre
  have hts : ∀ w ∈ lw_all, w.before _ s = true := fun w h => hts w (List.mem_cons_of_mem _ h)
  have hown : s.vm.findClass "LendlatheModel" = some m.cls := findClass_of_methodNamed B.named
  have hlocks := B.notSynchronized
  have hK := hWK.K g
  have F : CallFix p m c cX4_isLive 4 s _ lw_all "LendlatheModel" := ⟨hx, hb, hml, hown, hts⟩
  have hS : va_S A s.heap s.heap [] := va_S.rf
  have hl := lv_entry ([.ref (ad (0, 0)), .int member, .int kind, .int day]) (n := 4) (Nat.le_of_ble_eq_true rfl)
  rw [lg_entry_eq]
  generalize (lg_sl ([.ref (ad (0, 0)), .int member, .int kind, .int day]) ++ List.replicate (4 - (lg_sl ([.ref (ad (0, 0)), .int member, .int kind, .int day])).length) Slot.unset).toArray = ls at hl ⊢
  have hl : lv_has ls 4 [(0, .ref (ad (0, 0))), (1, .int member), (2, .int kind), (3, .int day)] := hl
  have hn0 := hW.1
  have hn1 := hW.2.1
  have hn2 := hW.2.2.1
  have hn3 := hW.2.2.2.1
  have hn4 := hW.2.2.2.2.1
  obtain ⟨rk, hrk, hr4⟩ := hA
  refine lv_aload_n hx hb dX4_isLive_0 rfl (lv_at hl 0 rfl) ?_
  refine lv_aload_n hx hb dX4_isLive_1 rfl (lv_at hl 0 rfl) ?_
  refine lv_iload_n hx hb dX4_isLive_2 rfl (lv_at hl 1 rfl) ?_
  refine xc_P (va_runV (As := [.int member]) (rest := [.ref (ad (0, 0))]) F (mX4_isMember g (A := A) (S := S) (ad := ad) (z := z) member) (cwV 1 hts (lw_V q1621 q1623 qs41 q80 q1624) rfl rfl rfl hdV_X4_isMember ⟨Nat.le_of_ble_eq_true rfl, Nat.le_of_ble_eq_true rfl⟩) (xpreV (xrecv hK (mw_0 hR) rfl) hWK hS hR) rfl rfl hl.1 rfl (lv_room (Nat.le_of_ble_eq_true rfl)) dX4_isLive_3 ⟨Nat.le_of_ble_eq_true rfl, Nat.le_of_ble_eq_true rfl⟩) ?_
  refine x_ifne (tgt := 13) hx hb dX4_isLive_6 (by decide) (fun c_6 => ?_) (fun c_6 => ?_)
  · obtain ⟨mj, hmj, rfl⟩ := inI_of' (n := S.1 1 0) (by first | rfl | decide) (by first | decide | omega) c_6
    refine lv_iload_n hx hb dX4_isLive_13 rfl (lv_at hl 2 rfl) ?_
    refine xc_P (va_runS (As := [.int kind]) (rest := [.ref (ad (0, 0))]) F (mX4_isKind g (A := A) kind) (va_cwS 1 hts (lw_S q1555 q1556 q80 q1557) rfl rfl rfl hdS_X4_isKind ⟨Nat.le_of_ble_eq_true rfl, Nat.le_of_ble_eq_true rfl⟩) (xpre hWK hS trivial) rfl rfl hl.1 rfl (lv_room (Nat.le_of_ble_eq_true rfl)) dX4_isLive_14 ⟨Nat.le_of_ble_eq_true rfl, Nat.le_of_ble_eq_true rfl⟩) ?_
    refine x_ifeq (tgt := 34) hx hb dX4_isLive_17 (by decide) (fun c_17 => ?_) (fun c_17 => ?_)
    · refine lv_iconst (v := 2) hx hb dX4_isLive_34 (by decide) ?_
      refine lv_goto (tgt := 39) hx hb dX4_isLive_35 (by decide) ?_
      refine p_X4_87 F hK hS (mw_0 hR) (ma_0 hR) (v := .int 2) rfl rfl (Nat.le_of_ble_eq_true rfl) dX4_isLive_39 (fun H locs hat hof hS => ?_)
      have hR := ms_0_29 hR hof hat
      refine lv_aload_n hx hb dX4_isLive_42 rfl (lv_at hl 0 rfl) ?_
      refine g_X4_87 F hK (mw_0 hR) (v := .int 2) (by simp [fset, nset, lset]) dX4_isLive_43 ?_
      refine lv_if_ne (tgt := 63) hx hb dX4_isLive_46 (by decide) (fun c_46 => ?_) (fun c_46 => (by first | exact absurd c_46 (by decide) | exact absurd (by decide) c_46))
      refine lv_iconst (v := 0) hx hb dX4_isLive_63 (by decide) ?_
      have e9 : mIsLive S (nI mj) kind day = (false, (sF S 26 0 0 2)) := by simp [mIsLive, c_6, c_17, nI_clamp (show mj < 2 ^ 31 by omega)]
      exact xr_Cz hx hb hr hlocks ((by rw [show (mIsLive S (nI mj) kind day).1 = false from congrArg Prod.fst e9]; rfl)) (by show xRM G A (mIsLive S (nI mj) kind day).2 ad z H; rw [show (mIsLive S (nI mj) kind day).2 = (sF S 26 0 0 2) from congrArg Prod.snd e9]; exact hR) hS (by first | omega | decide) (by first | omega | decide) dX4_isLive_64
    · obtain ⟨kj, hkj, rfl⟩ := inI_of' (n := 4) (by first | rfl | decide) (by first | decide | omega) c_17
      refine lv_iload_n hx hb dX4_isLive_20 rfl (lv_at hl 3 rfl) ?_
      refine lv_aload_n hx hb dX4_isLive_21 rfl (lv_at hl 0 rfl) ?_
      refine g_X4_112 F hK (mw_0 hR) (v := .int (S.2.1 7 0 0)) rfl dX4_isLive_22 ?_
      refine lv_sipush (v := 999) hx hb dX4_isLive_25 (by decide) ?_
      refine xc_P (va_runS (As := [.int day, .int (S.2.1 7 0 0), .int 999]) (rest := [.ref (ad (0, 0))]) F (mX4_in g (A := A) day (S.2.1 7 0 0) 999) (va_cwS 3 hts (lw_S q1558 q1559 q80 q1560) rfl rfl rfl hdS_X4_in ⟨Nat.le_of_ble_eq_true rfl, Nat.le_of_ble_eq_true rfl⟩) (xpre hWK hS trivial) rfl rfl hl.1 rfl (lv_room (Nat.le_of_ble_eq_true rfl)) dX4_isLive_28 ⟨Nat.le_of_ble_eq_true rfl, Nat.le_of_ble_eq_true rfl⟩) ?_
      refine x_ifne (tgt := 38) hx hb dX4_isLive_31 (by decide) (fun c_31 => ?_) (fun c_31 => ?_)
      · refine lv_iconst (v := 0) hx hb dX4_isLive_38 (by decide) ?_
        refine p_X4_87 F hK hS (mw_0 hR) (ma_0 hR) (v := .int 0) rfl rfl (Nat.le_of_ble_eq_true rfl) dX4_isLive_39 (fun H locs hat hof hS => ?_)
        have hR := ms_0_29 hR hof hat
        refine lv_aload_n hx hb dX4_isLive_42 rfl (lv_at hl 0 rfl) ?_
        refine g_X4_87 F hK (mw_0 hR) (v := .int 0) (by simp [fset, nset, lset]) dX4_isLive_43 ?_
        refine lv_if_ne (tgt := 63) hx hb dX4_isLive_46 (by decide) (fun c_46 => (by first | exact absurd c_46 (by decide) | exact absurd (by decide) c_46)) (fun c_46 => ?_)
        refine lv_aload_n hx hb dX4_isLive_49 rfl (lv_at hl 0 rfl) ?_
        refine lv_iload_n hx hb dX4_isLive_50 rfl (lv_at hl 1 rfl) ?_
        refine lv_iload_n hx hb dX4_isLive_51 rfl (lv_at hl 2 rfl) ?_
        refine lv_iload_n hx hb dX4_isLive_52 rfl (lv_at hl 3 rfl) ?_
        refine xc_P (va_runV (As := [.int (nI mj), .int (nI kj), .int day]) (rest := []) F (mX4_live g (A := A) (S := (sF S 26 0 0 0)) (ad := ad) (z := z) hrk 4 day (nI mj) mj (nI kj) kj (xi_nI (n := 10) (by omega) (by omega)) (xi_nI (n := 4) (by omega) (by omega)) (hr4 _)) (cwV 3 hts (lw_V q1585 q1587 qs33 q80 q1588) rfl rfl rfl hdV_X4_live ⟨Nat.le_of_ble_eq_true rfl, Nat.le_of_ble_eq_true rfl⟩) (xpreV (xrecv hK (mw_0 hR) rfl) hWK hS hR) rfl rfl hl.1 rfl (lv_room (Nat.le_of_ble_eq_true rfl)) dX4_isLive_53 ⟨Nat.le_of_ble_eq_true rfl, Nat.le_of_ble_eq_true rfl⟩) ?_
        refine x_topb (show mLive (sF S 26 0 0 0).2.1 day mj 4 kj = mLive S.2.1 day mj 4 kj from rfl) ?_
        refine x_ifeq (tgt := 63) hx hb dX4_isLive_56 (by decide) (fun c_56 => ?_) (fun c_56 => ?_)
        · refine lv_iconst (v := 0) hx hb dX4_isLive_63 (by decide) ?_
          have e9 : mIsLive S (nI mj) (nI kj) day = (false, (sF S 26 0 0 0)) := by simp [mIsLive, c_6, c_17, c_31, c_56, nI_clamp (show mj < 2 ^ 31 by omega), nI_clamp (show kj < 2 ^ 31 by omega)]
          exact xr_Cz hx hb hr hlocks ((by rw [show (mIsLive S (nI mj) (nI kj) day).1 = false from congrArg Prod.fst e9]; rfl)) (by show xRM G A (mIsLive S (nI mj) (nI kj) day).2 ad z H; rw [show (mIsLive S (nI mj) (nI kj) day).2 = (sF S 26 0 0 0) from congrArg Prod.snd e9]; exact hR) hS (by first | omega | decide) (by first | omega | decide) dX4_isLive_64
        · refine lv_iconst (v := 1) hx hb dX4_isLive_59 (by decide) ?_
          refine lv_goto (tgt := 64) hx hb dX4_isLive_60 (by decide) ?_
          have e9 : mIsLive S (nI mj) (nI kj) day = (true, (sF S 26 0 0 0)) := by simp [mIsLive, c_6, c_17, c_31, c_56, nI_clamp (show mj < 2 ^ 31 by omega), nI_clamp (show kj < 2 ^ 31 by omega)]
          exact xr_Cz hx hb hr hlocks ((by rw [show (mIsLive S (nI mj) (nI kj) day).1 = true from congrArg Prod.fst e9]; rfl)) (by show xRM G A (mIsLive S (nI mj) (nI kj) day).2 ad z H; rw [show (mIsLive S (nI mj) (nI kj) day).2 = (sF S 26 0 0 0) from congrArg Prod.snd e9]; exact hR) hS (by first | omega | decide) (by first | omega | decide) dX4_isLive_64
      · refine lv_iconst (v := 2) hx hb dX4_isLive_34 (by decide) ?_
        refine lv_goto (tgt := 39) hx hb dX4_isLive_35 (by decide) ?_
        refine p_X4_87 F hK hS (mw_0 hR) (ma_0 hR) (v := .int 2) rfl rfl (Nat.le_of_ble_eq_true rfl) dX4_isLive_39 (fun H locs hat hof hS => ?_)
        have hR := ms_0_29 hR hof hat
        refine lv_aload_n hx hb dX4_isLive_42 rfl (lv_at hl 0 rfl) ?_
        refine g_X4_87 F hK (mw_0 hR) (v := .int 2) (by simp [fset, nset, lset]) dX4_isLive_43 ?_
        refine lv_if_ne (tgt := 63) hx hb dX4_isLive_46 (by decide) (fun c_46 => ?_) (fun c_46 => (by first | exact absurd c_46 (by decide) | exact absurd (by decide) c_46))
        refine lv_iconst (v := 0) hx hb dX4_isLive_63 (by decide) ?_
        have e9 : mIsLive S (nI mj) (nI kj) day = (false, (sF S 26 0 0 2)) := by simp [mIsLive, c_6, c_17, c_31, nI_clamp (show mj < 2 ^ 31 by omega), nI_clamp (show kj < 2 ^ 31 by omega)]
        exact xr_Cz hx hb hr hlocks ((by rw [show (mIsLive S (nI mj) (nI kj) day).1 = false from congrArg Prod.fst e9]; rfl)) (by show xRM G A (mIsLive S (nI mj) (nI kj) day).2 ad z H; rw [show (mIsLive S (nI mj) (nI kj) day).2 = (sF S 26 0 0 2) from congrArg Prod.snd e9]; exact hR) hS (by first | omega | decide) (by first | omega | decide) dX4_isLive_64
  · refine lv_iconst (v := 1) hx hb dX4_isLive_9 (by decide) ?_
    refine lv_goto (tgt := 39) hx hb dX4_isLive_10 (by decide) ?_
    refine p_X4_87 F hK hS (mw_0 hR) (ma_0 hR) (v := .int 1) rfl rfl (Nat.le_of_ble_eq_true rfl) dX4_isLive_39 (fun H locs hat hof hS => ?_)
    have hR := ms_0_29 hR hof hat
    refine lv_aload_n hx hb dX4_isLive_42 rfl (lv_at hl 0 rfl) ?_
    refine g_X4_87 F hK (mw_0 hR) (v := .int 1) (by simp [fset, nset, lset]) dX4_isLive_43 ?_
    refine lv_if_ne (tgt := 63) hx hb dX4_isLive_46 (by decide) (fun c_46 => ?_) (fun c_46 => (by first | exact absurd c_46 (by decide) | exact absurd (by decide) c_46))
    refine lv_iconst (v := 0) hx hb dX4_isLive_63 (by decide) ?_
    have e9 : mIsLive S member kind day = (false, (sF S 26 0 0 1)) := by simp [mIsLive, c_6]
    exact xr_Cz hx hb hr hlocks ((by rw [show (mIsLive S member kind day).1 = false from congrArg Prod.fst e9]; rfl)) (by show xRM G A (mIsLive S member kind day).2 ad z H; rw [show (mIsLive S member kind day).2 = (sF S 26 0 0 1) from congrArg Prod.snd e9]; exact hR) hS (by first | omega | decide) (by first | omega | decide) dX4_isLive_64

set_option maxHeartbeats 4000000 in
theorem mX4_stateOf {l : Launch} {G : xG} {s0 : State} {b0 : Nat} (g : xG0 G s0 b0) {A : Nat → Prop} {S : xS} {ad : Nat × Nat → Nat} {z : xZ} (entry : Int32) (hW : mWF S) : Met l yX4_stateOf (ws_ yX4_stateOf cX4_stateOf 2 (some .char)) ({ frames := 2, cells := 0, slots := 0, locals := 43 } : Room) (xP s0 A [.ref (ad (0, 0)), .int entry] (fun H => xRM G A S ad z H)) (xQc (some (.int ((mStateOf S entry).1))) (fun _ H => xRM G A (mStateOf S entry).2 ad z H) A) 0 0 A := by
  refine Met.ofW (cc := cX4_stateOf) (maxL := 2) (ret := (some .char)) (by decide) rfl ?_
  intro p e s m args below meth c s₁ B hml hv
  obtain ⟨rfl, hWK, hR⟩ := hv
  have hx := B.exec
  have hb := B.bytes
  have hr := B.returns
  have hts := atoms_spec (ws := ws_ yX4_stateOf cX4_stateOf 2 (some .char)) B.pre
  have hts : ∀ w ∈ lw_all, w.before _ s = true := fun w h => hts w (List.mem_cons_of_mem _ h)
  have hown : s.vm.findClass "LendlatheModel" = some m.cls := findClass_of_methodNamed B.named
  have hlocks := B.notSynchronized
  have hK := hWK.K g
  have F : CallFix p m c cX4_stateOf 2 s _ lw_all "LendlatheModel" := ⟨hx, hb, hml, hown, hts⟩
  have hS : va_S A s.heap s.heap [] := va_S.rf
  have hl := lv_entry ([.ref (ad (0, 0)), .int entry]) (n := 2) (Nat.le_of_ble_eq_true rfl)
  rw [lg_entry_eq]
  generalize (lg_sl ([.ref (ad (0, 0)), .int entry]) ++ List.replicate (2 - (lg_sl ([.ref (ad (0, 0)), .int entry])).length) Slot.unset).toArray = ls at hl ⊢
  have hl : lv_has ls 2 [(0, .ref (ad (0, 0))), (1, .int entry)] := hl
  have hn0 := hW.1
  have hn1 := hW.2.1
  have hn2 := hW.2.2.1
  have hn3 := hW.2.2.2.1
  have hn4 := hW.2.2.2.2.1
  refine lv_aload_n hx hb dX4_stateOf_0 rfl (lv_at hl 0 rfl) ?_
  refine lv_aload_n hx hb dX4_stateOf_1 rfl (lv_at hl 0 rfl) ?_
  refine lv_iload_n hx hb dX4_stateOf_2 rfl (lv_at hl 1 rfl) ?_
  refine xc_P (va_runV (As := [.int entry]) (rest := [.ref (ad (0, 0))]) F (mX4_isEntry g (A := A) (S := S) (ad := ad) (z := z) entry) (cwV 1 hts (lw_V q1660 q1662 qs45 q80 q1663) rfl rfl rfl hdV_X4_isEntry ⟨Nat.le_of_ble_eq_true rfl, Nat.le_of_ble_eq_true rfl⟩) (xpreV (xrecv hK (mw_0 hR) rfl) hWK hS hR) rfl rfl hl.1 rfl (lv_room (Nat.le_of_ble_eq_true rfl)) dX4_stateOf_3 ⟨Nat.le_of_ble_eq_true rfl, Nat.le_of_ble_eq_true rfl⟩) ?_
  refine x_ifeq (tgt := 13) hx hb dX4_stateOf_6 (by decide) (fun c_6 => ?_) (fun c_6 => ?_)
  · refine lv_iconst (v := 1) hx hb dX4_stateOf_13 (by decide) ?_
    refine p_X4_87 F hK hS (mw_0 hR) (ma_0 hR) (v := .int 1) rfl rfl (Nat.le_of_ble_eq_true rfl) dX4_stateOf_14 (fun H locs hat hof hS => ?_)
    have hR := ms_0_29 hR hof hat
    refine lv_aload_n hx hb dX4_stateOf_17 rfl (lv_at hl 0 rfl) ?_
    refine g_X4_87 F hK (mw_0 hR) (v := .int 1) (by simp [fset, nset, lset]) dX4_stateOf_18 ?_
    refine lv_if_le (tgt := 28) hx hb dX4_stateOf_21 (by decide) (fun c_21 => (by first | exact absurd c_21 (by decide) | exact absurd (by decide) c_21)) (fun c_21 => ?_)
    refine lv_iconst (v := 0) hx hb dX4_stateOf_24 (by decide) ?_
    refine lv_goto (tgt := 34) hx hb dX4_stateOf_25 (by decide) ?_
    have e9 : mStateOf S entry = (0, (sF S 26 0 0 1)) := by simp [mStateOf, c_6]
    exact xr_Cc hx hb hr hlocks ((congrArg Prod.fst e9).symm) (by show xRM G A (mStateOf S entry).2 ad z H; rw [show (mStateOf S entry).2 = (sF S 26 0 0 1) from congrArg Prod.snd e9]; exact hR) hS (by first | omega | decide) (by first | omega | decide) (mStateOf_nar hW) dX4_stateOf_34
  · obtain ⟨ej, hej, rfl⟩ := inI_of' (n := S.1 2 0) (by first | rfl | decide) (by first | decide | omega) c_6
    refine lv_iconst (v := 0) hx hb dX4_stateOf_9 (by decide) ?_
    refine lv_goto (tgt := 14) hx hb dX4_stateOf_10 (by decide) ?_
    refine p_X4_87 F hK hS (mw_0 hR) (ma_0 hR) (v := .int 0) rfl rfl (Nat.le_of_ble_eq_true rfl) dX4_stateOf_14 (fun H locs hat hof hS => ?_)
    have hR := ms_0_29 hR hof hat
    refine lv_aload_n hx hb dX4_stateOf_17 rfl (lv_at hl 0 rfl) ?_
    refine g_X4_87 F hK (mw_0 hR) (v := .int 0) (by simp [fset, nset, lset]) dX4_stateOf_18 ?_
    refine lv_if_le (tgt := 28) hx hb dX4_stateOf_21 (by decide) (fun c_21 => ?_) (fun c_21 => (by first | exact absurd c_21 (by decide) | exact absurd (by decide) c_21))
    refine lv_aload_n hx hb dX4_stateOf_28 rfl (lv_at hl 0 rfl) ?_
    refine g_X4_49 F hK (mw_0 hR) (v := .ref (ad (14, 0))) rfl dX4_stateOf_29 ?_
    refine lv_iload_n hx hb dX4_stateOf_32 rfl (lv_at hl 1 rfl) ?_
    refine x_cald hx hb hK (mw_14 hR) (v := .int (S.2.1 16 ej 0)) (xi_nI (n := 150) (by omega) (by omega)) (rfl) dX4_stateOf_33 ?_
    have e9 : mStateOf S (nI ej) = (S.2.1 16 ej 0, (sF S 26 0 0 0)) := by simp [mStateOf, c_6, nI_clamp (show ej < 2 ^ 31 by omega)]
    exact xr_Cc hx hb hr hlocks ((congrArg Prod.fst e9).symm) (by show xRM G A (mStateOf S (nI ej)).2 ad z H; rw [show (mStateOf S (nI ej)).2 = (sF S 26 0 0 0) from congrArg Prod.snd e9]; exact hR) hS (by first | omega | decide) (by first | omega | decide) (mStateOf_nar hW) dX4_stateOf_34

set_option maxHeartbeats 4000000 in
theorem mX4_dueOf {l : Launch} {G : xG} {s0 : State} {b0 : Nat} (g : xG0 G s0 b0) {A : Nat → Prop} {S : xS} {ad : Nat × Nat → Nat} {z : xZ} (entry : Int32) (hW : mWF S) : Met l yX4_dueOf (ws_ yX4_dueOf cX4_dueOf 2 (some .int)) ({ frames := 2, cells := 0, slots := 0, locals := 43 } : Room) (xP s0 A [.ref (ad (0, 0)), .int entry] (fun H => xRM G A S ad z H)) (xQc (some (.int ((mDueOf S entry).1))) (fun _ H => xRM G A (mDueOf S entry).2 ad z H) A) 0 0 A := by
  refine Met.ofW (cc := cX4_dueOf) (maxL := 2) (ret := (some .int)) (by decide) rfl ?_
  intro p e s m args below meth c s₁ B hml hv
  obtain ⟨rfl, hWK, hR⟩ := hv
  have hx := B.exec
  have hb := B.bytes
  have hr := B.returns
  have hts := atoms_spec (ws := ws_ yX4_dueOf cX4_dueOf 2 (some .int)) B.pre
  have hts : ∀ w ∈ lw_all, w.before _ s = true := fun w h => hts w (List.mem_cons_of_mem _ h)
  have hown : s.vm.findClass "LendlatheModel" = some m.cls := findClass_of_methodNamed B.named
  have hlocks := B.notSynchronized
  have hK := hWK.K g
  have F : CallFix p m c cX4_dueOf 2 s _ lw_all "LendlatheModel" := ⟨hx, hb, hml, hown, hts⟩
  have hS : va_S A s.heap s.heap [] := va_S.rf
  have hl := lv_entry ([.ref (ad (0, 0)), .int entry]) (n := 2) (Nat.le_of_ble_eq_true rfl)
  rw [lg_entry_eq]
  generalize (lg_sl ([.ref (ad (0, 0)), .int entry]) ++ List.replicate (2 - (lg_sl ([.ref (ad (0, 0)), .int entry])).length) Slot.unset).toArray = ls at hl ⊢
  have hl : lv_has ls 2 [(0, .ref (ad (0, 0))), (1, .int entry)] := hl
  have hn0 := hW.1
  have hn1 := hW.2.1
  have hn2 := hW.2.2.1
  have hn3 := hW.2.2.2.1
  have hn4 := hW.2.2.2.2.1
  refine lv_aload_n hx hb dX4_dueOf_0 rfl (lv_at hl 0 rfl) ?_
  refine lv_aload_n hx hb dX4_dueOf_1 rfl (lv_at hl 0 rfl) ?_
  refine lv_iload_n hx hb dX4_dueOf_2 rfl (lv_at hl 1 rfl) ?_
  refine xc_P (va_runV (As := [.int entry]) (rest := [.ref (ad (0, 0))]) F (mX4_isEntry g (A := A) (S := S) (ad := ad) (z := z) entry) (cwV 1 hts (lw_V q1660 q1662 qs45 q80 q1663) rfl rfl rfl hdV_X4_isEntry ⟨Nat.le_of_ble_eq_true rfl, Nat.le_of_ble_eq_true rfl⟩) (xpreV (xrecv hK (mw_0 hR) rfl) hWK hS hR) rfl rfl hl.1 rfl (lv_room (Nat.le_of_ble_eq_true rfl)) dX4_dueOf_3 ⟨Nat.le_of_ble_eq_true rfl, Nat.le_of_ble_eq_true rfl⟩) ?_
  refine x_ifeq (tgt := 13) hx hb dX4_dueOf_6 (by decide) (fun c_6 => ?_) (fun c_6 => ?_)
  · refine lv_iconst (v := 1) hx hb dX4_dueOf_13 (by decide) ?_
    refine p_X4_87 F hK hS (mw_0 hR) (ma_0 hR) (v := .int 1) rfl rfl (Nat.le_of_ble_eq_true rfl) dX4_dueOf_14 (fun H locs hat hof hS => ?_)
    have hR := ms_0_29 hR hof hat
    refine lv_aload_n hx hb dX4_dueOf_17 rfl (lv_at hl 0 rfl) ?_
    refine g_X4_87 F hK (mw_0 hR) (v := .int 1) (by simp [fset, nset, lset]) dX4_dueOf_18 ?_
    refine lv_if_le (tgt := 28) hx hb dX4_dueOf_21 (by decide) (fun c_21 => (by first | exact absurd c_21 (by decide) | exact absurd (by decide) c_21)) (fun c_21 => ?_)
    refine lv_iconst (v := 0) hx hb dX4_dueOf_24 (by decide) ?_
    refine lv_goto (tgt := 34) hx hb dX4_dueOf_25 (by decide) ?_
    have e9 : mDueOf S entry = (0, (sF S 26 0 0 1)) := by simp [mDueOf, c_6]
    exact xr_Ci hx hb hr hlocks ((congrArg Prod.fst e9).symm) (by show xRM G A (mDueOf S entry).2 ad z H; rw [show (mDueOf S entry).2 = (sF S 26 0 0 1) from congrArg Prod.snd e9]; exact hR) hS (by first | omega | decide) (by first | omega | decide) dX4_dueOf_34
  · obtain ⟨ej, hej, rfl⟩ := inI_of' (n := S.1 2 0) (by first | rfl | decide) (by first | decide | omega) c_6
    refine lv_iconst (v := 0) hx hb dX4_dueOf_9 (by decide) ?_
    refine lv_goto (tgt := 14) hx hb dX4_dueOf_10 (by decide) ?_
    refine p_X4_87 F hK hS (mw_0 hR) (ma_0 hR) (v := .int 0) rfl rfl (Nat.le_of_ble_eq_true rfl) dX4_dueOf_14 (fun H locs hat hof hS => ?_)
    have hR := ms_0_29 hR hof hat
    refine lv_aload_n hx hb dX4_dueOf_17 rfl (lv_at hl 0 rfl) ?_
    refine g_X4_87 F hK (mw_0 hR) (v := .int 0) (by simp [fset, nset, lset]) dX4_dueOf_18 ?_
    refine lv_if_le (tgt := 28) hx hb dX4_dueOf_21 (by decide) (fun c_21 => ?_) (fun c_21 => (by first | exact absurd c_21 (by decide) | exact absurd (by decide) c_21))
    refine lv_aload_n hx hb dX4_dueOf_28 rfl (lv_at hl 0 rfl) ?_
    refine g_X4_52 F hK (mw_0 hR) (v := .ref (ad (15, 0))) rfl dX4_dueOf_29 ?_
    refine lv_iload_n hx hb dX4_dueOf_32 rfl (lv_at hl 1 rfl) ?_
    refine x_iald hx hb hK (mw_15 hR) (v := .int (S.2.1 17 ej 0)) (xi_nI (n := 150) (by omega) (by omega)) (rfl) dX4_dueOf_33 ?_
    have e9 : mDueOf S (nI ej) = (S.2.1 17 ej 0, (sF S 26 0 0 0)) := by simp [mDueOf, c_6, nI_clamp (show ej < 2 ^ 31 by omega)]
    exact xr_Ci hx hb hr hlocks ((congrArg Prod.fst e9).symm) (by show xRM G A (mDueOf S (nI ej)).2 ad z H; rw [show (mDueOf S (nI ej)).2 = (sF S 26 0 0 0) from congrArg Prod.snd e9]; exact hR) hS (by first | omega | decide) (by first | omega | decide) dX4_dueOf_34

set_option maxHeartbeats 4000000 in
theorem mX4_setPrice {l : Launch} {G : xG} {s0 : State} {b0 : Nat} (g : xG0 G s0 b0) {A : Nat → Prop} {S : xS} {ad : Nat × Nat → Nat} {z : xZ} (material price : Int32) (hW : mWF S) : Met l yX4_setPrice (ws_ yX4_setPrice cX4_setPrice 4 (some .int)) ({ frames := 1, cells := 0, slots := 0, locals := 22 } : Room) (xP s0 A [.ref (ad (0, 0)), .int material, .int price] (fun H => xRM G A S ad z H)) (xQc (some (.int ((mSetPrice S material price).1))) (fun _ H => xRM G A (mSetPrice S material price).2 ad z H) A) 0 0 A := by
  refine Met.ofW (cc := cX4_setPrice) (maxL := 4) (ret := (some .int)) (by decide) rfl ?_
  intro p e s m args below meth c s₁ B hml hv
  obtain ⟨rfl, hWK, hR⟩ := hv
  have hx := B.exec
  have hb := B.bytes
  have hr := B.returns
  have hts := atoms_spec (ws := ws_ yX4_setPrice cX4_setPrice 4 (some .int)) B.pre
  have hts : ∀ w ∈ lw_all, w.before _ s = true := fun w h => hts w (List.mem_cons_of_mem _ h)
  have hown : s.vm.findClass "LendlatheModel" = some m.cls := findClass_of_methodNamed B.named
  have hlocks := B.notSynchronized
  have hK := hWK.K g
  have F : CallFix p m c cX4_setPrice 4 s _ lw_all "LendlatheModel" := ⟨hx, hb, hml, hown, hts⟩
  have hS : va_S A s.heap s.heap [] := va_S.rf
  have hl := lv_entry ([.ref (ad (0, 0)), .int material, .int price]) (n := 4) (Nat.le_of_ble_eq_true rfl)
  rw [lg_entry_eq]
  generalize (lg_sl ([.ref (ad (0, 0)), .int material, .int price]) ++ List.replicate (4 - (lg_sl ([.ref (ad (0, 0)), .int material, .int price])).length) Slot.unset).toArray = ls at hl ⊢
  have hl : lv_has ls 4 [(0, .ref (ad (0, 0))), (1, .int material), (2, .int price)] := hl
  have hn0 := hW.1
  have hn1 := hW.2.1
  have hn2 := hW.2.2.1
  have hn3 := hW.2.2.2.1
  have hn4 := hW.2.2.2.2.1
  refine lv_aload_n hx hb dX4_setPrice_0 rfl (lv_at hl 0 rfl) ?_
  refine lv_iload_n hx hb dX4_setPrice_1 rfl (lv_at hl 1 rfl) ?_
  refine lv_iconst (v := 0) hx hb dX4_setPrice_2 (by decide) ?_
  refine lv_iconst (v := 2) hx hb dX4_setPrice_3 (by decide) ?_
  refine xc_P (va_runS (As := [.int material, .int 0, .int 2]) (rest := [.ref (ad (0, 0))]) F (mX4_in g (A := A) material 0 2) (va_cwS 3 hts (lw_S q1558 q1559 q80 q1560) rfl rfl rfl hdS_X4_in ⟨Nat.le_of_ble_eq_true rfl, Nat.le_of_ble_eq_true rfl⟩) (xpre hWK hS trivial) rfl rfl hl.1 rfl (lv_room (Nat.le_of_ble_eq_true rfl)) dX4_setPrice_4 ⟨Nat.le_of_ble_eq_true rfl, Nat.le_of_ble_eq_true rfl⟩) ?_
  refine x_ifeq (tgt := 24) hx hb dX4_setPrice_7 (by decide) (fun c_7 => ?_) (fun c_7 => ?_)
  · refine lv_iconst (v := 1) hx hb dX4_setPrice_24 (by decide) ?_
    refine p_X4_87 F hK hS (mw_0 hR) (ma_0 hR) (v := .int 1) rfl rfl (Nat.le_of_ble_eq_true rfl) dX4_setPrice_25 (fun H locs hat hof hS => ?_)
    have hR := ms_0_29 hR hof hat
    refine lv_aload_n hx hb dX4_setPrice_28 rfl (lv_at hl 0 rfl) ?_
    refine g_X4_87 F hK (mw_0 hR) (v := .int 1) (by simp [fset, nset, lset]) dX4_setPrice_29 ?_
    refine lv_if_le (tgt := 37) hx hb dX4_setPrice_32 (by decide) (fun c_32 => (by first | exact absurd c_32 (by decide) | exact absurd (by decide) c_32)) (fun c_32 => ?_)
    refine lv_iconst (v := 0) hx hb dX4_setPrice_35 (by decide) ?_
    have e9 : mSetPrice S material price = (0, (sF S 26 0 0 1)) := by simp [mSetPrice, c_7]
    exact xr_Ci hx hb hr hlocks ((congrArg Prod.fst e9).symm) (by show xRM G A (mSetPrice S material price).2 ad z H; rw [show (mSetPrice S material price).2 = (sF S 26 0 0 1) from congrArg Prod.snd e9]; exact hR) hS (by first | omega | decide) (by first | omega | decide) dX4_setPrice_36
  · refine lv_iload_n hx hb dX4_setPrice_10 rfl (lv_at hl 2 rfl) ?_
    obtain ⟨mj, hmj, rfl⟩ := inI_of' (n := 3) (by first | rfl | decide) (by first | decide | omega) c_7
    refine lv_iconst (v := 0) hx hb dX4_setPrice_11 (by decide) ?_
    refine lv_bipush (v := 99) hx hb dX4_setPrice_12 (by decide) ?_
    refine xc_P (va_runS (As := [.int price, .int 0, .int 99]) (rest := [.ref (ad (0, 0))]) F (mX4_in g (A := A) price 0 99) (va_cwS 3 hts (lw_S q1558 q1559 q80 q1560) rfl rfl rfl hdS_X4_in ⟨Nat.le_of_ble_eq_true rfl, Nat.le_of_ble_eq_true rfl⟩) (xpre hWK hS trivial) rfl rfl hl.1 rfl (lv_room (Nat.le_of_ble_eq_true rfl)) dX4_setPrice_14 ⟨Nat.le_of_ble_eq_true rfl, Nat.le_of_ble_eq_true rfl⟩) ?_
    refine x_ifeq (tgt := 24) hx hb dX4_setPrice_17 (by decide) (fun c_17 => ?_) (fun c_17 => ?_)
    · refine lv_iconst (v := 1) hx hb dX4_setPrice_24 (by decide) ?_
      refine p_X4_87 F hK hS (mw_0 hR) (ma_0 hR) (v := .int 1) rfl rfl (Nat.le_of_ble_eq_true rfl) dX4_setPrice_25 (fun H locs hat hof hS => ?_)
      have hR := ms_0_29 hR hof hat
      refine lv_aload_n hx hb dX4_setPrice_28 rfl (lv_at hl 0 rfl) ?_
      refine g_X4_87 F hK (mw_0 hR) (v := .int 1) (by simp [fset, nset, lset]) dX4_setPrice_29 ?_
      refine lv_if_le (tgt := 37) hx hb dX4_setPrice_32 (by decide) (fun c_32 => (by first | exact absurd c_32 (by decide) | exact absurd (by decide) c_32)) (fun c_32 => ?_)
      refine lv_iconst (v := 0) hx hb dX4_setPrice_35 (by decide) ?_
      have e9 : mSetPrice S (nI mj) price = (0, (sF S 26 0 0 1)) := by simp [mSetPrice, c_7, c_17, nI_clamp (show mj < 2 ^ 31 by omega)]
      exact xr_Ci hx hb hr hlocks ((congrArg Prod.fst e9).symm) (by show xRM G A (mSetPrice S (nI mj) price).2 ad z H; rw [show (mSetPrice S (nI mj) price).2 = (sF S 26 0 0 1) from congrArg Prod.snd e9]; exact hR) hS (by first | omega | decide) (by first | omega | decide) dX4_setPrice_36
    · refine lv_iconst (v := 0) hx hb dX4_setPrice_20 (by decide) ?_
      refine lv_goto (tgt := 25) hx hb dX4_setPrice_21 (by decide) ?_
      refine p_X4_87 F hK hS (mw_0 hR) (ma_0 hR) (v := .int 0) rfl rfl (Nat.le_of_ble_eq_true rfl) dX4_setPrice_25 (fun H locs hat hof hS => ?_)
      have hR := ms_0_29 hR hof hat
      refine lv_aload_n hx hb dX4_setPrice_28 rfl (lv_at hl 0 rfl) ?_
      refine g_X4_87 F hK (mw_0 hR) (v := .int 0) (by simp [fset, nset, lset]) dX4_setPrice_29 ?_
      refine lv_if_le (tgt := 37) hx hb dX4_setPrice_32 (by decide) (fun c_32 => ?_) (fun c_32 => (by first | exact absurd c_32 (by decide) | exact absurd (by decide) c_32))
      refine lv_aload_n hx hb dX4_setPrice_37 rfl (lv_at hl 0 rfl) ?_
      refine g_X4_70 F hK (mw_0 hR) (v := .ref (ad (23, 0))) rfl dX4_setPrice_38 ?_
      refine lv_iload_n hx hb dX4_setPrice_41 rfl (lv_at hl 1 rfl) ?_
      refine x_iald hx hb hK (mw_23 hR) (v := .int (S.2.1 6 mj 0)) (xi_nI (n := 3) (by omega) (by omega)) (rfl) dX4_setPrice_42 ?_
      refine lv_istore_n (lv' := [(3, .int (S.2.1 6 mj 0)), (0, .ref (ad (0, 0))), (1, .int (nI mj)), (2, .int price)]) hx hb dX4_setPrice_43 rfl hl (by decide) rfl (fun ls hl => ?_)
      refine lv_aload_n hx hb dX4_setPrice_44 rfl (lv_at hl 1 rfl) ?_
      refine g_X4_70 F hK (mw_0 hR) (v := .ref (ad (23, 0))) rfl dX4_setPrice_45 ?_
      refine lv_iload_n hx hb dX4_setPrice_48 rfl (lv_at hl 2 rfl) ?_
      refine lv_iload_n hx hb dX4_setPrice_49 rfl (lv_at hl 3 rfl) ?_
      refine x_iast hx hb hK hS (mw_23 hR) (ma_23 hR) (xi_nI (n := 3) (by omega) (by omega)) dX4_setPrice_50 (fun H locs hat hof hS => ?_)
      have hR := ms_23_a hR hof hat
      refine lv_iload_n hx hb dX4_setPrice_51 rfl (lv_at hl 0 rfl) ?_
      have e9 : mSetPrice S (nI mj) price = (S.2.1 6 mj 0, (sF (sF S 26 0 0 0) 6 mj 0 price)) := by simp [mSetPrice, c_7, c_17, nI_clamp (show mj < 2 ^ 31 by omega)]
      exact xr_Ci hx hb hr hlocks ((congrArg Prod.fst e9).symm) (by show xRM G A (mSetPrice S (nI mj) price).2 ad z H; rw [show (mSetPrice S (nI mj) price).2 = (sF (sF S 26 0 0 0) 6 mj 0 price) from congrArg Prod.snd e9]; exact hR) hS (by first | omega | decide) (by first | omega | decide) dX4_setPrice_52

set_option maxHeartbeats 4000000 in
theorem mX4_setRate {l : Launch} {G : xG} {s0 : State} {b0 : Nat} (g : xG0 G s0 b0) {A : Nat → Prop} {S : xS} {ad : Nat × Nat → Nat} {z : xZ} (kind rate : Int32) (hW : mWF S) : Met l yX4_setRate (ws_ yX4_setRate cX4_setRate 4 (some .int)) ({ frames := 2, cells := 0, slots := 0, locals := 42 } : Room) (xP s0 A [.ref (ad (0, 0)), .int kind, .int rate] (fun H => xRM G A S ad z H)) (xQc (some (.int ((mSetRate S kind rate).1))) (fun _ H => xRM G A (mSetRate S kind rate).2 ad z H) A) 0 0 A := by
  refine Met.ofW (cc := cX4_setRate) (maxL := 4) (ret := (some .int)) (by decide) rfl ?_
  intro p e s m args below meth c s₁ B hml hv
  obtain ⟨rfl, hWK, hR⟩ := hv
  have hx := B.exec
  have hb := B.bytes
  have hr := B.returns
  have hts := atoms_spec (ws := ws_ yX4_setRate cX4_setRate 4 (some .int)) B.pre
  have hts : ∀ w ∈ lw_all, w.before _ s = true := fun w h => hts w (List.mem_cons_of_mem _ h)
  have hown : s.vm.findClass "LendlatheModel" = some m.cls := findClass_of_methodNamed B.named
  have hlocks := B.notSynchronized
  have hK := hWK.K g
  have F : CallFix p m c cX4_setRate 4 s _ lw_all "LendlatheModel" := ⟨hx, hb, hml, hown, hts⟩
  have hS : va_S A s.heap s.heap [] := va_S.rf
  have hl := lv_entry ([.ref (ad (0, 0)), .int kind, .int rate]) (n := 4) (Nat.le_of_ble_eq_true rfl)
  rw [lg_entry_eq]
  generalize (lg_sl ([.ref (ad (0, 0)), .int kind, .int rate]) ++ List.replicate (4 - (lg_sl ([.ref (ad (0, 0)), .int kind, .int rate])).length) Slot.unset).toArray = ls at hl ⊢
  have hl : lv_has ls 4 [(0, .ref (ad (0, 0))), (1, .int kind), (2, .int rate)] := hl
  have hn0 := hW.1
  have hn1 := hW.2.1
  have hn2 := hW.2.2.1
  have hn3 := hW.2.2.2.1
  have hn4 := hW.2.2.2.2.1
  refine lv_aload_n hx hb dX4_setRate_0 rfl (lv_at hl 0 rfl) ?_
  refine lv_iload_n hx hb dX4_setRate_1 rfl (lv_at hl 1 rfl) ?_
  refine xc_P (va_runS (As := [.int kind]) (rest := [.ref (ad (0, 0))]) F (mX4_isKind g (A := A) kind) (va_cwS 1 hts (lw_S q1555 q1556 q80 q1557) rfl rfl rfl hdS_X4_isKind ⟨Nat.le_of_ble_eq_true rfl, Nat.le_of_ble_eq_true rfl⟩) (xpre hWK hS trivial) rfl rfl hl.1 rfl (lv_room (Nat.le_of_ble_eq_true rfl)) dX4_setRate_2 ⟨Nat.le_of_ble_eq_true rfl, Nat.le_of_ble_eq_true rfl⟩) ?_
  refine x_ifeq (tgt := 22) hx hb dX4_setRate_5 (by decide) (fun c_5 => ?_) (fun c_5 => ?_)
  · refine lv_iconst (v := 1) hx hb dX4_setRate_22 (by decide) ?_
    refine p_X4_87 F hK hS (mw_0 hR) (ma_0 hR) (v := .int 1) rfl rfl (Nat.le_of_ble_eq_true rfl) dX4_setRate_23 (fun H locs hat hof hS => ?_)
    have hR := ms_0_29 hR hof hat
    refine lv_aload_n hx hb dX4_setRate_26 rfl (lv_at hl 0 rfl) ?_
    refine g_X4_87 F hK (mw_0 hR) (v := .int 1) (by simp [fset, nset, lset]) dX4_setRate_27 ?_
    refine lv_if_le (tgt := 35) hx hb dX4_setRate_30 (by decide) (fun c_30 => (by first | exact absurd c_30 (by decide) | exact absurd (by decide) c_30)) (fun c_30 => ?_)
    refine lv_iconst (v := 0) hx hb dX4_setRate_33 (by decide) ?_
    have e9 : mSetRate S kind rate = (0, (sF S 26 0 0 1)) := by simp [mSetRate, c_5]
    exact xr_Ci hx hb hr hlocks ((congrArg Prod.fst e9).symm) (by show xRM G A (mSetRate S kind rate).2 ad z H; rw [show (mSetRate S kind rate).2 = (sF S 26 0 0 1) from congrArg Prod.snd e9]; exact hR) hS (by first | omega | decide) (by first | omega | decide) dX4_setRate_34
  · obtain ⟨kj, hkj, rfl⟩ := inI_of' (n := 4) (by first | rfl | decide) (by first | decide | omega) c_5
    refine lv_iload_n hx hb dX4_setRate_8 rfl (lv_at hl 2 rfl) ?_
    refine lv_iconst (v := 0) hx hb dX4_setRate_9 (by decide) ?_
    refine lv_bipush (v := 99) hx hb dX4_setRate_10 (by decide) ?_
    refine xc_P (va_runS (As := [.int rate, .int 0, .int 99]) (rest := [.ref (ad (0, 0))]) F (mX4_in g (A := A) rate 0 99) (va_cwS 3 hts (lw_S q1558 q1559 q80 q1560) rfl rfl rfl hdS_X4_in ⟨Nat.le_of_ble_eq_true rfl, Nat.le_of_ble_eq_true rfl⟩) (xpre hWK hS trivial) rfl rfl hl.1 rfl (lv_room (Nat.le_of_ble_eq_true rfl)) dX4_setRate_12 ⟨Nat.le_of_ble_eq_true rfl, Nat.le_of_ble_eq_true rfl⟩) ?_
    refine x_ifeq (tgt := 22) hx hb dX4_setRate_15 (by decide) (fun c_15 => ?_) (fun c_15 => ?_)
    · refine lv_iconst (v := 1) hx hb dX4_setRate_22 (by decide) ?_
      refine p_X4_87 F hK hS (mw_0 hR) (ma_0 hR) (v := .int 1) rfl rfl (Nat.le_of_ble_eq_true rfl) dX4_setRate_23 (fun H locs hat hof hS => ?_)
      have hR := ms_0_29 hR hof hat
      refine lv_aload_n hx hb dX4_setRate_26 rfl (lv_at hl 0 rfl) ?_
      refine g_X4_87 F hK (mw_0 hR) (v := .int 1) (by simp [fset, nset, lset]) dX4_setRate_27 ?_
      refine lv_if_le (tgt := 35) hx hb dX4_setRate_30 (by decide) (fun c_30 => (by first | exact absurd c_30 (by decide) | exact absurd (by decide) c_30)) (fun c_30 => ?_)
      refine lv_iconst (v := 0) hx hb dX4_setRate_33 (by decide) ?_
      have e9 : mSetRate S (nI kj) rate = (0, (sF S 26 0 0 1)) := by simp [mSetRate, c_5, c_15, nI_clamp (show kj < 2 ^ 31 by omega)]
      exact xr_Ci hx hb hr hlocks ((congrArg Prod.fst e9).symm) (by show xRM G A (mSetRate S (nI kj) rate).2 ad z H; rw [show (mSetRate S (nI kj) rate).2 = (sF S 26 0 0 1) from congrArg Prod.snd e9]; exact hR) hS (by first | omega | decide) (by first | omega | decide) dX4_setRate_34
    · refine lv_iconst (v := 0) hx hb dX4_setRate_18 (by decide) ?_
      refine lv_goto (tgt := 23) hx hb dX4_setRate_19 (by decide) ?_
      refine p_X4_87 F hK hS (mw_0 hR) (ma_0 hR) (v := .int 0) rfl rfl (Nat.le_of_ble_eq_true rfl) dX4_setRate_23 (fun H locs hat hof hS => ?_)
      have hR := ms_0_29 hR hof hat
      refine lv_aload_n hx hb dX4_setRate_26 rfl (lv_at hl 0 rfl) ?_
      refine g_X4_87 F hK (mw_0 hR) (v := .int 0) (by simp [fset, nset, lset]) dX4_setRate_27 ?_
      refine lv_if_le (tgt := 35) hx hb dX4_setRate_30 (by decide) (fun c_30 => ?_) (fun c_30 => (by first | exact absurd c_30 (by decide) | exact absurd (by decide) c_30))
      refine lv_aload_n hx hb dX4_setRate_35 rfl (lv_at hl 0 rfl) ?_
      refine g_X4_81 F hK (mw_0 hR) (v := .ref (ad (28, 0))) rfl dX4_setRate_36 ?_
      refine lv_iload_n hx hb dX4_setRate_39 rfl (lv_at hl 1 rfl) ?_
      refine x_iald hx hb hK (mw_28 hR) (v := .int (nI (S.1 5 kj))) (xi_nI (n := 4) (by omega) (by omega)) (rfl) dX4_setRate_40 ?_
      refine lv_istore_n (lv' := [(3, .int (nI (S.1 5 kj))), (0, .ref (ad (0, 0))), (1, .int (nI kj)), (2, .int rate)]) hx hb dX4_setRate_41 rfl hl (by decide) rfl (fun ls hl => ?_)
      refine lv_aload_n hx hb dX4_setRate_42 rfl (lv_at hl 1 rfl) ?_
      refine g_X4_78 F hK (mw_0 hR) (v := .ref (ad (26, 0))) rfl dX4_setRate_43 ?_
      refine lv_iload_n hx hb dX4_setRate_46 rfl (lv_at hl 2 rfl) ?_
      refine x_aald hx hb hK (mw_26 hR) rfl rfl (v := .ref (ad (27, kj))) (xi_nI (n := 4) (by omega) (by omega)) (rfl) dX4_setRate_47 ?_
      refine lv_iconst (v := 0) hx hb dX4_setRate_48 (by decide) ?_
      refine lv_iload_n hx hb dX4_setRate_49 rfl (lv_at hl 3 rfl) ?_
      refine x_iast hx hb hK hS (mw_27 hR (by omega)) (ma_27 hR (by omega)) (⟨by unfold vp_in; decide, by decide⟩ : xi 0 0 6) dX4_setRate_50 (fun H locs hat hof hS => ?_)
      have hR := ms_27_a hR (by omega) hof hat
      refine lv_aload_n hx hb dX4_setRate_51 rfl (lv_at hl 1 rfl) ?_
      refine g_X4_81 F hK (mw_0 hR) (v := .ref (ad (28, 0))) rfl dX4_setRate_52 ?_
      refine lv_iload_n hx hb dX4_setRate_55 rfl (lv_at hl 2 rfl) ?_
      refine lv_iconst (v := 1) hx hb dX4_setRate_56 (by decide) ?_
      refine x_topi (show (1 : Int32) = nI 1 by decide) ?_
      refine x_iast hx hb hK hS (mw_28 hR) (ma_28 hR) (xi_nI (n := 4) (by omega) (by omega)) dX4_setRate_57 (fun H locs hat hof hS => ?_)
      have hR := ms_28_a hR hof hat
      refine lv_iload_n hx hb dX4_setRate_58 rfl (lv_at hl 0 rfl) ?_
      have e9 : mSetRate S (nI kj) rate = (nI (S.1 5 kj), (sN (sF (sF S 26 0 0 0) 23 kj 0 rate) 5 kj 1)) := by simp [mSetRate, c_5, c_15, nI_clamp (show kj < 2 ^ 31 by omega)]
      exact xr_Ci hx hb hr hlocks ((congrArg Prod.fst e9).symm) (by show xRM G A (mSetRate S (nI kj) rate).2 ad z H; rw [show (mSetRate S (nI kj) rate).2 = (sN (sF (sF S 26 0 0 0) 23 kj 0 rate) 5 kj 1) from congrArg Prod.snd e9]; exact hR) hS (by first | omega | decide) (by first | omega | decide) dX4_setRate_59

set_option maxHeartbeats 4000000 in
theorem mX4_deliver {l : Launch} {G : xG} {s0 : State} {b0 : Nat} (g : xG0 G s0 b0) {A : Nat → Prop} {S : xS} {ad : Nat × Nat → Nat} {z : xZ} (material length : Int32) (hW : mWF S) : Met l yX4_deliver (ws_ yX4_deliver cX4_deliver 3 (some .int)) ({ frames := 1, cells := 0, slots := 0, locals := 22 } : Room) (xP s0 A [.ref (ad (0, 0)), .int material, .int length] (fun H => xRM G A S ad z H)) (xQc (some (.int ((mDeliver S material length).1))) (fun _ H => xRM G A (mDeliver S material length).2 ad z H) A) 0 0 A := by
  refine Met.ofW (cc := cX4_deliver) (maxL := 3) (ret := (some .int)) (by decide) rfl ?_
  intro p e s m args below meth c s₁ B hml hv
  obtain ⟨rfl, hWK, hR⟩ := hv
  have hx := B.exec
  have hb := B.bytes
  have hr := B.returns
  have hts := atoms_spec (ws := ws_ yX4_deliver cX4_deliver 3 (some .int)) B.pre
  have hts : ∀ w ∈ lw_all, w.before _ s = true := fun w h => hts w (List.mem_cons_of_mem _ h)
  have hown : s.vm.findClass "LendlatheModel" = some m.cls := findClass_of_methodNamed B.named
  have hlocks := B.notSynchronized
  have hK := hWK.K g
  have F : CallFix p m c cX4_deliver 3 s _ lw_all "LendlatheModel" := ⟨hx, hb, hml, hown, hts⟩
  have hS : va_S A s.heap s.heap [] := va_S.rf
  have hl := lv_entry ([.ref (ad (0, 0)), .int material, .int length]) (n := 3) (Nat.le_of_ble_eq_true rfl)
  rw [lg_entry_eq]
  generalize (lg_sl ([.ref (ad (0, 0)), .int material, .int length]) ++ List.replicate (3 - (lg_sl ([.ref (ad (0, 0)), .int material, .int length])).length) Slot.unset).toArray = ls at hl ⊢
  have hl : lv_has ls 3 [(0, .ref (ad (0, 0))), (1, .int material), (2, .int length)] := hl
  have hn0 := hW.1
  have hn1 := hW.2.1
  have hn2 := hW.2.2.1
  have hn3 := hW.2.2.2.1
  have hn4 := hW.2.2.2.2.1
  refine lv_aload_n hx hb dX4_deliver_0 rfl (lv_at hl 0 rfl) ?_
  refine lv_iload_n hx hb dX4_deliver_1 rfl (lv_at hl 1 rfl) ?_
  refine lv_iconst (v := 0) hx hb dX4_deliver_2 (by decide) ?_
  refine lv_iconst (v := 2) hx hb dX4_deliver_3 (by decide) ?_
  refine xc_P (va_runS (As := [.int material, .int 0, .int 2]) (rest := [.ref (ad (0, 0))]) F (mX4_in g (A := A) material 0 2) (va_cwS 3 hts (lw_S q1558 q1559 q80 q1560) rfl rfl rfl hdS_X4_in ⟨Nat.le_of_ble_eq_true rfl, Nat.le_of_ble_eq_true rfl⟩) (xpre hWK hS trivial) rfl rfl hl.1 rfl (lv_room (Nat.le_of_ble_eq_true rfl)) dX4_deliver_4 ⟨Nat.le_of_ble_eq_true rfl, Nat.le_of_ble_eq_true rfl⟩) ?_
  refine x_ifeq (tgt := 21) hx hb dX4_deliver_7 (by decide) (fun c_7 => ?_) (fun c_7 => ?_)
  · refine lv_iconst (v := 1) hx hb dX4_deliver_21 (by decide) ?_
    refine lv_goto (tgt := 39) hx hb dX4_deliver_22 (by decide) ?_
    refine p_X4_87 F hK hS (mw_0 hR) (ma_0 hR) (v := .int 1) rfl rfl (Nat.le_of_ble_eq_true rfl) dX4_deliver_39 (fun H locs hat hof hS => ?_)
    have hR := ms_0_29 hR hof hat
    refine lv_aload_n hx hb dX4_deliver_42 rfl (lv_at hl 0 rfl) ?_
    refine g_X4_87 F hK (mw_0 hR) (v := .int 1) (by simp [fset, nset, lset]) dX4_deliver_43 ?_
    refine lv_if_le (tgt := 51) hx hb dX4_deliver_46 (by decide) (fun c_46 => (by first | exact absurd c_46 (by decide) | exact absurd (by decide) c_46)) (fun c_46 => ?_)
    refine lv_iconst (v := 0) hx hb dX4_deliver_49 (by decide) ?_
    have e9 : mDeliver S material length = (0, (sF S 26 0 0 1)) := by simp [mDeliver, c_7]
    exact xr_Ci hx hb hr hlocks ((congrArg Prod.fst e9).symm) (by show xRM G A (mDeliver S material length).2 ad z H; rw [show (mDeliver S material length).2 = (sF S 26 0 0 1) from congrArg Prod.snd e9]; exact hR) hS (by first | omega | decide) (by first | omega | decide) dX4_deliver_50
  · refine lv_iload_n hx hb dX4_deliver_10 rfl (lv_at hl 2 rfl) ?_
    refine lv_iconst (v := 1) hx hb dX4_deliver_11 (by decide) ?_
    refine lv_sipush (v := 5000) hx hb dX4_deliver_12 (by decide) ?_
    refine xc_P (va_runS (As := [.int length, .int 1, .int 5000]) (rest := [.ref (ad (0, 0))]) F (mX4_in g (A := A) length 1 5000) (va_cwS 3 hts (lw_S q1558 q1559 q80 q1560) rfl rfl rfl hdS_X4_in ⟨Nat.le_of_ble_eq_true rfl, Nat.le_of_ble_eq_true rfl⟩) (xpre hWK hS trivial) rfl rfl hl.1 rfl (lv_room (Nat.le_of_ble_eq_true rfl)) dX4_deliver_15 ⟨Nat.le_of_ble_eq_true rfl, Nat.le_of_ble_eq_true rfl⟩) ?_
    refine x_ifne (tgt := 25) hx hb dX4_deliver_18 (by decide) (fun c_18 => ?_) (fun c_18 => ?_)
    · refine lv_aload_n hx hb dX4_deliver_25 rfl (lv_at hl 0 rfl) ?_
      refine g_X4_199 F hK (mw_0 hR) (v := .int (nI (S.1 3 0))) rfl dX4_deliver_26 ?_
      refine lv_bipush (v := 30) hx hb dX4_deliver_29 (by decide) ?_
      refine xn_ne (tgt := 38) (S.1 3 0) 30 rfl (by decide) (by omega) (by omega) hx hb dX4_deliver_31 (by decide) (fun c_31 => ?_) (fun c_31 => ?_)
      · refine lv_iconst (v := 0) hx hb dX4_deliver_38 (by decide) ?_
        refine p_X4_87 F hK hS (mw_0 hR) (ma_0 hR) (v := .int 0) rfl rfl (Nat.le_of_ble_eq_true rfl) dX4_deliver_39 (fun H locs hat hof hS => ?_)
        have hR := ms_0_29 hR hof hat
        refine lv_aload_n hx hb dX4_deliver_42 rfl (lv_at hl 0 rfl) ?_
        refine g_X4_87 F hK (mw_0 hR) (v := .int 0) (by simp [fset, nset, lset]) dX4_deliver_43 ?_
        refine lv_if_le (tgt := 51) hx hb dX4_deliver_46 (by decide) (fun c_46 => ?_) (fun c_46 => (by first | exact absurd c_46 (by decide) | exact absurd (by decide) c_46))
        refine lv_aload_n hx hb dX4_deliver_51 rfl (lv_at hl 0 rfl) ?_
        refine g_X4_64 F hK (mw_0 hR) (v := .ref (ad (21, 0))) rfl dX4_deliver_52 ?_
        refine lv_aload_n hx hb dX4_deliver_55 rfl (lv_at hl 0 rfl) ?_
        refine g_X4_199 F hK (mw_0 hR) (v := .int (nI (S.1 3 0))) rfl dX4_deliver_56 ?_
        refine lv_iload_n hx hb dX4_deliver_59 rfl (lv_at hl 1 rfl) ?_
        refine x_iast hx hb hK hS (mw_21 hR) (ma_21 hR) (xi_nI (n := 30) (by omega) (by omega)) dX4_deliver_60 (fun H locs hat hof hS => ?_)
        have hR := ms_21_a hR hof hat
        refine lv_aload_n hx hb dX4_deliver_61 rfl (lv_at hl 0 rfl) ?_
        refine g_X4_67 F hK (mw_0 hR) (v := .ref (ad (22, 0))) rfl dX4_deliver_62 ?_
        refine lv_aload_n hx hb dX4_deliver_65 rfl (lv_at hl 0 rfl) ?_
        refine g_X4_199 F hK (mw_0 hR) (v := .int (nI (S.1 3 0))) rfl dX4_deliver_66 ?_
        refine lv_iload_n hx hb dX4_deliver_69 rfl (lv_at hl 2 rfl) ?_
        refine x_iast hx hb hK hS (mw_22 hR) (ma_22 hR) (xi_nI (n := 30) (by omega) (by omega)) dX4_deliver_70 (fun H locs hat hof hS => ?_)
        have hR := ms_22_a hR hof hat
        refine lv_aload_n hx hb dX4_deliver_71 rfl (lv_at hl 0 rfl) ?_
        refine lv_dup hx hb dX4_deliver_72 rfl ?_
        refine g_X4_199 F hK (mw_0 hR) (v := .int (nI (S.1 3 0))) rfl dX4_deliver_73 ?_
        refine lv_iconst (v := 1) hx hb dX4_deliver_76 (by decide) ?_
        refine lv_iadd hx hb dX4_deliver_77 ?_
        refine x_topi (nI_1 _) ?_
        refine p_X4_199 F hK hS (mw_0 hR) (ma_0 hR) (v := .int (nI (S.1 3 0 + 1))) rfl rfl (Nat.le_of_ble_eq_true rfl) dX4_deliver_78 (fun H locs hat hof hS => ?_)
        have hR := ms_0_22 hR hof hat
        refine lv_aload_n hx hb dX4_deliver_81 rfl (lv_at hl 0 rfl) ?_
        refine g_X4_199 F hK (mw_0 hR) (v := .int (nI (S.1 3 0 + 1))) (by simp [fset, nset, lset]) dX4_deliver_82 ?_
        refine lv_iconst (v := 1) hx hb dX4_deliver_85 (by decide) ?_
        refine lv_isub hx hb dX4_deliver_86 ?_
        have e9 : mDeliver S material length = ((nI (S.1 3 0 + 1)) - 1, (sN (sF (sF (sF S 26 0 0 0) 20 (S.1 3 0) 0 material) 21 (S.1 3 0) 0 length) 3 0 (S.1 3 0 + 1))) := by simp [mDeliver, c_7, c_18, c_31]
        exact xr_Ci hx hb hr hlocks ((congrArg Prod.fst e9).symm) (by show xRM G A (mDeliver S material length).2 ad z H; rw [show (mDeliver S material length).2 = (sN (sF (sF (sF S 26 0 0 0) 20 (S.1 3 0) 0 material) 21 (S.1 3 0) 0 length) 3 0 (S.1 3 0 + 1)) from congrArg Prod.snd e9]; exact hR) hS (by first | omega | decide) (by first | omega | decide) dX4_deliver_87
      · refine lv_iconst (v := 2) hx hb dX4_deliver_34 (by decide) ?_
        refine lv_goto (tgt := 39) hx hb dX4_deliver_35 (by decide) ?_
        refine p_X4_87 F hK hS (mw_0 hR) (ma_0 hR) (v := .int 2) rfl rfl (Nat.le_of_ble_eq_true rfl) dX4_deliver_39 (fun H locs hat hof hS => ?_)
        have hR := ms_0_29 hR hof hat
        refine lv_aload_n hx hb dX4_deliver_42 rfl (lv_at hl 0 rfl) ?_
        refine g_X4_87 F hK (mw_0 hR) (v := .int 2) (by simp [fset, nset, lset]) dX4_deliver_43 ?_
        refine lv_if_le (tgt := 51) hx hb dX4_deliver_46 (by decide) (fun c_46 => (by first | exact absurd c_46 (by decide) | exact absurd (by decide) c_46)) (fun c_46 => ?_)
        refine lv_iconst (v := 0) hx hb dX4_deliver_49 (by decide) ?_
        have e9 : mDeliver S material length = (0, (sF S 26 0 0 2)) := by simp [mDeliver, c_7, c_18, c_31]
        exact xr_Ci hx hb hr hlocks ((congrArg Prod.fst e9).symm) (by show xRM G A (mDeliver S material length).2 ad z H; rw [show (mDeliver S material length).2 = (sF S 26 0 0 2) from congrArg Prod.snd e9]; exact hR) hS (by first | omega | decide) (by first | omega | decide) dX4_deliver_50
    · refine lv_iconst (v := 1) hx hb dX4_deliver_21 (by decide) ?_
      refine lv_goto (tgt := 39) hx hb dX4_deliver_22 (by decide) ?_
      refine p_X4_87 F hK hS (mw_0 hR) (ma_0 hR) (v := .int 1) rfl rfl (Nat.le_of_ble_eq_true rfl) dX4_deliver_39 (fun H locs hat hof hS => ?_)
      have hR := ms_0_29 hR hof hat
      refine lv_aload_n hx hb dX4_deliver_42 rfl (lv_at hl 0 rfl) ?_
      refine g_X4_87 F hK (mw_0 hR) (v := .int 1) (by simp [fset, nset, lset]) dX4_deliver_43 ?_
      refine lv_if_le (tgt := 51) hx hb dX4_deliver_46 (by decide) (fun c_46 => (by first | exact absurd c_46 (by decide) | exact absurd (by decide) c_46)) (fun c_46 => ?_)
      refine lv_iconst (v := 0) hx hb dX4_deliver_49 (by decide) ?_
      have e9 : mDeliver S material length = (0, (sF S 26 0 0 1)) := by simp [mDeliver, c_7, c_18]
      exact xr_Ci hx hb hr hlocks ((congrArg Prod.fst e9).symm) (by show xRM G A (mDeliver S material length).2 ad z H; rw [show (mDeliver S material length).2 = (sF S 26 0 0 1) from congrArg Prod.snd e9]; exact hR) hS (by first | omega | decide) (by first | omega | decide) dX4_deliver_50

set_option maxHeartbeats 4000000 in
theorem mX4_shareOf {l : Launch} {G : xG} {s0 : State} {b0 : Nat} (g : xG0 G s0 b0) {A : Nat → Prop} {S : xS} {ad : Nat × Nat → Nat} {z : xZ} (breakage member : Int32) (hW : mWF S) : Met l yX4_shareOf (ws_ yX4_shareOf cX4_shareOf 3 (some .int)) ({ frames := 2, cells := 0, slots := 0, locals := 43 } : Room) (xP s0 A [.ref (ad (0, 0)), .int breakage, .int member] (fun H => xRM G A S ad z H)) (xQc (some (.int ((mShareOf S breakage member).1))) (fun _ H => xRM G A (mShareOf S breakage member).2 ad z H) A) 0 0 A := by
  refine Met.ofW (cc := cX4_shareOf) (maxL := 3) (ret := (some .int)) (by decide) rfl ?_
  intro p e s m args below meth c s₁ B hml hv
  obtain ⟨rfl, hWK, hR⟩ := hv
  have hx := B.exec
  have hb := B.bytes
  have hr := B.returns
  have hts := atoms_spec (ws := ws_ yX4_shareOf cX4_shareOf 3 (some .int)) B.pre
  have hts : ∀ w ∈ lw_all, w.before _ s = true := fun w h => hts w (List.mem_cons_of_mem _ h)
  have hown : s.vm.findClass "LendlatheModel" = some m.cls := findClass_of_methodNamed B.named
  have hlocks := B.notSynchronized
  have hK := hWK.K g
  have F : CallFix p m c cX4_shareOf 3 s _ lw_all "LendlatheModel" := ⟨hx, hb, hml, hown, hts⟩
  have hS : va_S A s.heap s.heap [] := va_S.rf
  have hl := lv_entry ([.ref (ad (0, 0)), .int breakage, .int member]) (n := 3) (Nat.le_of_ble_eq_true rfl)
  rw [lg_entry_eq]
  generalize (lg_sl ([.ref (ad (0, 0)), .int breakage, .int member]) ++ List.replicate (3 - (lg_sl ([.ref (ad (0, 0)), .int breakage, .int member])).length) Slot.unset).toArray = ls at hl ⊢
  have hl : lv_has ls 3 [(0, .ref (ad (0, 0))), (1, .int breakage), (2, .int member)] := hl
  have hn0 := hW.1
  have hn1 := hW.2.1
  have hn2 := hW.2.2.1
  have hn3 := hW.2.2.2.1
  have hn4 := hW.2.2.2.2.1
  refine lv_aload_n hx hb dX4_shareOf_0 rfl (lv_at hl 0 rfl) ?_
  refine lv_iload_n hx hb dX4_shareOf_1 rfl (lv_at hl 1 rfl) ?_
  refine lv_iconst (v := 0) hx hb dX4_shareOf_2 (by decide) ?_
  refine lv_aload_n hx hb dX4_shareOf_3 rfl (lv_at hl 0 rfl) ?_
  refine g_X4_221 F hK (mw_0 hR) (v := .int (nI (S.1 4 0))) rfl dX4_shareOf_4 ?_
  refine lv_iconst (v := 1) hx hb dX4_shareOf_7 (by decide) ?_
  refine lv_isub hx hb dX4_shareOf_8 ?_
  refine xc_P (va_runS (As := [.int breakage, .int 0, .int ((nI (S.1 4 0)) - 1)]) (rest := [.ref (ad (0, 0))]) F (mX4_in g (A := A) breakage 0 ((nI (S.1 4 0)) - 1)) (va_cwS 3 hts (lw_S q1558 q1559 q80 q1560) rfl rfl rfl hdS_X4_in ⟨Nat.le_of_ble_eq_true rfl, Nat.le_of_ble_eq_true rfl⟩) (xpre hWK hS trivial) rfl rfl hl.1 rfl (lv_room (Nat.le_of_ble_eq_true rfl)) dX4_shareOf_9 ⟨Nat.le_of_ble_eq_true rfl, Nat.le_of_ble_eq_true rfl⟩) ?_
  refine x_ifne (tgt := 19) hx hb dX4_shareOf_12 (by decide) (fun c_12 => ?_) (fun c_12 => ?_)
  · refine lv_aload_n hx hb dX4_shareOf_19 rfl (lv_at hl 0 rfl) ?_
    refine lv_iload_n hx hb dX4_shareOf_20 rfl (lv_at hl 2 rfl) ?_
    refine xc_P (va_runV (As := [.int member]) (rest := [.ref (ad (0, 0))]) F (mX4_isMember g (A := A) (S := S) (ad := ad) (z := z) member) (cwV 1 hts (lw_V q1621 q1623 qs41 q80 q1624) rfl rfl rfl hdV_X4_isMember ⟨Nat.le_of_ble_eq_true rfl, Nat.le_of_ble_eq_true rfl⟩) (xpreV (xrecv hK (mw_0 hR) rfl) hWK hS hR) rfl rfl hl.1 rfl (lv_room (Nat.le_of_ble_eq_true rfl)) dX4_shareOf_21 ⟨Nat.le_of_ble_eq_true rfl, Nat.le_of_ble_eq_true rfl⟩) ?_
    refine x_ifne (tgt := 31) hx hb dX4_shareOf_24 (by decide) (fun c_24 => ?_) (fun c_24 => ?_)
    · refine lv_iconst (v := 0) hx hb dX4_shareOf_31 (by decide) ?_
      refine p_X4_87 F hK hS (mw_0 hR) (ma_0 hR) (v := .int 0) rfl rfl (Nat.le_of_ble_eq_true rfl) dX4_shareOf_32 (fun H locs hat hof hS => ?_)
      have hR := ms_0_29 hR hof hat
      refine lv_aload_n hx hb dX4_shareOf_35 rfl (lv_at hl 0 rfl) ?_
      refine g_X4_87 F hK (mw_0 hR) (v := .int 0) (by simp [fset, nset, lset]) dX4_shareOf_36 ?_
      refine lv_if_le (tgt := 46) hx hb dX4_shareOf_39 (by decide) (fun c_39 => ?_) (fun c_39 => (by first | exact absurd c_39 (by decide) | exact absurd (by decide) c_39))
      obtain ⟨bj, hbj, rfl⟩ := inI_of' (n := S.1 4 0) (by first | rfl | decide) (by first | decide | omega) c_12
      obtain ⟨mj, hmj, rfl⟩ := inI_of' (n := S.1 1 0) (by first | rfl | decide) (by first | decide | omega) c_24
      refine lv_aload_n hx hb dX4_shareOf_46 rfl (lv_at hl 0 rfl) ?_
      refine g_X4_84 F hK (mw_0 hR) (v := .ref (ad (29, 0))) rfl dX4_shareOf_47 ?_
      refine lv_iload_n hx hb dX4_shareOf_50 rfl (lv_at hl 1 rfl) ?_
      refine x_aald hx hb hK (mw_29 hR) rfl rfl (v := .ref (ad (30, bj))) (xi_nI (n := 20) (by omega) (by omega)) (rfl) dX4_shareOf_51 ?_
      refine lv_iload_n hx hb dX4_shareOf_52 rfl (lv_at hl 2 rfl) ?_
      refine x_iald hx hb hK (mw_30 hR (by omega)) (v := .int (S.2.1 25 bj mj)) (xi_nI (n := 10) (by omega) (by omega)) (rfl) dX4_shareOf_53 ?_
      have e9 : mShareOf S (nI bj) (nI mj) = (S.2.1 25 bj mj, (sF S 26 0 0 0)) := by simp [mShareOf, c_12, c_24, nI_clamp (show bj < 2 ^ 31 by omega), nI_clamp (show mj < 2 ^ 31 by omega)]
      exact xr_Ci hx hb hr hlocks ((congrArg Prod.fst e9).symm) (by show xRM G A (mShareOf S (nI bj) (nI mj)).2 ad z H; rw [show (mShareOf S (nI bj) (nI mj)).2 = (sF S 26 0 0 0) from congrArg Prod.snd e9]; exact hR) hS (by first | omega | decide) (by first | omega | decide) dX4_shareOf_54
    · refine lv_iconst (v := 2) hx hb dX4_shareOf_27 (by decide) ?_
      refine lv_goto (tgt := 32) hx hb dX4_shareOf_28 (by decide) ?_
      refine p_X4_87 F hK hS (mw_0 hR) (ma_0 hR) (v := .int 2) rfl rfl (Nat.le_of_ble_eq_true rfl) dX4_shareOf_32 (fun H locs hat hof hS => ?_)
      have hR := ms_0_29 hR hof hat
      refine lv_aload_n hx hb dX4_shareOf_35 rfl (lv_at hl 0 rfl) ?_
      refine g_X4_87 F hK (mw_0 hR) (v := .int 2) (by simp [fset, nset, lset]) dX4_shareOf_36 ?_
      refine lv_if_le (tgt := 46) hx hb dX4_shareOf_39 (by decide) (fun c_39 => (by first | exact absurd c_39 (by decide) | exact absurd (by decide) c_39)) (fun c_39 => ?_)
      refine lv_iconst (v := 0) hx hb dX4_shareOf_42 (by decide) ?_
      refine lv_goto (tgt := 54) hx hb dX4_shareOf_43 (by decide) ?_
      have e9 : mShareOf S breakage member = (0, (sF S 26 0 0 2)) := by simp [mShareOf, c_12, c_24]
      exact xr_Ci hx hb hr hlocks ((congrArg Prod.fst e9).symm) (by show xRM G A (mShareOf S breakage member).2 ad z H; rw [show (mShareOf S breakage member).2 = (sF S 26 0 0 2) from congrArg Prod.snd e9]; exact hR) hS (by first | omega | decide) (by first | omega | decide) dX4_shareOf_54
  · refine lv_iconst (v := 1) hx hb dX4_shareOf_15 (by decide) ?_
    refine lv_goto (tgt := 32) hx hb dX4_shareOf_16 (by decide) ?_
    refine p_X4_87 F hK hS (mw_0 hR) (ma_0 hR) (v := .int 1) rfl rfl (Nat.le_of_ble_eq_true rfl) dX4_shareOf_32 (fun H locs hat hof hS => ?_)
    have hR := ms_0_29 hR hof hat
    refine lv_aload_n hx hb dX4_shareOf_35 rfl (lv_at hl 0 rfl) ?_
    refine g_X4_87 F hK (mw_0 hR) (v := .int 1) (by simp [fset, nset, lset]) dX4_shareOf_36 ?_
    refine lv_if_le (tgt := 46) hx hb dX4_shareOf_39 (by decide) (fun c_39 => (by first | exact absurd c_39 (by decide) | exact absurd (by decide) c_39)) (fun c_39 => ?_)
    refine lv_iconst (v := 0) hx hb dX4_shareOf_42 (by decide) ?_
    refine lv_goto (tgt := 54) hx hb dX4_shareOf_43 (by decide) ?_
    have e9 : mShareOf S breakage member = (0, (sF S 26 0 0 1)) := by simp [mShareOf, c_12]
    exact xr_Ci hx hb hr hlocks ((congrArg Prod.fst e9).symm) (by show xRM G A (mShareOf S breakage member).2 ad z H; rw [show (mShareOf S breakage member).2 = (sF S 26 0 0 1) from congrArg Prod.snd e9]; exact hR) hS (by first | omega | decide) (by first | omega | decide) dX4_shareOf_54

set_option maxHeartbeats 4000000 in
theorem mX4_freeOf {l : Launch} {G : xG} {s0 : State} {b0 : Nat} (g : xG0 G s0 b0) {A : Nat → Prop} {S : xS} {ad : Nat × Nat → Nat} {z : xZ} (bar : Int32) (hW : mWF S) : Met l yX4_freeOf (ws_ yX4_freeOf cX4_freeOf 2 (some .int)) ({ frames := 1, cells := 0, slots := 0, locals := 24 } : Room) (xP s0 A [.ref (ad (0, 0)), .int bar] (fun H => xRM G A S ad z H)) (xQc (some (.int ((mFreeOf S bar).1))) (fun _ H => xRM G A (mFreeOf S bar).2 ad z H) A) 0 0 A := by
  refine Met.ofW (cc := cX4_freeOf) (maxL := 2) (ret := (some .int)) (by decide) rfl ?_
  intro p e s m args below meth c s₁ B hml hv
  obtain ⟨rfl, hWK, hR⟩ := hv
  have hx := B.exec
  have hb := B.bytes
  have hr := B.returns
  have hts := atoms_spec (ws := ws_ yX4_freeOf cX4_freeOf 2 (some .int)) B.pre
  have hts : ∀ w ∈ lw_all, w.before _ s = true := fun w h => hts w (List.mem_cons_of_mem _ h)
  have hown : s.vm.findClass "LendlatheModel" = some m.cls := findClass_of_methodNamed B.named
  have hlocks := B.notSynchronized
  have hK := hWK.K g
  have F : CallFix p m c cX4_freeOf 2 s _ lw_all "LendlatheModel" := ⟨hx, hb, hml, hown, hts⟩
  have hS : va_S A s.heap s.heap [] := va_S.rf
  have hl := lv_entry ([.ref (ad (0, 0)), .int bar]) (n := 2) (Nat.le_of_ble_eq_true rfl)
  rw [lg_entry_eq]
  generalize (lg_sl ([.ref (ad (0, 0)), .int bar]) ++ List.replicate (2 - (lg_sl ([.ref (ad (0, 0)), .int bar])).length) Slot.unset).toArray = ls at hl ⊢
  have hl : lv_has ls 2 [(0, .ref (ad (0, 0))), (1, .int bar)] := hl
  have hn0 := hW.1
  have hn1 := hW.2.1
  have hn2 := hW.2.2.1
  have hn3 := hW.2.2.2.1
  have hn4 := hW.2.2.2.2.1
  refine lv_aload_n hx hb dX4_freeOf_0 rfl (lv_at hl 0 rfl) ?_
  refine lv_iload_n hx hb dX4_freeOf_1 rfl (lv_at hl 1 rfl) ?_
  refine lv_iconst (v := 0) hx hb dX4_freeOf_2 (by decide) ?_
  refine lv_aload_n hx hb dX4_freeOf_3 rfl (lv_at hl 0 rfl) ?_
  refine g_X4_199 F hK (mw_0 hR) (v := .int (nI (S.1 3 0))) rfl dX4_freeOf_4 ?_
  refine lv_iconst (v := 1) hx hb dX4_freeOf_7 (by decide) ?_
  refine lv_isub hx hb dX4_freeOf_8 ?_
  refine xc_P (va_runS (As := [.int bar, .int 0, .int ((nI (S.1 3 0)) - 1)]) (rest := [.ref (ad (0, 0))]) F (mX4_in g (A := A) bar 0 ((nI (S.1 3 0)) - 1)) (va_cwS 3 hts (lw_S q1558 q1559 q80 q1560) rfl rfl rfl hdS_X4_in ⟨Nat.le_of_ble_eq_true rfl, Nat.le_of_ble_eq_true rfl⟩) (xpre hWK hS trivial) rfl rfl hl.1 rfl (lv_room (Nat.le_of_ble_eq_true rfl)) dX4_freeOf_9 ⟨Nat.le_of_ble_eq_true rfl, Nat.le_of_ble_eq_true rfl⟩) ?_
  refine x_ifeq (tgt := 19) hx hb dX4_freeOf_12 (by decide) (fun c_12 => ?_) (fun c_12 => ?_)
  · refine lv_iconst (v := 1) hx hb dX4_freeOf_19 (by decide) ?_
    refine p_X4_87 F hK hS (mw_0 hR) (ma_0 hR) (v := .int 1) rfl rfl (Nat.le_of_ble_eq_true rfl) dX4_freeOf_20 (fun H locs hat hof hS => ?_)
    have hR := ms_0_29 hR hof hat
    refine lv_aload_n hx hb dX4_freeOf_23 rfl (lv_at hl 0 rfl) ?_
    refine g_X4_87 F hK (mw_0 hR) (v := .int 1) (by simp [fset, nset, lset]) dX4_freeOf_24 ?_
    refine lv_if_le (tgt := 34) hx hb dX4_freeOf_27 (by decide) (fun c_27 => (by first | exact absurd c_27 (by decide) | exact absurd (by decide) c_27)) (fun c_27 => ?_)
    refine lv_iconst (v := 0) hx hb dX4_freeOf_30 (by decide) ?_
    refine lv_goto (tgt := 39) hx hb dX4_freeOf_31 (by decide) ?_
    have e9 : mFreeOf S bar = (0, (sF S 26 0 0 1)) := by simp [mFreeOf, c_12]
    exact xr_Ci hx hb hr hlocks ((congrArg Prod.fst e9).symm) (by show xRM G A (mFreeOf S bar).2 ad z H; rw [show (mFreeOf S bar).2 = (sF S 26 0 0 1) from congrArg Prod.snd e9]; exact hR) hS (by first | omega | decide) (by first | omega | decide) dX4_freeOf_39
  · refine lv_iconst (v := 0) hx hb dX4_freeOf_15 (by decide) ?_
    refine lv_goto (tgt := 20) hx hb dX4_freeOf_16 (by decide) ?_
    refine p_X4_87 F hK hS (mw_0 hR) (ma_0 hR) (v := .int 0) rfl rfl (Nat.le_of_ble_eq_true rfl) dX4_freeOf_20 (fun H locs hat hof hS => ?_)
    have hR := ms_0_29 hR hof hat
    refine lv_aload_n hx hb dX4_freeOf_23 rfl (lv_at hl 0 rfl) ?_
    refine g_X4_87 F hK (mw_0 hR) (v := .int 0) (by simp [fset, nset, lset]) dX4_freeOf_24 ?_
    refine lv_if_le (tgt := 34) hx hb dX4_freeOf_27 (by decide) (fun c_27 => ?_) (fun c_27 => (by first | exact absurd c_27 (by decide) | exact absurd (by decide) c_27))
    obtain ⟨bj, hbj, rfl⟩ := inI_of' (n := S.1 3 0) (by first | rfl | decide) (by first | decide | omega) c_12
    refine lv_aload_n hx hb dX4_freeOf_34 rfl (lv_at hl 0 rfl) ?_
    refine lv_iload_n hx hb dX4_freeOf_35 rfl (lv_at hl 1 rfl) ?_
    refine xc_P (va_runV (As := [.int (nI bj)]) (rest := []) F (mX4_free g (A := A) (S := (sF S 26 0 0 0)) (ad := ad) (z := z) (xi_nI (n := 30) (by omega) (by omega)) hW) (cwV 1 hts (lw_V q1740 q1742 qs52 q80 q1743) rfl rfl rfl hdV_X4_free ⟨Nat.le_of_ble_eq_true rfl, Nat.le_of_ble_eq_true rfl⟩) (xpreV (xrecv hK (mw_0 hR) rfl) hWK hS hR) rfl rfl hl.1 rfl (lv_room (Nat.le_of_ble_eq_true rfl)) dX4_freeOf_36 ⟨Nat.le_of_ble_eq_true rfl, Nat.le_of_ble_eq_true rfl⟩) ?_
    refine x_topi (show mFreeBar (sF S 26 0 0 0) (nI bj) bj = mFreeBar S (nI bj) bj from rfl) ?_
    have e9 : mFreeOf S (nI bj) = (mFreeBar S (nI bj) bj, (sF S 26 0 0 0)) := by simp [mFreeOf, c_12, nI_clamp (show bj < 2 ^ 31 by omega)]
    exact xr_Ci hx hb hr hlocks ((congrArg Prod.fst e9).symm) (by show xRM G A (mFreeOf S (nI bj)).2 ad z H; rw [show (mFreeOf S (nI bj)).2 = (sF S 26 0 0 0) from congrArg Prod.snd e9]; exact hR) hS (by first | omega | decide) (by first | omega | decide) dX4_freeOf_39

set_option maxHeartbeats 4000000 in
theorem mX4_freeByCuts {l : Launch} {G : xG} {s0 : State} {b0 : Nat} (g : xG0 G s0 b0) {A : Nat → Prop} {S : xS} {ad : Nat × Nat → Nat} {z : xZ} (bar : Int32) (hW : mWF S) : Met l yX4_freeByCuts (ws_ yX4_freeByCuts cX4_freeByCuts 2 (some .int)) ({ frames := 2, cells := 0, slots := 0, locals := 45 } : Room) (xP s0 A [.ref (ad (0, 0)), .int bar] (fun H => xRM G A S ad z H)) (xQc (some (.int ((mFreeOf S bar).1))) (fun _ H => xRM G A (mFreeOf S bar).2 ad z H) A) 0 0 A := by
  refine Met.ofW (cc := cX4_freeByCuts) (maxL := 2) (ret := (some .int)) (by decide) rfl ?_
  intro p e s m args below meth c s₁ B hml hv
  obtain ⟨rfl, hWK, hR⟩ := hv
  have hx := B.exec
  have hb := B.bytes
  have hr := B.returns
  have hts := atoms_spec (ws := ws_ yX4_freeByCuts cX4_freeByCuts 2 (some .int)) B.pre
  have hts : ∀ w ∈ lw_all, w.before _ s = true := fun w h => hts w (List.mem_cons_of_mem _ h)
  have hown : s.vm.findClass "LendlatheModel" = some m.cls := findClass_of_methodNamed B.named
  have hlocks := B.notSynchronized
  have hK := hWK.K g
  have F : CallFix p m c cX4_freeByCuts 2 s _ lw_all "LendlatheModel" := ⟨hx, hb, hml, hown, hts⟩
  have hS : va_S A s.heap s.heap [] := va_S.rf
  have hl := lv_entry ([.ref (ad (0, 0)), .int bar]) (n := 2) (Nat.le_of_ble_eq_true rfl)
  rw [lg_entry_eq]
  generalize (lg_sl ([.ref (ad (0, 0)), .int bar]) ++ List.replicate (2 - (lg_sl ([.ref (ad (0, 0)), .int bar])).length) Slot.unset).toArray = ls at hl ⊢
  have hl : lv_has ls 2 [(0, .ref (ad (0, 0))), (1, .int bar)] := hl
  have hn0 := hW.1
  have hn1 := hW.2.1
  have hn2 := hW.2.2.1
  have hn3 := hW.2.2.2.1
  have hn4 := hW.2.2.2.2.1
  refine lv_aload_n hx hb dX4_freeByCuts_0 rfl (lv_at hl 0 rfl) ?_
  refine lv_iload_n hx hb dX4_freeByCuts_1 rfl (lv_at hl 1 rfl) ?_
  refine xc_C (va_runV (As := [.int bar]) (rest := []) F (mX4_freeOf g (A := A) (S := S) (ad := ad) (z := z) bar hW) (cwV 1 hts (lw_V q1752 q1745 q1746 q80 q1747) rfl rfl rfl hdV_X4_freeOf ⟨Nat.le_of_ble_eq_true rfl, Nat.le_of_ble_eq_true rfl⟩) (xpreV (xrecv hK (mw_0 hR) rfl) hWK hS hR) rfl rfl hl.1 rfl (lv_room (Nat.le_of_ble_eq_true rfl)) dX4_freeByCuts_2 ⟨Nat.le_of_ble_eq_true rfl, Nat.le_of_ble_eq_true rfl⟩) hS (fun H locs hR1 hz hk hS => ?_)
  have hR := hR1
  have e9 : mFreeOf S bar = ((mFreeOf S bar).1, (mFreeOf S bar).2) := by simp []
  exact xr_Ci hx hb hr hlocks ((congrArg Prod.fst e9).symm) (by show xRM G A (mFreeOf S bar).2 ad z H; rw [show (mFreeOf S bar).2 = (mFreeOf S bar).2 from congrArg Prod.snd e9]; exact hR) hS (by first | omega | decide) (by first | omega | decide) dX4_freeByCuts_5

set_option maxHeartbeats 4000000 in
theorem mX4_owes {l : Launch} {G : xG} {s0 : State} {b0 : Nat} (g : xG0 G s0 b0) {A : Nat → Prop} {S : xS} {ad : Nat × Nat → Nat} {z : xZ} (member : Int32) (hW : mWF S) : Met l yX4_owes (ws_ yX4_owes cX4_owes 2 (some .int)) ({ frames := 2, cells := 0, slots := 0, locals := 43 } : Room) (xP s0 A [.ref (ad (0, 0)), .int member] (fun H => xRM G A S ad z H)) (xQc (some (.int ((mOwes S member).1))) (fun _ H => xRM G A (mOwes S member).2 ad z H) A) 0 0 A := by
  refine Met.ofW (cc := cX4_owes) (maxL := 2) (ret := (some .int)) (by decide) rfl ?_
  intro p e s m args below meth c s₁ B hml hv
  obtain ⟨rfl, hWK, hR⟩ := hv
  have hx := B.exec
  have hb := B.bytes
  have hr := B.returns
  have hts := atoms_spec (ws := ws_ yX4_owes cX4_owes 2 (some .int)) B.pre
  have hts : ∀ w ∈ lw_all, w.before _ s = true := fun w h => hts w (List.mem_cons_of_mem _ h)
  have hown : s.vm.findClass "LendlatheModel" = some m.cls := findClass_of_methodNamed B.named
  have hlocks := B.notSynchronized
  have hK := hWK.K g
  have F : CallFix p m c cX4_owes 2 s _ lw_all "LendlatheModel" := ⟨hx, hb, hml, hown, hts⟩
  have hS : va_S A s.heap s.heap [] := va_S.rf
  have hl := lv_entry ([.ref (ad (0, 0)), .int member]) (n := 2) (Nat.le_of_ble_eq_true rfl)
  rw [lg_entry_eq]
  generalize (lg_sl ([.ref (ad (0, 0)), .int member]) ++ List.replicate (2 - (lg_sl ([.ref (ad (0, 0)), .int member])).length) Slot.unset).toArray = ls at hl ⊢
  have hl : lv_has ls 2 [(0, .ref (ad (0, 0))), (1, .int member)] := hl
  have hn0 := hW.1
  have hn1 := hW.2.1
  have hn2 := hW.2.2.1
  have hn3 := hW.2.2.2.1
  have hn4 := hW.2.2.2.2.1
  refine lv_aload_n hx hb dX4_owes_0 rfl (lv_at hl 0 rfl) ?_
  refine lv_aload_n hx hb dX4_owes_1 rfl (lv_at hl 0 rfl) ?_
  refine lv_iload_n hx hb dX4_owes_2 rfl (lv_at hl 1 rfl) ?_
  refine xc_P (va_runV (As := [.int member]) (rest := [.ref (ad (0, 0))]) F (mX4_isMember g (A := A) (S := S) (ad := ad) (z := z) member) (cwV 1 hts (lw_V q1621 q1623 qs41 q80 q1624) rfl rfl rfl hdV_X4_isMember ⟨Nat.le_of_ble_eq_true rfl, Nat.le_of_ble_eq_true rfl⟩) (xpreV (xrecv hK (mw_0 hR) rfl) hWK hS hR) rfl rfl hl.1 rfl (lv_room (Nat.le_of_ble_eq_true rfl)) dX4_owes_3 ⟨Nat.le_of_ble_eq_true rfl, Nat.le_of_ble_eq_true rfl⟩) ?_
  refine x_ifeq (tgt := 13) hx hb dX4_owes_6 (by decide) (fun c_6 => ?_) (fun c_6 => ?_)
  · refine lv_iconst (v := 1) hx hb dX4_owes_13 (by decide) ?_
    refine p_X4_87 F hK hS (mw_0 hR) (ma_0 hR) (v := .int 1) rfl rfl (Nat.le_of_ble_eq_true rfl) dX4_owes_14 (fun H locs hat hof hS => ?_)
    have hR := ms_0_29 hR hof hat
    refine lv_aload_n hx hb dX4_owes_17 rfl (lv_at hl 0 rfl) ?_
    refine g_X4_87 F hK (mw_0 hR) (v := .int 1) (by simp [fset, nset, lset]) dX4_owes_18 ?_
    refine lv_if_le (tgt := 28) hx hb dX4_owes_21 (by decide) (fun c_21 => (by first | exact absurd c_21 (by decide) | exact absurd (by decide) c_21)) (fun c_21 => ?_)
    refine lv_iconst (v := 0) hx hb dX4_owes_24 (by decide) ?_
    refine lv_goto (tgt := 34) hx hb dX4_owes_25 (by decide) ?_
    have e9 : mOwes S member = (0, (sF S 26 0 0 1)) := by simp [mOwes, c_6]
    exact xr_Ci hx hb hr hlocks ((congrArg Prod.fst e9).symm) (by show xRM G A (mOwes S member).2 ad z H; rw [show (mOwes S member).2 = (sF S 26 0 0 1) from congrArg Prod.snd e9]; exact hR) hS (by first | omega | decide) (by first | omega | decide) dX4_owes_34
  · obtain ⟨mj, hmj, rfl⟩ := inI_of' (n := S.1 1 0) (by first | rfl | decide) (by first | decide | omega) c_6
    refine lv_iconst (v := 0) hx hb dX4_owes_9 (by decide) ?_
    refine lv_goto (tgt := 14) hx hb dX4_owes_10 (by decide) ?_
    refine p_X4_87 F hK hS (mw_0 hR) (ma_0 hR) (v := .int 0) rfl rfl (Nat.le_of_ble_eq_true rfl) dX4_owes_14 (fun H locs hat hof hS => ?_)
    have hR := ms_0_29 hR hof hat
    refine lv_aload_n hx hb dX4_owes_17 rfl (lv_at hl 0 rfl) ?_
    refine g_X4_87 F hK (mw_0 hR) (v := .int 0) (by simp [fset, nset, lset]) dX4_owes_18 ?_
    refine lv_if_le (tgt := 28) hx hb dX4_owes_21 (by decide) (fun c_21 => ?_) (fun c_21 => (by first | exact absurd c_21 (by decide) | exact absurd (by decide) c_21))
    refine lv_aload_n hx hb dX4_owes_28 rfl (lv_at hl 0 rfl) ?_
    refine lv_iload_n hx hb dX4_owes_29 rfl (lv_at hl 1 rfl) ?_
    refine xc_P (va_runV (As := [.int (nI mj)]) (rest := []) F (mX4_owed g (A := A) (S := (sF S 26 0 0 0)) (ad := ad) (z := z) (xi_nI (n := 10) (by omega) (by omega)) hW) (cwV 1 hts (lw_V q1801 q1803 qs54 q80 q1804) rfl rfl rfl hdV_X4_owed ⟨Nat.le_of_ble_eq_true rfl, Nat.le_of_ble_eq_true rfl⟩) (xpreV (xrecv hK (mw_0 hR) rfl) hWK hS hR) rfl rfl hl.1 rfl (lv_room (Nat.le_of_ble_eq_true rfl)) dX4_owes_30 ⟨Nat.le_of_ble_eq_true rfl, Nat.le_of_ble_eq_true rfl⟩) ?_
    refine x_topl (show mOwed (sF S 26 0 0 0) (nI mj) mj = mOwed S (nI mj) mj from rfl) ?_
    refine lv_l2i hx hb dX4_owes_33 rfl ?_
    have e9 : mOwes S (nI mj) = ((mOwed S (nI mj) mj).toInt32, (sF S 26 0 0 0)) := by simp [mOwes, c_6, nI_clamp (show mj < 2 ^ 31 by omega)]
    exact xr_Ci hx hb hr hlocks ((congrArg Prod.fst e9).symm) (by show xRM G A (mOwes S (nI mj)).2 ad z H; rw [show (mOwes S (nI mj)).2 = (sF S 26 0 0 0) from congrArg Prod.snd e9]; exact hR) hS (by first | omega | decide) (by first | omega | decide) dX4_owes_34

set_option maxHeartbeats 4000000 in
theorem mX4_owesByEntries {l : Launch} {G : xG} {s0 : State} {b0 : Nat} (g : xG0 G s0 b0) {A : Nat → Prop} {S : xS} {ad : Nat × Nat → Nat} {z : xZ} (member : Int32) (hW : mWF S) : Met l yX4_owesByEntries (ws_ yX4_owesByEntries cX4_owesByEntries 2 (some .int)) ({ frames := 3, cells := 0, slots := 0, locals := 64 } : Room) (xP s0 A [.ref (ad (0, 0)), .int member] (fun H => xRM G A S ad z H)) (xQc (some (.int ((mOwes S member).1))) (fun _ H => xRM G A (mOwes S member).2 ad z H) A) 0 0 A := by
  refine Met.ofW (cc := cX4_owesByEntries) (maxL := 2) (ret := (some .int)) (by decide) rfl ?_
  intro p e s m args below meth c s₁ B hml hv
  obtain ⟨rfl, hWK, hR⟩ := hv
  have hx := B.exec
  have hb := B.bytes
  have hr := B.returns
  have hts := atoms_spec (ws := ws_ yX4_owesByEntries cX4_owesByEntries 2 (some .int)) B.pre
  have hts : ∀ w ∈ lw_all, w.before _ s = true := fun w h => hts w (List.mem_cons_of_mem _ h)
  have hown : s.vm.findClass "LendlatheModel" = some m.cls := findClass_of_methodNamed B.named
  have hlocks := B.notSynchronized
  have hK := hWK.K g
  have F : CallFix p m c cX4_owesByEntries 2 s _ lw_all "LendlatheModel" := ⟨hx, hb, hml, hown, hts⟩
  have hS : va_S A s.heap s.heap [] := va_S.rf
  have hl := lv_entry ([.ref (ad (0, 0)), .int member]) (n := 2) (Nat.le_of_ble_eq_true rfl)
  rw [lg_entry_eq]
  generalize (lg_sl ([.ref (ad (0, 0)), .int member]) ++ List.replicate (2 - (lg_sl ([.ref (ad (0, 0)), .int member])).length) Slot.unset).toArray = ls at hl ⊢
  have hl : lv_has ls 2 [(0, .ref (ad (0, 0))), (1, .int member)] := hl
  have hn0 := hW.1
  have hn1 := hW.2.1
  have hn2 := hW.2.2.1
  have hn3 := hW.2.2.2.1
  have hn4 := hW.2.2.2.2.1
  refine lv_aload_n hx hb dX4_owesByEntries_0 rfl (lv_at hl 0 rfl) ?_
  refine lv_iload_n hx hb dX4_owesByEntries_1 rfl (lv_at hl 1 rfl) ?_
  refine xc_C (va_runV (As := [.int member]) (rest := []) F (mX4_owes g (A := A) (S := S) (ad := ad) (z := z) member hW) (cwV 1 hts (lw_V q1813 q1806 q1807 q80 q1808) rfl rfl rfl hdV_X4_owes ⟨Nat.le_of_ble_eq_true rfl, Nat.le_of_ble_eq_true rfl⟩) (xpreV (xrecv hK (mw_0 hR) rfl) hWK hS hR) rfl rfl hl.1 rfl (lv_room (Nat.le_of_ble_eq_true rfl)) dX4_owesByEntries_2 ⟨Nat.le_of_ble_eq_true rfl, Nat.le_of_ble_eq_true rfl⟩) hS (fun H locs hR1 hz hk hS => ?_)
  have hR := hR1
  have e9 : mOwes S member = ((mOwes S member).1, (mOwes S member).2) := by simp []
  exact xr_Ci hx hb hr hlocks ((congrArg Prod.fst e9).symm) (by show xRM G A (mOwes S member).2 ad z H; rw [show (mOwes S member).2 = (mOwes S member).2 from congrArg Prod.snd e9]; exact hR) hS (by first | omega | decide) (by first | omega | decide) dX4_owesByEntries_5

set_option maxHeartbeats 4000000 in
theorem mX4_may {l : Launch} {G : xG} {s0 : State} {b0 : Nat} (g : xG0 G s0 b0) {A : Nat → Prop} {S : xS} {ad : Nat × Nat → Nat} {z : xZ} (machine day first : Int32) : Met l yX4_may (ws_ yX4_may cX4_may 4 (some .boolean)) ({ frames := 2, cells := 0, slots := 0, locals := 43 } : Room) (xP s0 A [.ref (ad (0, 0)), .int machine, .int day, .int first] (fun H => xRM G A S ad z H)) (xQc (some (.int (bI ((mMayS S machine day first).1)))) (fun _ H => xRM G A (mMayS S machine day first).2 ad z H) A) 0 0 A := by
  refine Met.ofW (cc := cX4_may) (maxL := 4) (ret := (some .boolean)) (by decide) rfl ?_
  intro p e s m args below meth c s₁ B hml hv
  obtain ⟨rfl, hWK, hR⟩ := hv
  have hx := B.exec
  have hb := B.bytes
  have hr := B.returns
  have hts := atoms_spec (ws := ws_ yX4_may cX4_may 4 (some .boolean)) B.pre
  have hts : ∀ w ∈ lw_all, w.before _ s = true := fun w h => hts w (List.mem_cons_of_mem _ h)
  have hown : s.vm.findClass "LendlatheModel" = some m.cls := findClass_of_methodNamed B.named
  have hlocks := B.notSynchronized
  have hK := hWK.K g
  have F : CallFix p m c cX4_may 4 s _ lw_all "LendlatheModel" := ⟨hx, hb, hml, hown, hts⟩
  have hS : va_S A s.heap s.heap [] := va_S.rf
  have hl := lv_entry ([.ref (ad (0, 0)), .int machine, .int day, .int first]) (n := 4) (Nat.le_of_ble_eq_true rfl)
  rw [lg_entry_eq]
  generalize (lg_sl ([.ref (ad (0, 0)), .int machine, .int day, .int first]) ++ List.replicate (4 - (lg_sl ([.ref (ad (0, 0)), .int machine, .int day, .int first])).length) Slot.unset).toArray = ls at hl ⊢
  have hl : lv_has ls 4 [(0, .ref (ad (0, 0))), (1, .int machine), (2, .int day), (3, .int first)] := hl
  refine lv_aload_n hx hb dX4_may_0 rfl (lv_at hl 0 rfl) ?_
  refine lv_aload_n hx hb dX4_may_1 rfl (lv_at hl 0 rfl) ?_
  refine lv_iload_n hx hb dX4_may_2 rfl (lv_at hl 1 rfl) ?_
  refine xc_P (va_runV (As := [.int machine]) (rest := [.ref (ad (0, 0))]) F (mX4_isMachine g (A := A) (S := S) (ad := ad) (z := z) machine) (cwV 1 hts (lw_V q1640 q1642 qs43 q80 q1643) rfl rfl rfl hdV_X4_isMachine ⟨Nat.le_of_ble_eq_true rfl, Nat.le_of_ble_eq_true rfl⟩) (xpreV (xrecv hK (mw_0 hR) rfl) hWK hS hR) rfl rfl hl.1 rfl (lv_room (Nat.le_of_ble_eq_true rfl)) dX4_may_3 ⟨Nat.le_of_ble_eq_true rfl, Nat.le_of_ble_eq_true rfl⟩) ?_
  refine x_ifne (tgt := 13) hx hb dX4_may_6 (by decide) (fun c_6 => ?_) (fun c_6 => ?_)
  · refine lv_iload_n hx hb dX4_may_13 rfl (lv_at hl 2 rfl) ?_
    refine lv_iload_n hx hb dX4_may_14 rfl (lv_at hl 3 rfl) ?_
    refine lv_aload_n hx hb dX4_may_15 rfl (lv_at hl 0 rfl) ?_
    refine g_X4_112 F hK (mw_0 hR) (v := .int (S.2.1 7 0 0)) rfl dX4_may_16 ?_
    refine lv_bipush (v := 6) hx hb dX4_may_19 (by decide) ?_
    refine lv_iadd hx hb dX4_may_21 ?_
    refine xc_P (va_runS (As := [.int day, .int first, .int ((S.2.1 7 0 0) + 6)]) (rest := [.ref (ad (0, 0))]) F (mX4_in g (A := A) day first ((S.2.1 7 0 0) + 6)) (va_cwS 3 hts (lw_S q1558 q1559 q80 q1560) rfl rfl rfl hdS_X4_in ⟨Nat.le_of_ble_eq_true rfl, Nat.le_of_ble_eq_true rfl⟩) (xpre hWK hS trivial) rfl rfl hl.1 rfl (lv_room (Nat.le_of_ble_eq_true rfl)) dX4_may_22 ⟨Nat.le_of_ble_eq_true rfl, Nat.le_of_ble_eq_true rfl⟩) ?_
    refine x_ifne (tgt := 32) hx hb dX4_may_25 (by decide) (fun c_25 => ?_) (fun c_25 => ?_)
    · refine lv_iconst (v := 0) hx hb dX4_may_32 (by decide) ?_
      refine p_X4_87 F hK hS (mw_0 hR) (ma_0 hR) (v := .int 0) rfl rfl (Nat.le_of_ble_eq_true rfl) dX4_may_33 (fun H locs hat hof hS => ?_)
      have hR := ms_0_29 hR hof hat
      refine lv_aload_n hx hb dX4_may_36 rfl (lv_at hl 0 rfl) ?_
      refine g_X4_87 F hK (mw_0 hR) (v := .int 0) (by simp [fset, nset, lset]) dX4_may_37 ?_
      refine lv_if_ne (tgt := 47) hx hb dX4_may_40 (by decide) (fun c_40 => (by first | exact absurd c_40 (by decide) | exact absurd (by decide) c_40)) (fun c_40 => ?_)
      refine lv_iconst (v := 1) hx hb dX4_may_43 (by decide) ?_
      refine lv_goto (tgt := 48) hx hb dX4_may_44 (by decide) ?_
      have e9 : mMayS S machine day first = (true, (sF S 26 0 0 0)) := by simp [mMayS, mMay, c_6, c_25]
      exact xr_Cz hx hb hr hlocks ((by rw [show (mMayS S machine day first).1 = true from congrArg Prod.fst e9]; rfl)) (by show xRM G A (mMayS S machine day first).2 ad z H; rw [show (mMayS S machine day first).2 = (sF S 26 0 0 0) from congrArg Prod.snd e9]; exact hR) hS (by first | omega | decide) (by first | omega | decide) dX4_may_48
    · refine lv_iconst (v := 2) hx hb dX4_may_28 (by decide) ?_
      refine lv_goto (tgt := 33) hx hb dX4_may_29 (by decide) ?_
      refine p_X4_87 F hK hS (mw_0 hR) (ma_0 hR) (v := .int 2) rfl rfl (Nat.le_of_ble_eq_true rfl) dX4_may_33 (fun H locs hat hof hS => ?_)
      have hR := ms_0_29 hR hof hat
      refine lv_aload_n hx hb dX4_may_36 rfl (lv_at hl 0 rfl) ?_
      refine g_X4_87 F hK (mw_0 hR) (v := .int 2) (by simp [fset, nset, lset]) dX4_may_37 ?_
      refine lv_if_ne (tgt := 47) hx hb dX4_may_40 (by decide) (fun c_40 => ?_) (fun c_40 => (by first | exact absurd c_40 (by decide) | exact absurd (by decide) c_40))
      refine lv_iconst (v := 0) hx hb dX4_may_47 (by decide) ?_
      have e9 : mMayS S machine day first = (false, (sF S 26 0 0 2)) := by simp [mMayS, mMay, c_6, c_25]
      exact xr_Cz hx hb hr hlocks ((by rw [show (mMayS S machine day first).1 = false from congrArg Prod.fst e9]; rfl)) (by show xRM G A (mMayS S machine day first).2 ad z H; rw [show (mMayS S machine day first).2 = (sF S 26 0 0 2) from congrArg Prod.snd e9]; exact hR) hS (by first | omega | decide) (by first | omega | decide) dX4_may_48
  · refine lv_iconst (v := 1) hx hb dX4_may_9 (by decide) ?_
    refine lv_goto (tgt := 33) hx hb dX4_may_10 (by decide) ?_
    refine p_X4_87 F hK hS (mw_0 hR) (ma_0 hR) (v := .int 1) rfl rfl (Nat.le_of_ble_eq_true rfl) dX4_may_33 (fun H locs hat hof hS => ?_)
    have hR := ms_0_29 hR hof hat
    refine lv_aload_n hx hb dX4_may_36 rfl (lv_at hl 0 rfl) ?_
    refine g_X4_87 F hK (mw_0 hR) (v := .int 1) (by simp [fset, nset, lset]) dX4_may_37 ?_
    refine lv_if_ne (tgt := 47) hx hb dX4_may_40 (by decide) (fun c_40 => ?_) (fun c_40 => (by first | exact absurd c_40 (by decide) | exact absurd (by decide) c_40))
    refine lv_iconst (v := 0) hx hb dX4_may_47 (by decide) ?_
    have e9 : mMayS S machine day first = (false, (sF S 26 0 0 1)) := by simp [mMayS, mMay, c_6]
    exact xr_Cz hx hb hr hlocks ((by rw [show (mMayS S machine day first).1 = false from congrArg Prod.fst e9]; rfl)) (by show xRM G A (mMayS S machine day first).2 ad z H; rw [show (mMayS S machine day first).2 = (sF S 26 0 0 1) from congrArg Prod.snd e9]; exact hR) hS (by first | omega | decide) (by first | omega | decide) dX4_may_48

set_option maxHeartbeats 4000000 in
theorem mX4_usedMinutes {l : Launch} {G : xG} {s0 : State} {b0 : Nat} (g : xG0 G s0 b0) {A : Nat → Prop} {S : xS} {ad : Nat × Nat → Nat} {z : xZ} (machine day : Int32) (hW : mWF S) : Met l yX4_usedMinutes (ws_ yX4_usedMinutes cX4_usedMinutes 3 (some .int)) ({ frames := 3, cells := 0, slots := 0, locals := 66 } : Room) (xP s0 A [.ref (ad (0, 0)), .int machine, .int day] (fun H => xRM G A S ad z H)) (xQc (some (.int ((mUsedMinutes S machine day).1))) (fun _ H => xRM G A (mUsedMinutes S machine day).2 ad z H) A) 0 0 A := by
  refine Met.ofW (cc := cX4_usedMinutes) (maxL := 3) (ret := (some .int)) (by decide) rfl ?_
  intro p e s m args below meth c s₁ B hml hv
  obtain ⟨rfl, hWK, hR⟩ := hv
  have hx := B.exec
  have hb := B.bytes
  have hr := B.returns
  have hts := atoms_spec (ws := ws_ yX4_usedMinutes cX4_usedMinutes 3 (some .int)) B.pre
  have hts : ∀ w ∈ lw_all, w.before _ s = true := fun w h => hts w (List.mem_cons_of_mem _ h)
  have hown : s.vm.findClass "LendlatheModel" = some m.cls := findClass_of_methodNamed B.named
  have hlocks := B.notSynchronized
  have hK := hWK.K g
  have F : CallFix p m c cX4_usedMinutes 3 s _ lw_all "LendlatheModel" := ⟨hx, hb, hml, hown, hts⟩
  have hS : va_S A s.heap s.heap [] := va_S.rf
  have hl := lv_entry ([.ref (ad (0, 0)), .int machine, .int day]) (n := 3) (Nat.le_of_ble_eq_true rfl)
  rw [lg_entry_eq]
  generalize (lg_sl ([.ref (ad (0, 0)), .int machine, .int day]) ++ List.replicate (3 - (lg_sl ([.ref (ad (0, 0)), .int machine, .int day])).length) Slot.unset).toArray = ls at hl ⊢
  have hl : lv_has ls 3 [(0, .ref (ad (0, 0))), (1, .int machine), (2, .int day)] := hl
  have hn0 := hW.1
  have hn1 := hW.2.1
  have hn2 := hW.2.2.1
  have hn3 := hW.2.2.2.1
  have hn4 := hW.2.2.2.2.1
  refine lv_aload_n hx hb dX4_usedMinutes_0 rfl (lv_at hl 0 rfl) ?_
  refine lv_iload_n hx hb dX4_usedMinutes_1 rfl (lv_at hl 1 rfl) ?_
  refine lv_iload_n hx hb dX4_usedMinutes_2 rfl (lv_at hl 2 rfl) ?_
  refine lv_iconst (v := 0) hx hb dX4_usedMinutes_3 (by decide) ?_
  refine xc_C (va_runV (As := [.int machine, .int day, .int 0]) (rest := []) F (mX4_may g (A := A) (S := S) (ad := ad) (z := z) machine day 0) (cwV 3 hts (lw_V q1686 q1688 qs47 q80 q1689) rfl rfl rfl hdV_X4_may ⟨Nat.le_of_ble_eq_true rfl, Nat.le_of_ble_eq_true rfl⟩) (xpreV (xrecv hK (mw_0 hR) rfl) hWK hS hR) rfl rfl hl.1 rfl (lv_room (Nat.le_of_ble_eq_true rfl)) dX4_usedMinutes_4 ⟨Nat.le_of_ble_eq_true rfl, Nat.le_of_ble_eq_true rfl⟩) hS (fun H locs hR1 hz hk hS => ?_)
  have hR : xRM G A (sF S 26 0 0 (mMay S machine day 0)) ad z H := hR1
  refine x_topb (show (mMayS S machine day 0).1 = decide (mMay S machine day 0 = 0) from rfl) ?_
  refine x_ifeq (tgt := 19) hx hb dX4_usedMinutes_7 (by decide) (fun c_7 => ?_) (fun c_7 => ?_)
  · have c_7 := of_decide_eq_false c_7
    refine lv_iconst (v := 0) hx hb dX4_usedMinutes_19 (by decide) ?_
    have e9 : mUsedMinutes S machine day = (0, (sF S 26 0 0 (mMay S machine day 0))) := by simp [mUsedMinutes, c_7]
    exact xr_Ci hx hb hr hlocks ((congrArg Prod.fst e9).symm) (by show xRM G A (mUsedMinutes S machine day).2 ad z H; rw [show (mUsedMinutes S machine day).2 = (sF S 26 0 0 (mMay S machine day 0)) from congrArg Prod.snd e9]; exact hR) hS (by first | omega | decide) (by first | omega | decide) dX4_usedMinutes_20
  · have c_7 := of_decide_eq_true c_7
    refine lv_aload_n hx hb dX4_usedMinutes_10 rfl (lv_at hl 0 rfl) ?_
    refine lv_iload_n hx hb dX4_usedMinutes_11 rfl (lv_at hl 1 rfl) ?_
    refine lv_iload_n hx hb dX4_usedMinutes_12 rfl (lv_at hl 2 rfl) ?_
    refine xc_P (va_runV (As := [.int machine, .int day]) (rest := []) F (mX4_used g (A := A) (S := (sF S 26 0 0 (mMay S machine day 0))) (ad := ad) (z := z) machine day hW) (cwV 2 hts (lw_V q1702 q1704 qs50 q80 q1705) rfl rfl rfl hdV_X4_used ⟨Nat.le_of_ble_eq_true rfl, Nat.le_of_ble_eq_true rfl⟩) (xpreV (xrecv hK (mw_0 hR) rfl) hWK hS hR) rfl rfl hl.1 rfl (lv_room (Nat.le_of_ble_eq_true rfl)) dX4_usedMinutes_13 ⟨Nat.le_of_ble_eq_true rfl, Nat.le_of_ble_eq_true rfl⟩) ?_
    refine x_topi (show mUsed (sF S 26 0 0 (mMay S machine day 0)).2.1 ((sF S 26 0 0 (mMay S machine day 0)).1 2 0) machine day = mUsed S.2.1 (S.1 2 0) machine day from rfl) ?_
    refine lv_goto (tgt := 20) hx hb dX4_usedMinutes_16 (by decide) ?_
    have e9 : mUsedMinutes S machine day = (mUsed S.2.1 (S.1 2 0) machine day, (sF S 26 0 0 (mMay S machine day 0))) := by simp [mUsedMinutes, c_7]
    exact xr_Ci hx hb hr hlocks ((congrArg Prod.fst e9).symm) (by show xRM G A (mUsedMinutes S machine day).2 ad z H; rw [show (mUsedMinutes S machine day).2 = (sF S 26 0 0 (mMay S machine day 0)) from congrArg Prod.snd e9]; exact hR) hS (by first | omega | decide) (by first | omega | decide) dX4_usedMinutes_20

set_option maxHeartbeats 4000000 in
theorem mX4_usedByMinutes {l : Launch} {G : xG} {s0 : State} {b0 : Nat} (g : xG0 G s0 b0) {A : Nat → Prop} {S : xS} {ad : Nat × Nat → Nat} {z : xZ} (machine day : Int32) (hW : mWF S) : Met l yX4_usedByMinutes (ws_ yX4_usedByMinutes cX4_usedByMinutes 3 (some .int)) ({ frames := 4, cells := 0, slots := 0, locals := 88 } : Room) (xP s0 A [.ref (ad (0, 0)), .int machine, .int day] (fun H => xRM G A S ad z H)) (xQc (some (.int ((mUsedMinutes S machine day).1))) (fun _ H => xRM G A (mUsedMinutes S machine day).2 ad z H) A) 0 0 A := by
  refine Met.ofW (cc := cX4_usedByMinutes) (maxL := 3) (ret := (some .int)) (by decide) rfl ?_
  intro p e s m args below meth c s₁ B hml hv
  obtain ⟨rfl, hWK, hR⟩ := hv
  have hx := B.exec
  have hb := B.bytes
  have hr := B.returns
  have hts := atoms_spec (ws := ws_ yX4_usedByMinutes cX4_usedByMinutes 3 (some .int)) B.pre
  have hts : ∀ w ∈ lw_all, w.before _ s = true := fun w h => hts w (List.mem_cons_of_mem _ h)
  have hown : s.vm.findClass "LendlatheModel" = some m.cls := findClass_of_methodNamed B.named
  have hlocks := B.notSynchronized
  have hK := hWK.K g
  have F : CallFix p m c cX4_usedByMinutes 3 s _ lw_all "LendlatheModel" := ⟨hx, hb, hml, hown, hts⟩
  have hS : va_S A s.heap s.heap [] := va_S.rf
  have hl := lv_entry ([.ref (ad (0, 0)), .int machine, .int day]) (n := 3) (Nat.le_of_ble_eq_true rfl)
  rw [lg_entry_eq]
  generalize (lg_sl ([.ref (ad (0, 0)), .int machine, .int day]) ++ List.replicate (3 - (lg_sl ([.ref (ad (0, 0)), .int machine, .int day])).length) Slot.unset).toArray = ls at hl ⊢
  have hl : lv_has ls 3 [(0, .ref (ad (0, 0))), (1, .int machine), (2, .int day)] := hl
  have hn0 := hW.1
  have hn1 := hW.2.1
  have hn2 := hW.2.2.1
  have hn3 := hW.2.2.2.1
  have hn4 := hW.2.2.2.2.1
  refine lv_aload_n hx hb dX4_usedByMinutes_0 rfl (lv_at hl 0 rfl) ?_
  refine lv_iload_n hx hb dX4_usedByMinutes_1 rfl (lv_at hl 1 rfl) ?_
  refine lv_iload_n hx hb dX4_usedByMinutes_2 rfl (lv_at hl 2 rfl) ?_
  refine xc_C (va_runV (As := [.int machine, .int day]) (rest := []) F (mX4_usedMinutes g (A := A) (S := S) (ad := ad) (z := z) machine day hW) (cwV 2 hts (lw_V q1710 q1699 q1700 q80 q1701) rfl rfl rfl hdV_X4_usedMinutes ⟨Nat.le_of_ble_eq_true rfl, Nat.le_of_ble_eq_true rfl⟩) (xpreV (xrecv hK (mw_0 hR) rfl) hWK hS hR) rfl rfl hl.1 rfl (lv_room (Nat.le_of_ble_eq_true rfl)) dX4_usedByMinutes_3 ⟨Nat.le_of_ble_eq_true rfl, Nat.le_of_ble_eq_true rfl⟩) hS (fun H locs hR1 hz hk hS => ?_)
  have hR := hR1
  have e9 : mUsedMinutes S machine day = ((mUsedMinutes S machine day).1, (mUsedMinutes S machine day).2) := by simp []
  exact xr_Ci hx hb hr hlocks ((congrArg Prod.fst e9).symm) (by show xRM G A (mUsedMinutes S machine day).2 ad z H; rw [show (mUsedMinutes S machine day).2 = (mUsedMinutes S machine day).2 from congrArg Prod.snd e9]; exact hR) hS (by first | omega | decide) (by first | omega | decide) dX4_usedByMinutes_6

