/-! contracts (printed by gen/mcon4.py) -/
set_option maxRecDepth 100000
set_option maxHeartbeats 4000000 in
theorem mX4_thrown {l : Launch} {G : xG} {s0 : State} {b0 : Nat} (g : xG0 G s0 b0) {A : Nat → Prop} {S : xS} {ad : Nat × Nat → Nat} {z : xZ} : Met l yX4_thrown (ws_ yX4_thrown cX4_thrown 1 (some .int)) ({ frames := 0, cells := 0, slots := 0, locals := 0 } : Room) (xP s0 A [.ref (ad (0, 0))] (fun H => xRM G A S ad z H)) (xQp (some (.int (S.2.1 26 0 0)))) 0 0 (fun _ => False) := by
  refine Met.ofW (cc := cX4_thrown) (maxL := 1) (ret := (some .int)) (by decide) rfl ?_
  intro p e s m args below meth c s₁ B hml hv
  obtain ⟨rfl, hWK, hR⟩ := hv
  have hx := B.exec
  have hb := B.bytes
  have hr := B.returns
  have hts := atoms_spec (ws := ws_ yX4_thrown cX4_thrown 1 (some .int)) B.pre
  have hts : ∀ w ∈ lw_all, w.before _ s = true := fun w h => hts w (List.mem_cons_of_mem _ h)
  have hown : s.vm.findClass "LendlatheModel" = some m.cls := findClass_of_methodNamed B.named
  have hlocks := B.notSynchronized
  have hK := hWK.K g
  have F : CallFix p m c cX4_thrown 1 s _ lw_all "LendlatheModel" := ⟨hx, hb, hml, hown, hts⟩
  have hS : va_S A s.heap s.heap [] := va_S.rf
  have hl := lv_entry ([.ref (ad (0, 0))]) (n := 1) (Nat.le_of_ble_eq_true rfl)
  rw [lg_entry_eq]
  generalize (lg_sl ([.ref (ad (0, 0))]) ++ List.replicate (1 - (lg_sl ([.ref (ad (0, 0))])).length) Slot.unset).toArray = ls at hl ⊢
  have hl : lv_has ls 1 [(0, .ref (ad (0, 0)))] := hl
  refine lv_aload_n hx hb dX4_thrown_0 rfl (lv_at hl 0 rfl) ?_
  refine g_X4_87 F hK (mw_0 hR) (v := .int (S.2.1 26 0 0)) rfl dX4_thrown_1 ?_
  exact xr_Pi hx hb hr hlocks (rfl) dX4_thrown_4

set_option maxHeartbeats 4000000 in
theorem mX4_minuteAt {l : Launch} {G : xG} {s0 : State} {b0 : Nat} (g : xG0 G s0 b0) {A : Nat → Prop} {S : xS} {ad : Nat × Nat → Nat} {z : xZ} (machine day minute : Int32) (hW : mWF S) : Met l yX4_minuteAt (ws_ yX4_minuteAt cX4_minuteAt 4 (some .char)) ({ frames := 3, cells := 0, slots := 0, locals := 66 } : Room) (xP s0 A [.ref (ad (0, 0)), .int machine, .int day, .int minute] (fun H => xRM G A S ad z H)) (xQc (some (.int ((mMinuteAt S machine day minute).1))) (fun _ H => xRM G A (mMinuteAt S machine day minute).2 ad z H) A) 0 0 A := by
  refine Met.ofW (cc := cX4_minuteAt) (maxL := 4) (ret := (some .char)) (by decide) rfl ?_
  intro p e s m args below meth c s₁ B hml hv
  obtain ⟨rfl, hWK, hR⟩ := hv
  have hx := B.exec
  have hb := B.bytes
  have hr := B.returns
  have hts := atoms_spec (ws := ws_ yX4_minuteAt cX4_minuteAt 4 (some .char)) B.pre
  have hts : ∀ w ∈ lw_all, w.before _ s = true := fun w h => hts w (List.mem_cons_of_mem _ h)
  have hown : s.vm.findClass "LendlatheModel" = some m.cls := findClass_of_methodNamed B.named
  have hlocks := B.notSynchronized
  have hK := hWK.K g
  have F : CallFix p m c cX4_minuteAt 4 s _ lw_all "LendlatheModel" := ⟨hx, hb, hml, hown, hts⟩
  have hS : va_S A s.heap s.heap [] := va_S.rf
  have hl := lv_entry ([.ref (ad (0, 0)), .int machine, .int day, .int minute]) (n := 4) (Nat.le_of_ble_eq_true rfl)
  rw [lg_entry_eq]
  generalize (lg_sl ([.ref (ad (0, 0)), .int machine, .int day, .int minute]) ++ List.replicate (4 - (lg_sl ([.ref (ad (0, 0)), .int machine, .int day, .int minute])).length) Slot.unset).toArray = ls at hl ⊢
  have hl : lv_has ls 4 [(0, .ref (ad (0, 0))), (1, .int machine), (2, .int day), (3, .int minute)] := hl
  have hn0 := hW.1
  have hn1 := hW.2.1
  have hn2 := hW.2.2.1
  have hn3 := hW.2.2.2.1
  have hn4 := hW.2.2.2.2.1
  refine lv_aload_n hx hb dX4_minuteAt_0 rfl (lv_at hl 0 rfl) ?_
  refine lv_iload_n hx hb dX4_minuteAt_1 rfl (lv_at hl 1 rfl) ?_
  refine lv_iload_n hx hb dX4_minuteAt_2 rfl (lv_at hl 2 rfl) ?_
  refine lv_iconst (v := 0) hx hb dX4_minuteAt_3 (by decide) ?_
  refine xc_C (va_runV (As := [.int machine, .int day, .int 0]) (rest := []) F (mX4_may g (A := A) (S := S) (ad := ad) (z := z) machine day 0) (cwV 3 hts (lw_V q1686 q1688 qs47 q80 q1689) rfl rfl rfl hdV_X4_may ⟨Nat.le_of_ble_eq_true rfl, Nat.le_of_ble_eq_true rfl⟩) (xpreV (xrecv hK (mw_0 hR) rfl) hWK hS hR) rfl rfl hl.1 rfl (lv_room (Nat.le_of_ble_eq_true rfl)) dX4_minuteAt_4 ⟨Nat.le_of_ble_eq_true rfl, Nat.le_of_ble_eq_true rfl⟩) hS (fun H locs hR1 hz hk hS => ?_)
  have hR : xRM G A (sF S 26 0 0 (mMay S machine day 0)) ad z H := hR1
  refine x_topb (show (mMayS S machine day 0).1 = decide (mMay S machine day 0 = 0) from rfl) ?_
  refine x_ifne (tgt := 12) hx hb dX4_minuteAt_7 (by decide) (fun c_7 => ?_) (fun c_7 => ?_)
  · have c_7 := of_decide_eq_true c_7
    obtain ⟨mj, hmj, rfl⟩ := inI_of' (n := S.1 0 0) (by first | rfl | decide) (by first | decide | omega) (mMay_in c_7)
    refine lv_aload_n hx hb dX4_minuteAt_12 rfl (lv_at hl 0 rfl) ?_
    refine lv_iload_n hx hb dX4_minuteAt_13 rfl (lv_at hl 3 rfl) ?_
    refine lv_iconst (v := 0) hx hb dX4_minuteAt_14 (by decide) ?_
    refine lv_sipush (v := 479) hx hb dX4_minuteAt_15 (by decide) ?_
    refine xc_P (va_runS (As := [.int minute, .int 0, .int 479]) (rest := [.ref (ad (0, 0))]) F (mX4_in g (A := A) minute 0 479) (va_cwS 3 hts (lw_S q1558 q1559 q80 q1560) rfl rfl rfl hdS_X4_in ⟨Nat.le_of_ble_eq_true rfl, Nat.le_of_ble_eq_true rfl⟩) (xpre hWK hS trivial) rfl rfl hl.1 rfl (lv_room (Nat.le_of_ble_eq_true rfl)) dX4_minuteAt_18 ⟨Nat.le_of_ble_eq_true rfl, Nat.le_of_ble_eq_true rfl⟩) ?_
    refine x_ifeq (tgt := 28) hx hb dX4_minuteAt_21 (by decide) (fun c_21 => ?_) (fun c_21 => ?_)
    · refine lv_iconst (v := 2) hx hb dX4_minuteAt_28 (by decide) ?_
      refine p_X4_87 F hK hS (mw_0 hR) (ma_0 hR) (v := .int 2) rfl rfl (Nat.le_of_ble_eq_true rfl) dX4_minuteAt_29 (fun H locs hat hof hS => ?_)
      have hR := ms_0_29 hR hof hat
      rw [sF_sF] at hR
      refine lv_aload_n hx hb dX4_minuteAt_32 rfl (lv_at hl 0 rfl) ?_
      refine g_X4_87 F hK (mw_0 hR) (v := .int 2) (by simp [fset, nset, lset]) dX4_minuteAt_33 ?_
      refine lv_if_le (tgt := 43) hx hb dX4_minuteAt_36 (by decide) (fun c_36 => (by first | exact absurd c_36 (by decide) | exact absurd (by decide) c_36)) (fun c_36 => ?_)
      refine lv_iconst (v := 0) hx hb dX4_minuteAt_39 (by decide) ?_
      refine lv_goto (tgt := 50) hx hb dX4_minuteAt_40 (by decide) ?_
      have e9 : mMinuteAt S (nI mj) day minute = (0, (sF S 26 0 0 2)) := by simp [mMinuteAt, c_7, c_21, nI_clamp (show mj < 2 ^ 31 by omega)]
      exact xr_Cc hx hb hr hlocks ((congrArg Prod.fst e9).symm) (by show xRM G A (mMinuteAt S (nI mj) day minute).2 ad z H; rw [show (mMinuteAt S (nI mj) day minute).2 = (sF S 26 0 0 2) from congrArg Prod.snd e9]; exact hR) hS (by first | omega | decide) (by first | omega | decide) mMinuteAt_nar dX4_minuteAt_50
    · refine lv_iconst (v := 0) hx hb dX4_minuteAt_24 (by decide) ?_
      refine lv_goto (tgt := 29) hx hb dX4_minuteAt_25 (by decide) ?_
      refine p_X4_87 F hK hS (mw_0 hR) (ma_0 hR) (v := .int 0) rfl rfl (Nat.le_of_ble_eq_true rfl) dX4_minuteAt_29 (fun H locs hat hof hS => ?_)
      have hR := ms_0_29 hR hof hat
      rw [sF_sF] at hR
      refine lv_aload_n hx hb dX4_minuteAt_32 rfl (lv_at hl 0 rfl) ?_
      refine g_X4_87 F hK (mw_0 hR) (v := .int 0) (by simp [fset, nset, lset]) dX4_minuteAt_33 ?_
      refine lv_if_le (tgt := 43) hx hb dX4_minuteAt_36 (by decide) (fun c_36 => ?_) (fun c_36 => (by first | exact absurd c_36 (by decide) | exact absurd (by decide) c_36))
      refine lv_aload_n hx hb dX4_minuteAt_43 rfl (lv_at hl 0 rfl) ?_
      refine lv_iload_n hx hb dX4_minuteAt_44 rfl (lv_at hl 1 rfl) ?_
      refine lv_iload_n hx hb dX4_minuteAt_45 rfl (lv_at hl 2 rfl) ?_
      refine lv_iload_n hx hb dX4_minuteAt_46 rfl (lv_at hl 3 rfl) ?_
      refine xc_P (va_runV (As := [.int (nI mj), .int day, .int minute]) (rest := []) F (mX4_minute g (A := A) (S := (sF S 26 0 0 0)) (ad := ad) (z := z) day minute (xi_nI (n := 6) (by omega) (by omega)) hW) (cwV 3 hts (lw_V q1690 q1692 qs48 q80 q1693) rfl rfl rfl hdV_X4_minute ⟨Nat.le_of_ble_eq_true rfl, Nat.le_of_ble_eq_true rfl⟩) (xpreV (xrecv hK (mw_0 hR) rfl) hWK hS hR) rfl rfl hl.1 rfl (lv_room (Nat.le_of_ble_eq_true rfl)) dX4_minuteAt_47 ⟨Nat.le_of_ble_eq_true rfl, Nat.le_of_ble_eq_true rfl⟩) ?_
      refine x_topi (show mMinute (sF S 26 0 0 0).2.1 ((sF S 26 0 0 0).1 2 0) (nI mj) mj day minute = mMinute S.2.1 (S.1 2 0) (nI mj) mj day minute from rfl) ?_
      have e9 : mMinuteAt S (nI mj) day minute = (mMinute S.2.1 (S.1 2 0) (nI mj) mj day minute, (sF S 26 0 0 0)) := by simp [mMinuteAt, c_7, c_21, nI_clamp (show mj < 2 ^ 31 by omega)]
      exact xr_Cc hx hb hr hlocks ((congrArg Prod.fst e9).symm) (by show xRM G A (mMinuteAt S (nI mj) day minute).2 ad z H; rw [show (mMinuteAt S (nI mj) day minute).2 = (sF S 26 0 0 0) from congrArg Prod.snd e9]; exact hR) hS (by first | omega | decide) (by first | omega | decide) mMinuteAt_nar dX4_minuteAt_50
  · have c_7 := of_decide_eq_false c_7
    refine lv_iconst (v := 0) hx hb dX4_minuteAt_10 (by decide) ?_
    have e9 : mMinuteAt S machine day minute = (0, (sF S 26 0 0 (mMay S machine day 0))) := by simp [mMinuteAt, c_7]
    exact xr_Cc hx hb hr hlocks ((congrArg Prod.fst e9).symm) (by show xRM G A (mMinuteAt S machine day minute).2 ad z H; rw [show (mMinuteAt S machine day minute).2 = (sF S 26 0 0 (mMay S machine day 0)) from congrArg Prod.snd e9]; exact hR) hS (by first | omega | decide) (by first | omega | decide) mMinuteAt_nar dX4_minuteAt_11

set_option maxHeartbeats 4000000 in
theorem mX4_setupMinutes {l : Launch} {G : xG} {s0 : State} {b0 : Nat} (g : xG0 G s0 b0) {A : Nat → Prop} {S : xS} {ad : Nat × Nat → Nat} {z : xZ} (machine day : Int32) (hW : mWF S) : Met l yX4_setupMinutes (ws_ yX4_setupMinutes cX4_setupMinutes 3 (some .int)) ({ frames := 3, cells := 0, slots := 0, locals := 74 } : Room) (xP s0 A [.ref (ad (0, 0)), .int machine, .int day] (fun H => xRM G A S ad z H)) (xQc (some (.int ((mSetupMinutes S machine day).1))) (fun _ H => xRM G A (mSetupMinutes S machine day).2 ad z H) A) 0 0 A := by
  refine Met.ofW (cc := cX4_setupMinutes) (maxL := 3) (ret := (some .int)) (by decide) rfl ?_
  intro p e s m args below meth c s₁ B hml hv
  obtain ⟨rfl, hWK, hR⟩ := hv
  have hx := B.exec
  have hb := B.bytes
  have hr := B.returns
  have hts := atoms_spec (ws := ws_ yX4_setupMinutes cX4_setupMinutes 3 (some .int)) B.pre
  have hts : ∀ w ∈ lw_all, w.before _ s = true := fun w h => hts w (List.mem_cons_of_mem _ h)
  have hown : s.vm.findClass "LendlatheModel" = some m.cls := findClass_of_methodNamed B.named
  have hlocks := B.notSynchronized
  have hK := hWK.K g
  have F : CallFix p m c cX4_setupMinutes 3 s _ lw_all "LendlatheModel" := ⟨hx, hb, hml, hown, hts⟩
  have hS : va_S A s.heap s.heap [] := va_S.rf
  have hl := lv_entry ([.ref (ad (0, 0)), .int machine, .int day]) (n := 3) (Nat.le_of_ble_eq_true rfl)
  rw [lg_entry_eq]
  generalize (lg_sl ([.ref (ad (0, 0)), .int machine, .int day]) ++ List.replicate (3 - (lg_sl ([.ref (ad (0, 0)), .int machine, .int day])).length) Slot.unset).toArray = ls at hl ⊢
  have hl : lv_has ls 3 [(0, .ref (ad (0, 0))), (1, .int machine), (2, .int day)] := hl
  have hn0 := hW.1
  have hn1 := hW.2.1
  have hn2 := hW.2.2.1
  have hn3 := hW.2.2.2.1
  have hn4 := hW.2.2.2.2.1
  refine lv_aload_n hx hb dX4_setupMinutes_0 rfl (lv_at hl 0 rfl) ?_
  refine lv_iload_n hx hb dX4_setupMinutes_1 rfl (lv_at hl 1 rfl) ?_
  refine lv_iload_n hx hb dX4_setupMinutes_2 rfl (lv_at hl 2 rfl) ?_
  refine lv_iconst (v := 0) hx hb dX4_setupMinutes_3 (by decide) ?_
  refine xc_C (va_runV (As := [.int machine, .int day, .int 0]) (rest := []) F (mX4_may g (A := A) (S := S) (ad := ad) (z := z) machine day 0) (cwV 3 hts (lw_V q1686 q1688 qs47 q80 q1689) rfl rfl rfl hdV_X4_may ⟨Nat.le_of_ble_eq_true rfl, Nat.le_of_ble_eq_true rfl⟩) (xpreV (xrecv hK (mw_0 hR) rfl) hWK hS hR) rfl rfl hl.1 rfl (lv_room (Nat.le_of_ble_eq_true rfl)) dX4_setupMinutes_4 ⟨Nat.le_of_ble_eq_true rfl, Nat.le_of_ble_eq_true rfl⟩) hS (fun H locs hR1 hz hk hS => ?_)
  have hR : xRM G A (sF S 26 0 0 (mMay S machine day 0)) ad z H := hR1
  refine x_topb (show (mMayS S machine day 0).1 = decide (mMay S machine day 0 = 0) from rfl) ?_
  refine x_ifeq (tgt := 21) hx hb dX4_setupMinutes_7 (by decide) (fun c_7 => ?_) (fun c_7 => ?_)
  · have c_7 := of_decide_eq_false c_7
    refine lv_iconst (v := 0) hx hb dX4_setupMinutes_21 (by decide) ?_
    have e9 : mSetupMinutes S machine day = (0, (sF S 26 0 0 (mMay S machine day 0))) := by simp [mSetupMinutes, c_7]
    exact xr_Ci hx hb hr hlocks ((congrArg Prod.fst e9).symm) (by show xRM G A (mSetupMinutes S machine day).2 ad z H; rw [show (mSetupMinutes S machine day).2 = (sF S 26 0 0 (mMay S machine day 0)) from congrArg Prod.snd e9]; exact hR) hS (by first | omega | decide) (by first | omega | decide) dX4_setupMinutes_22
  · have c_7 := of_decide_eq_true c_7
    obtain ⟨mj, hmj, rfl⟩ := inI_of' (n := S.1 0 0) (by first | rfl | decide) (by first | decide | omega) (mMay_in c_7)
    refine lv_aload_n hx hb dX4_setupMinutes_10 rfl (lv_at hl 0 rfl) ?_
    refine lv_iload_n hx hb dX4_setupMinutes_11 rfl (lv_at hl 1 rfl) ?_
    refine lv_iload_n hx hb dX4_setupMinutes_12 rfl (lv_at hl 2 rfl) ?_
    refine lv_bipush (v := 115) hx hb dX4_setupMinutes_13 (by decide) ?_
    refine xc_P (va_runV (As := [.int (nI mj), .int day, .int 115]) (rest := []) F (mX4_minutes g (A := A) (S := (sF S 26 0 0 (mMay S (nI mj) day 0))) (ad := ad) (z := z) day 115 (xi_nI (n := 6) (by omega) (by omega)) hW) (cwV 3 hts (lw_V q1715 q1717 qs51 q80 q1718) rfl rfl rfl hdV_X4_minutes ⟨Nat.le_of_ble_eq_true rfl, Nat.le_of_ble_eq_true rfl⟩) (xpreV (xrecv hK (mw_0 hR) rfl) hWK hS hR) rfl rfl hl.1 rfl (lv_room (Nat.le_of_ble_eq_true rfl)) dX4_setupMinutes_15 ⟨Nat.le_of_ble_eq_true rfl, Nat.le_of_ble_eq_true rfl⟩) ?_
    refine x_topi (show mMinutes (sF S 26 0 0 (mMay S (nI mj) day 0)).2.1 ((sF S 26 0 0 (mMay S (nI mj) day 0)).1 2 0) (nI mj) mj day 115 = mMinutes S.2.1 (S.1 2 0) (nI mj) mj day 115 from rfl) ?_
    refine lv_goto (tgt := 22) hx hb dX4_setupMinutes_18 (by decide) ?_
    have e9 : mSetupMinutes S (nI mj) day = (mMinutes S.2.1 (S.1 2 0) (nI mj) mj day 115, (sF S 26 0 0 (mMay S (nI mj) day 0))) := by simp [mSetupMinutes, c_7, nI_clamp (show mj < 2 ^ 31 by omega)]
    exact xr_Ci hx hb hr hlocks ((congrArg Prod.fst e9).symm) (by show xRM G A (mSetupMinutes S (nI mj) day).2 ad z H; rw [show (mSetupMinutes S (nI mj) day).2 = (sF S 26 0 0 (mMay S (nI mj) day 0)) from congrArg Prod.snd e9]; exact hR) hS (by first | omega | decide) (by first | omega | decide) dX4_setupMinutes_22

set_option maxHeartbeats 4000000 in
theorem mX4_waiting {l : Launch} {G : xG} {s0 : State} {b0 : Nat} (g : xG0 G s0 b0) {A : Nat → Prop} {S : xS} {ad : Nat × Nat → Nat} {z : xZ} (machine day : Int32) (hW : mWF S) : Met l yX4_waiting (ws_ yX4_waiting cX4_waiting 5 (some .int)) ({ frames := 3, cells := 0, slots := 0, locals := 66 } : Room) (xP s0 A [.ref (ad (0, 0)), .int machine, .int day] (fun H => xRM G A S ad z H)) (xQc (some (.int ((mWaiting S machine day).1))) (fun _ H => xRM G A (mWaiting S machine day).2 ad z H) A) 0 0 A := by
  refine Met.ofW (cc := cX4_waiting) (maxL := 5) (ret := (some .int)) (by decide) rfl ?_
  intro p e s m args below meth c s₁ B hml hv
  obtain ⟨rfl, hWK, hR⟩ := hv
  have hx := B.exec
  have hb := B.bytes
  have hr := B.returns
  have hts := atoms_spec (ws := ws_ yX4_waiting cX4_waiting 5 (some .int)) B.pre
  have hts : ∀ w ∈ lw_all, w.before _ s = true := fun w h => hts w (List.mem_cons_of_mem _ h)
  have hown : s.vm.findClass "LendlatheModel" = some m.cls := findClass_of_methodNamed B.named
  have hlocks := B.notSynchronized
  have hK := hWK.K g
  have F : CallFix p m c cX4_waiting 5 s _ lw_all "LendlatheModel" := ⟨hx, hb, hml, hown, hts⟩
  have hS : va_S A s.heap s.heap [] := va_S.rf
  have hl := lv_entry ([.ref (ad (0, 0)), .int machine, .int day]) (n := 5) (Nat.le_of_ble_eq_true rfl)
  rw [lg_entry_eq]
  generalize (lg_sl ([.ref (ad (0, 0)), .int machine, .int day]) ++ List.replicate (5 - (lg_sl ([.ref (ad (0, 0)), .int machine, .int day])).length) Slot.unset).toArray = ls at hl ⊢
  have hl : lv_has ls 5 [(0, .ref (ad (0, 0))), (1, .int machine), (2, .int day)] := hl
  have hn0 := hW.1
  have hn1 := hW.2.1
  have hn2 := hW.2.2.1
  have hn3 := hW.2.2.2.1
  have hn4 := hW.2.2.2.2.1
  refine lv_iconst (v := 0) hx hb dX4_waiting_0 (by decide) ?_
  refine lv_istore_n (lv' := [(3, .int 0), (0, .ref (ad (0, 0))), (1, .int machine), (2, .int day)]) hx hb dX4_waiting_1 rfl hl (by decide) rfl (fun ls hl => ?_)
  refine lv_aload_n hx hb dX4_waiting_2 rfl (lv_at hl 1 rfl) ?_
  refine lv_iload_n hx hb dX4_waiting_3 rfl (lv_at hl 2 rfl) ?_
  refine lv_iload_n hx hb dX4_waiting_4 rfl (lv_at hl 3 rfl) ?_
  refine lv_aload_n hx hb dX4_waiting_5 rfl (lv_at hl 1 rfl) ?_
  refine g_X4_112 F hK (mw_0 hR) (v := .int (S.2.1 7 0 0)) rfl dX4_waiting_6 ?_
  refine xc_C (va_runV (As := [.int machine, .int day, .int (S.2.1 7 0 0)]) (rest := []) F (mX4_may g (A := A) (S := S) (ad := ad) (z := z) machine day (S.2.1 7 0 0)) (cwV 3 hts (lw_V q1686 q1688 qs47 q80 q1689) rfl rfl rfl hdV_X4_may ⟨Nat.le_of_ble_eq_true rfl, Nat.le_of_ble_eq_true rfl⟩) (xpreV (xrecv hK (mw_0 hR) rfl) hWK hS hR) rfl rfl hl.1 rfl (lv_room (Nat.le_of_ble_eq_true rfl)) dX4_waiting_9 ⟨Nat.le_of_ble_eq_true rfl, Nat.le_of_ble_eq_true rfl⟩) hS (fun H locs hR1 hz hk hS => ?_)
  have hR : xRM G A (sF S 26 0 0 (mMay S machine day (S.2.1 7 0 0))) ad z H := hR1
  refine x_topb (show (mMayS S machine day (S.2.1 7 0 0)).1 = decide (mMay S machine day (S.2.1 7 0 0) = 0) from rfl) ?_
  refine x_ifeq (tgt := 75) hx hb dX4_waiting_12 (by decide) (fun c_12 => ?_) (fun c_12 => ?_)
  · have c_12 := of_decide_eq_false c_12
    refine lv_iload_n hx hb dX4_waiting_75 rfl (lv_at hl 0 rfl) ?_
    have e9 : mWaiting S machine day = (0, (sF S 26 0 0 (mMay S machine day (S.2.1 7 0 0)))) := by simp [mWaiting, c_12]
    exact xr_Ci hx hb hr hlocks ((congrArg Prod.fst e9).symm) (by show xRM G A (mWaiting S machine day).2 ad z H; rw [show (mWaiting S machine day).2 = (sF S 26 0 0 (mMay S machine day (S.2.1 7 0 0))) from congrArg Prod.snd e9]; exact hR) hS (by first | omega | decide) (by first | omega | decide) dX4_waiting_76
  · have c_12 := of_decide_eq_true c_12
    refine lv_iconst (v := 0) hx hb dX4_waiting_15 (by decide) ?_
    refine lv_istore (lv' := [(4, .int 0), (3, .int 0), (0, .ref (ad (0, 0))), (1, .int machine), (2, .int day)]) hx hb dX4_waiting_16 hl (by decide) rfl (fun ls hl => ?_)
    have L18 : ∀ (n : Nat) (k : Nat) (acc : Int32), S.1 2 0 - k < n → (k ≤ S.1 2 0) → (acc = mWaitings S machine day k) → ∀ (ls : Array Slot), lv_has ls 5 [(4, .int (nI k)), (3, .int acc), (0, .ref (ad (0, 0))), (1, .int machine), (2, .int day)] → W p l e (headSpec (ws_ yX4_waiting cX4_waiting 5 (some .int)) ({ frames := 3, cells := 0, slots := 0, locals := 66 } : Room)).room s m ([.ref (ad (0, 0)), .int machine, .int day] : List Value).toArray below meth c H locs 0 0 (MQ below (xQc (some (.int ((mWaiting S machine day).1))) (fun _ H => xRM G A (mWaiting S machine day).2 ad z H) A) ([.ref (ad (0, 0)), .int machine, .int day] : List Value).toArray s 0 0 A) (F0 m 18 ls []) := by
      intro n18
      induction n18 with
      | zero =>
        intro k acc hn18
        exact absurd hn18 (Nat.not_lt_zero _)
      | succ n18 ih18 =>
        intro k acc hn18 hkn ea ls hl
        refine lv_iload hx hb dX4_waiting_18 (lv_at hl 0 rfl) ?_
        refine lv_aload_n hx hb dX4_waiting_20 rfl (lv_at hl 2 rfl) ?_
        refine g_X4_101 F hK (mw_0 hR) (v := .int (nI (S.1 2 0))) rfl dX4_waiting_21 ?_
        refine xn_ge (tgt := 75) k (S.1 2 0) rfl rfl (by omega) (by omega) hx hb dX4_waiting_24 (by decide) (fun c_24 => ?_) (fun c_24 => ?_)
        · refine lv_iload_n hx hb dX4_waiting_75 rfl (lv_at hl 1 rfl) ?_
          have hk9 : k = S.1 2 0 := (by omega)
          subst hk9
          have e9 : mWaiting S machine day = (acc, (sF S 26 0 0 (mMay S machine day (S.2.1 7 0 0)))) := by simp [mWaiting, c_12, c_24, ea, mWaitings]
          exact xr_Ci hx hb hr hlocks ((congrArg Prod.fst e9).symm) (by show xRM G A (mWaiting S machine day).2 ad z H; rw [show (mWaiting S machine day).2 = (sF S 26 0 0 (mMay S machine day (S.2.1 7 0 0))) from congrArg Prod.snd e9]; exact hR) hS (by first | omega | decide) (by first | omega | decide) dX4_waiting_76
        · refine lv_iload_n hx hb dX4_waiting_27 rfl (lv_at hl 1 rfl) ?_
          refine lv_aload_n hx hb dX4_waiting_28 rfl (lv_at hl 2 rfl) ?_
          refine g_X4_49 F hK (mw_0 hR) (v := .ref (ad (14, 0))) rfl dX4_waiting_29 ?_
          refine lv_iload hx hb dX4_waiting_32 (lv_at hl 0 rfl) ?_
          refine x_cald hx hb hK (mw_14 hR) (v := .int (S.2.1 16 k 0)) (xi_nI (n := 150) (by omega) (by omega)) (rfl) dX4_waiting_34 ?_
          refine lv_bipush (v := 119) hx hb dX4_waiting_35 (by decide) ?_
          refine lv_icmp_ne (tgt := 66) hx hb dX4_waiting_37 (by decide) (fun c_37 => ?_) (fun c_37 => ?_)
          · refine lv_iconst (v := 0) hx hb dX4_waiting_66 (by decide) ?_
            refine lv_iadd hx hb dX4_waiting_67 ?_
            refine lv_istore_n (lv' := [(3, .int (acc + 0)), (4, .int (nI k)), (0, .ref (ad (0, 0))), (1, .int machine), (2, .int day)]) hx hb dX4_waiting_68 rfl hl (by decide) rfl (fun ls hl => ?_)
            refine lv_iinc (v := nI (k + 1)) (lv' := [(4, .int (nI (k + 1))), (3, .int (acc + 0)), (0, .ref (ad (0, 0))), (1, .int machine), (2, .int day)]) hx hb dX4_waiting_69 hl (k := 1) rfl (nI_1 _) (by decide) rfl (fun ls hl => ?_)
            refine lv_goto (tgt := 18) hx hb dX4_waiting_72 (by decide) ?_
            exact ih18 (k + 1) (acc + 0) (by omega) (by omega) (by rw [ea]; simp [mWaitings, sumI, c_37]) ls (lv_sub hl [0, 1, 2, 3, 4] rfl)
          · refine lv_aload_n hx hb dX4_waiting_40 rfl (lv_at hl 2 rfl) ?_
            refine g_X4_33 F hK (mw_0 hR) (v := .ref (ad (9, 0))) rfl dX4_waiting_41 ?_
            refine lv_iload hx hb dX4_waiting_44 (lv_at hl 0 rfl) ?_
            refine x_iald hx hb hK (mw_9 hR) (v := .int (S.2.1 11 k 0)) (xi_nI (n := 150) (by omega) (by omega)) (rfl) dX4_waiting_46 ?_
            refine lv_iload_n hx hb dX4_waiting_47 rfl (lv_at hl 3 rfl) ?_
            refine lv_icmp_ne (tgt := 66) hx hb dX4_waiting_48 (by decide) (fun c_48 => ?_) (fun c_48 => ?_)
            · refine lv_iconst (v := 0) hx hb dX4_waiting_66 (by decide) ?_
              refine lv_iadd hx hb dX4_waiting_67 ?_
              refine lv_istore_n (lv' := [(3, .int (acc + 0)), (4, .int (nI k)), (0, .ref (ad (0, 0))), (1, .int machine), (2, .int day)]) hx hb dX4_waiting_68 rfl hl (by decide) rfl (fun ls hl => ?_)
              refine lv_iinc (v := nI (k + 1)) (lv' := [(4, .int (nI (k + 1))), (3, .int (acc + 0)), (0, .ref (ad (0, 0))), (1, .int machine), (2, .int day)]) hx hb dX4_waiting_69 hl (k := 1) rfl (nI_1 _) (by decide) rfl (fun ls hl => ?_)
              refine lv_goto (tgt := 18) hx hb dX4_waiting_72 (by decide) ?_
              exact ih18 (k + 1) (acc + 0) (by omega) (by omega) (by rw [ea]; simp [mWaitings, sumI, c_37, c_48]) ls (lv_sub hl [0, 1, 2, 3, 4] rfl)
            · refine lv_aload_n hx hb dX4_waiting_51 rfl (lv_at hl 2 rfl) ?_
              refine g_X4_36 F hK (mw_0 hR) (v := .ref (ad (10, 0))) rfl dX4_waiting_52 ?_
              refine lv_iload hx hb dX4_waiting_55 (lv_at hl 0 rfl) ?_
              refine x_iald hx hb hK (mw_10 hR) (v := .int (S.2.1 12 k 0)) (xi_nI (n := 150) (by omega) (by omega)) (rfl) dX4_waiting_57 ?_
              refine lv_iload_n hx hb dX4_waiting_58 rfl (lv_at hl 4 rfl) ?_
              refine lv_icmp_ne (tgt := 66) hx hb dX4_waiting_59 (by decide) (fun c_59 => ?_) (fun c_59 => ?_)
              · refine lv_iconst (v := 0) hx hb dX4_waiting_66 (by decide) ?_
                refine lv_iadd hx hb dX4_waiting_67 ?_
                refine lv_istore_n (lv' := [(3, .int (acc + 0)), (4, .int (nI k)), (0, .ref (ad (0, 0))), (1, .int machine), (2, .int day)]) hx hb dX4_waiting_68 rfl hl (by decide) rfl (fun ls hl => ?_)
                refine lv_iinc (v := nI (k + 1)) (lv' := [(4, .int (nI (k + 1))), (3, .int (acc + 0)), (0, .ref (ad (0, 0))), (1, .int machine), (2, .int day)]) hx hb dX4_waiting_69 hl (k := 1) rfl (nI_1 _) (by decide) rfl (fun ls hl => ?_)
                refine lv_goto (tgt := 18) hx hb dX4_waiting_72 (by decide) ?_
                exact ih18 (k + 1) (acc + 0) (by omega) (by omega) (by rw [ea]; simp [mWaitings, sumI, c_37, c_48, c_59]) ls (lv_sub hl [0, 1, 2, 3, 4] rfl)
              · refine lv_iconst (v := 1) hx hb dX4_waiting_62 (by decide) ?_
                refine lv_goto (tgt := 67) hx hb dX4_waiting_63 (by decide) ?_
                refine lv_iadd hx hb dX4_waiting_67 ?_
                refine lv_istore_n (lv' := [(3, .int (acc + 1)), (4, .int (nI k)), (0, .ref (ad (0, 0))), (1, .int machine), (2, .int day)]) hx hb dX4_waiting_68 rfl hl (by decide) rfl (fun ls hl => ?_)
                refine lv_iinc (v := nI (k + 1)) (lv' := [(4, .int (nI (k + 1))), (3, .int (acc + 1)), (0, .ref (ad (0, 0))), (1, .int machine), (2, .int day)]) hx hb dX4_waiting_69 hl (k := 1) rfl (nI_1 _) (by decide) rfl (fun ls hl => ?_)
                refine lv_goto (tgt := 18) hx hb dX4_waiting_72 (by decide) ?_
                exact ih18 (k + 1) (acc + 1) (by omega) (by omega) (by rw [ea]; simp [mWaitings, sumI, c_37, c_48, c_59]) ls (lv_sub hl [0, 1, 2, 3, 4] rfl)
    exact L18 (S.1 2 0 + 1) 0 0 (by omega) (by omega) rfl ls (lv_sub hl [0, 1, 2, 3, 4] rfl)

set_option maxHeartbeats 4000000 in
theorem mX4_firstStart {l : Launch} {G : xG} {s0 : State} {b0 : Nat} (g : xG0 G s0 b0) {A : Nat → Prop} {S : xS} {ad : Nat × Nat → Nat} {z : xZ} (machine day minutes work : Int32) (hW : mWF S) : Met l yX4_firstStart (ws_ yX4_firstStart cX4_firstStart 6 (some .int)) ({ frames := 3, cells := 0, slots := 0, locals := 73 } : Room) (xP s0 A [.ref (ad (0, 0)), .int machine, .int day, .int minutes, .int work] (fun H => xRM G A S ad z H)) (xQc (some (.int ((mFirstStart S machine day minutes work).1))) (fun _ H => xRM G A (mFirstStart S machine day minutes work).2 ad z H) A) 0 0 A := by
  refine Met.ofW (cc := cX4_firstStart) (maxL := 6) (ret := (some .int)) (by decide) rfl ?_
  intro p e s m args below meth c s₁ B hml hv
  obtain ⟨rfl, hWK, hR⟩ := hv
  have hx := B.exec
  have hb := B.bytes
  have hr := B.returns
  have hts := atoms_spec (ws := ws_ yX4_firstStart cX4_firstStart 6 (some .int)) B.pre
  have hts : ∀ w ∈ lw_all, w.before _ s = true := fun w h => hts w (List.mem_cons_of_mem _ h)
  have hown : s.vm.findClass "LendlatheModel" = some m.cls := findClass_of_methodNamed B.named
  have hlocks := B.notSynchronized
  have hK := hWK.K g
  have F : CallFix p m c cX4_firstStart 6 s _ lw_all "LendlatheModel" := ⟨hx, hb, hml, hown, hts⟩
  have hS : va_S A s.heap s.heap [] := va_S.rf
  have hl := lv_entry ([.ref (ad (0, 0)), .int machine, .int day, .int minutes, .int work]) (n := 6) (Nat.le_of_ble_eq_true rfl)
  rw [lg_entry_eq]
  generalize (lg_sl ([.ref (ad (0, 0)), .int machine, .int day, .int minutes, .int work]) ++ List.replicate (6 - (lg_sl ([.ref (ad (0, 0)), .int machine, .int day, .int minutes, .int work])).length) Slot.unset).toArray = ls at hl ⊢
  have hl : lv_has ls 6 [(0, .ref (ad (0, 0))), (1, .int machine), (2, .int day), (3, .int minutes), (4, .int work)] := hl
  have hn0 := hW.1
  have hn1 := hW.2.1
  have hn2 := hW.2.2.1
  have hn3 := hW.2.2.2.1
  have hn4 := hW.2.2.2.2.1
  refine lv_aload_n hx hb dX4_firstStart_0 rfl (lv_at hl 0 rfl) ?_
  refine lv_iload_n hx hb dX4_firstStart_1 rfl (lv_at hl 1 rfl) ?_
  refine lv_iload_n hx hb dX4_firstStart_2 rfl (lv_at hl 2 rfl) ?_
  refine lv_aload_n hx hb dX4_firstStart_3 rfl (lv_at hl 0 rfl) ?_
  refine g_X4_112 F hK (mw_0 hR) (v := .int (S.2.1 7 0 0)) rfl dX4_firstStart_4 ?_
  refine xc_C (va_runV (As := [.int machine, .int day, .int (S.2.1 7 0 0)]) (rest := []) F (mX4_may g (A := A) (S := S) (ad := ad) (z := z) machine day (S.2.1 7 0 0)) (cwV 3 hts (lw_V q1686 q1688 qs47 q80 q1689) rfl rfl rfl hdV_X4_may ⟨Nat.le_of_ble_eq_true rfl, Nat.le_of_ble_eq_true rfl⟩) (xpreV (xrecv hK (mw_0 hR) rfl) hWK hS hR) rfl rfl hl.1 rfl (lv_room (Nat.le_of_ble_eq_true rfl)) dX4_firstStart_7 ⟨Nat.le_of_ble_eq_true rfl, Nat.le_of_ble_eq_true rfl⟩) hS (fun H locs hR1 hz hk hS => ?_)
  have hR : xRM G A (sF S 26 0 0 (mMay S machine day (S.2.1 7 0 0))) ad z H := hR1
  refine x_topb (show (mMayS S machine day (S.2.1 7 0 0)).1 = decide (mMay S machine day (S.2.1 7 0 0) = 0) from rfl) ?_
  refine x_ifne (tgt := 15) hx hb dX4_firstStart_10 (by decide) (fun c_10 => ?_) (fun c_10 => ?_)
  · have c_10 := of_decide_eq_true c_10
    obtain ⟨mj, hmj, rfl⟩ := inI_of' (n := S.1 0 0) (by first | rfl | decide) (by first | decide | omega) (mMay_in c_10)
    refine lv_iload_n hx hb dX4_firstStart_15 rfl (lv_at hl 3 rfl) ?_
    refine lv_iconst (v := 1) hx hb dX4_firstStart_16 (by decide) ?_
    refine lv_sipush (v := 240) hx hb dX4_firstStart_17 (by decide) ?_
    refine xc_P (va_runS (As := [.int minutes, .int 1, .int 240]) (rest := []) F (mX4_in g (A := A) minutes 1 240) (va_cwS 3 hts (lw_S q1558 q1559 q80 q1560) rfl rfl rfl hdS_X4_in ⟨Nat.le_of_ble_eq_true rfl, Nat.le_of_ble_eq_true rfl⟩) (xpre hWK hS trivial) rfl rfl hl.1 rfl (lv_room (Nat.le_of_ble_eq_true rfl)) dX4_firstStart_20 ⟨Nat.le_of_ble_eq_true rfl, Nat.le_of_ble_eq_true rfl⟩) ?_
    refine x_ifeq (tgt := 34) hx hb dX4_firstStart_23 (by decide) (fun c_23 => ?_) (fun c_23 => ?_)
    · refine lv_aload_n hx hb dX4_firstStart_34 rfl (lv_at hl 0 rfl) ?_
      refine lv_iconst (v := 2) hx hb dX4_firstStart_35 (by decide) ?_
      refine xc_C (va_runV (As := [.int 2]) (rest := []) F (mX4_raises g (A := A) (S := (sF S 26 0 0 (mMay S (nI mj) day (S.2.1 7 0 0)))) (ad := ad) (z := z) 2) (cwV 1 hts (lw_V q1565 q1567 qs30 q80 q1568) rfl rfl rfl hdV_X4_raises ⟨Nat.le_of_ble_eq_true rfl, Nat.le_of_ble_eq_true rfl⟩) (xpreV (xrecv hK (mw_0 hR) rfl) hWK hS hR) rfl rfl hl.1 rfl (lv_room (Nat.le_of_ble_eq_true rfl)) dX4_firstStart_36 ⟨Nat.le_of_ble_eq_true rfl, Nat.le_of_ble_eq_true rfl⟩) hS (fun H locs hR1 hz hk hS => ?_)
      have hR : xRM G A (sF (sF S 26 0 0 (mMay S (nI mj) day (S.2.1 7 0 0))) 26 0 0 2) ad z H := hR1
      rw [sF_sF] at hR
      refine x_topi (show (mRaises (sF S 26 0 0 (mMay S (nI mj) day (S.2.1 7 0 0))) 2).1 = 0 from rfl) ?_
      have e9 : mFirstStart S (nI mj) day minutes work = (0, (sF S 26 0 0 2)) := by simp [mFirstStart, c_10, c_23, nI_clamp (show mj < 2 ^ 31 by omega)]
      exact xr_Ci hx hb hr hlocks ((congrArg Prod.fst e9).symm) (by show xRM G A (mFirstStart S (nI mj) day minutes work).2 ad z H; rw [show (mFirstStart S (nI mj) day minutes work).2 = (sF S 26 0 0 2) from congrArg Prod.snd e9]; exact hR) hS (by first | omega | decide) (by first | omega | decide) dX4_firstStart_39
    · obtain ⟨q, hq1, hq240, rfl⟩ := inI_of1 (n := 240) (by decide) (by decide) c_23
      refine lv_iload hx hb dX4_firstStart_26 (lv_at hl 4 rfl) ?_
      refine xc_P (va_runS (As := [.int work]) (rest := []) F (mX4_isWork g (A := A) work) (va_cwS 1 hts (lw_S q1637 q1638 q80 q1639) rfl rfl rfl hdS_X4_isWork ⟨Nat.le_of_ble_eq_true rfl, Nat.le_of_ble_eq_true rfl⟩) (xpre hWK hS trivial) rfl rfl hl.1 rfl (lv_room (Nat.le_of_ble_eq_true rfl)) dX4_firstStart_28 ⟨Nat.le_of_ble_eq_true rfl, Nat.le_of_ble_eq_true rfl⟩) ?_
      refine x_ifne (tgt := 40) hx hb dX4_firstStart_31 (by decide) (fun c_31 => ?_) (fun c_31 => ?_)
      · refine lv_iconst (v := 0) hx hb dX4_firstStart_40 (by decide) ?_
        refine lv_istore (lv' := [(5, .int 0), (0, .ref (ad (0, 0))), (1, .int (nI mj)), (2, .int day), (3, .int (nI q)), (4, .int work)]) hx hb dX4_firstStart_41 hl (by decide) rfl (fun ls hl => ?_)
        have L43 : ∀ (n : Nat) (k : Nat), 481 - k < n → (k ≤ 481) → (∀ j, j < k → mFree S.2.1 (S.1 2 0) (nI mj) mj day (nI j) (nI q) work = false) → ∀ (ls : Array Slot), lv_has ls 6 [(5, .int (nI k)), (0, .ref (ad (0, 0))), (1, .int (nI mj)), (2, .int day), (3, .int (nI q)), (4, .int work)] → W p l e (headSpec (ws_ yX4_firstStart cX4_firstStart 6 (some .int)) ({ frames := 3, cells := 0, slots := 0, locals := 73 } : Room)).room s m ([.ref (ad (0, 0)), .int (nI mj), .int day, .int (nI q), .int work] : List Value).toArray below meth c H locs 0 0 (MQ below (xQc (some (.int ((mFirstStart S (nI mj) day (nI q) work).1))) (fun _ H => xRM G A (mFirstStart S (nI mj) day (nI q) work).2 ad z H) A) ([.ref (ad (0, 0)), .int (nI mj), .int day, .int (nI q), .int work] : List Value).toArray s 0 0 A) (F0 m 43 ls []) := by
          intro n43
          induction n43 with
          | zero =>
            intro k hn43
            exact absurd hn43 (Nat.not_lt_zero _)
          | succ n43 ih43 =>
            intro k hn43 hk4 hc ls hl
            refine lv_iload hx hb dX4_firstStart_43 (lv_at hl 0 rfl) ?_
            refine lv_iload_n hx hb dX4_firstStart_45 rfl (lv_at hl 4 rfl) ?_
            refine lv_iadd hx hb dX4_firstStart_46 ?_
            refine x_topi (nI_add _ _) ?_
            refine lv_sipush (v := 480) hx hb dX4_firstStart_47 (by decide) ?_
            refine xn_gt (tgt := 76) (k + q) 480 rfl (by decide) (by omega) (by omega) hx hb dX4_firstStart_50 (by decide) (fun c_50 => ?_) (fun c_50 => ?_)
            · refine lv_aload_n hx hb dX4_firstStart_76 rfl (lv_at hl 1 rfl) ?_
              refine lv_iconst (v := 3) hx hb dX4_firstStart_77 (by decide) ?_
              refine xc_C (va_runV (As := [.int 3]) (rest := []) F (mX4_raises g (A := A) (S := (sF S 26 0 0 (mMay S (nI mj) day (S.2.1 7 0 0)))) (ad := ad) (z := z) 3) (cwV 1 hts (lw_V q1565 q1567 qs30 q80 q1568) rfl rfl rfl hdV_X4_raises ⟨Nat.le_of_ble_eq_true rfl, Nat.le_of_ble_eq_true rfl⟩) (xpreV (xrecv hK (mw_0 hR) rfl) hWK hS hR) rfl rfl hl.1 rfl (lv_room (Nat.le_of_ble_eq_true rfl)) dX4_firstStart_78 ⟨Nat.le_of_ble_eq_true rfl, Nat.le_of_ble_eq_true rfl⟩) hS (fun H locs hR1 hz hk hS => ?_)
              have hR : xRM G A (sF (sF S 26 0 0 (mMay S (nI mj) day (S.2.1 7 0 0))) 26 0 0 3) ad z H := hR1
              rw [sF_sF] at hR
              refine x_topi (show (mRaises (sF S 26 0 0 (mMay S (nI mj) day (S.2.1 7 0 0))) 3).1 = 0 from rfl) ?_
              have e8 : mStart S (nI mj) day (nI q) work = none := firstC_no (fun j _ hj => by rw [nI_clamp (show q < 2 ^ 31 by omega)] at hj; simpa [nI_clamp (show mj < 2 ^ 31 by omega)] using hc j (by omega))
              have e9 : mFirstStart S (nI mj) day (nI q) work = (0, (sF S 26 0 0 3)) := by simp [mFirstStart, c_10, c_23, c_31, c_50, e8, nI_clamp (show mj < 2 ^ 31 by omega), nI_clamp (show q < 2 ^ 31 by omega)]
              exact xr_Ci hx hb hr hlocks ((congrArg Prod.fst e9).symm) (by show xRM G A (mFirstStart S (nI mj) day (nI q) work).2 ad z H; rw [show (mFirstStart S (nI mj) day (nI q) work).2 = (sF S 26 0 0 3) from congrArg Prod.snd e9]; exact hR) hS (by first | omega | decide) (by first | omega | decide) dX4_firstStart_81
            · refine lv_aload_n hx hb dX4_firstStart_53 rfl (lv_at hl 1 rfl) ?_
              refine lv_iload_n hx hb dX4_firstStart_54 rfl (lv_at hl 2 rfl) ?_
              refine lv_iload_n hx hb dX4_firstStart_55 rfl (lv_at hl 3 rfl) ?_
              refine lv_iload hx hb dX4_firstStart_56 (lv_at hl 0 rfl) ?_
              refine lv_iload_n hx hb dX4_firstStart_58 rfl (lv_at hl 4 rfl) ?_
              refine lv_iload hx hb dX4_firstStart_59 (lv_at hl 5 rfl) ?_
              refine xc_P (va_runV (As := [.int (nI mj), .int day, .int (nI k), .int (nI q), .int work]) (rest := []) F (mX4_isFree g (A := A) (S := (sF S 26 0 0 (mMay S (nI mj) day (S.2.1 7 0 0)))) (ad := ad) (z := z) day (nI k) (nI q) work (xi_nI (n := 6) (by omega) (by omega)) hW) (cwV 5 hts (lw_V q1609 q1611 qs39 q80 q1612) rfl rfl rfl hdV_X4_isFree ⟨Nat.le_of_ble_eq_true rfl, Nat.le_of_ble_eq_true rfl⟩) (xpreV (xrecv hK (mw_0 hR) rfl) hWK hS hR) rfl rfl hl.1 rfl (lv_room (Nat.le_of_ble_eq_true rfl)) dX4_firstStart_61 ⟨Nat.le_of_ble_eq_true rfl, Nat.le_of_ble_eq_true rfl⟩) ?_
              refine x_topb (show mFree (sF S 26 0 0 (mMay S (nI mj) day (S.2.1 7 0 0))).2.1 ((sF S 26 0 0 (mMay S (nI mj) day (S.2.1 7 0 0))).1 2 0) (nI mj) mj day (nI k) (nI q) work = mFree S.2.1 (S.1 2 0) (nI mj) mj day (nI k) (nI q) work from rfl) ?_
              refine x_ifeq (tgt := 70) hx hb dX4_firstStart_64 (by decide) (fun c_64 => ?_) (fun c_64 => ?_)
              · refine lv_iinc (v := nI (k + 1)) (lv' := [(5, .int (nI (k + 1))), (0, .ref (ad (0, 0))), (1, .int (nI mj)), (2, .int day), (3, .int (nI q)), (4, .int work)]) hx hb dX4_firstStart_70 hl (k := 0) rfl (nI_1 _) (by decide) rfl (fun ls hl => ?_)
                refine lv_goto (tgt := 43) hx hb dX4_firstStart_73 (by decide) ?_
                exact ih43 (k + 1) (by omega) (by omega) (lt_s hc c_64) ls (lv_sub hl [0, 1, 2, 3, 4, 5] rfl)
              · refine lv_iload hx hb dX4_firstStart_67 (lv_at hl 0 rfl) ?_
                have e8 : mStart S (nI mj) day (nI q) work = some k := firstC_some (by simpa [nI_clamp (show mj < 2 ^ 31 by omega)] using c_64) (Nat.zero_le _) (by rw [nI_clamp (by omega)]; omega) (fun j _ hj => by simpa [nI_clamp (show mj < 2 ^ 31 by omega)] using hc j hj)
                have e9 : mFirstStart S (nI mj) day (nI q) work = (nI k, (sF S 26 0 0 (mMay S (nI mj) day (S.2.1 7 0 0)))) := by simp [mFirstStart, c_10, c_23, c_31, c_50, c_64, e8, nI_clamp (show mj < 2 ^ 31 by omega), nI_clamp (show q < 2 ^ 31 by omega)]
                exact xr_Ci hx hb hr hlocks ((congrArg Prod.fst e9).symm) (by show xRM G A (mFirstStart S (nI mj) day (nI q) work).2 ad z H; rw [show (mFirstStart S (nI mj) day (nI q) work).2 = (sF S 26 0 0 (mMay S (nI mj) day (S.2.1 7 0 0))) from congrArg Prod.snd e9]; exact hR) hS (by first | omega | decide) (by first | omega | decide) dX4_firstStart_69
        exact L43 482 0 (by omega) (by omega) (fun j hj => absurd hj (Nat.not_lt_zero _)) ls (lv_sub hl [0, 1, 2, 3, 4, 5] rfl)
      · refine lv_aload_n hx hb dX4_firstStart_34 rfl (lv_at hl 0 rfl) ?_
        refine lv_iconst (v := 2) hx hb dX4_firstStart_35 (by decide) ?_
        refine xc_C (va_runV (As := [.int 2]) (rest := []) F (mX4_raises g (A := A) (S := (sF S 26 0 0 (mMay S (nI mj) day (S.2.1 7 0 0)))) (ad := ad) (z := z) 2) (cwV 1 hts (lw_V q1565 q1567 qs30 q80 q1568) rfl rfl rfl hdV_X4_raises ⟨Nat.le_of_ble_eq_true rfl, Nat.le_of_ble_eq_true rfl⟩) (xpreV (xrecv hK (mw_0 hR) rfl) hWK hS hR) rfl rfl hl.1 rfl (lv_room (Nat.le_of_ble_eq_true rfl)) dX4_firstStart_36 ⟨Nat.le_of_ble_eq_true rfl, Nat.le_of_ble_eq_true rfl⟩) hS (fun H locs hR1 hz hk hS => ?_)
        have hR : xRM G A (sF (sF S 26 0 0 (mMay S (nI mj) day (S.2.1 7 0 0))) 26 0 0 2) ad z H := hR1
        rw [sF_sF] at hR
        refine x_topi (show (mRaises (sF S 26 0 0 (mMay S (nI mj) day (S.2.1 7 0 0))) 2).1 = 0 from rfl) ?_
        have e9 : mFirstStart S (nI mj) day (nI q) work = (0, (sF S 26 0 0 2)) := by simp [mFirstStart, c_10, c_23, c_31, nI_clamp (show mj < 2 ^ 31 by omega), nI_clamp (show q < 2 ^ 31 by omega)]
        exact xr_Ci hx hb hr hlocks ((congrArg Prod.fst e9).symm) (by show xRM G A (mFirstStart S (nI mj) day (nI q) work).2 ad z H; rw [show (mFirstStart S (nI mj) day (nI q) work).2 = (sF S 26 0 0 2) from congrArg Prod.snd e9]; exact hR) hS (by first | omega | decide) (by first | omega | decide) dX4_firstStart_39
  · have c_10 := of_decide_eq_false c_10
    refine lv_iconst (v := 0) hx hb dX4_firstStart_13 (by decide) ?_
    have e9 : mFirstStart S machine day minutes work = (0, (sF S 26 0 0 (mMay S machine day (S.2.1 7 0 0)))) := by simp [mFirstStart, c_10]
    exact xr_Ci hx hb hr hlocks ((congrArg Prod.fst e9).symm) (by show xRM G A (mFirstStart S machine day minutes work).2 ad z H; rw [show (mFirstStart S machine day minutes work).2 = (sF S 26 0 0 (mMay S machine day (S.2.1 7 0 0))) from congrArg Prod.snd e9]; exact hR) hS (by first | omega | decide) (by first | omega | decide) dX4_firstStart_14

set_option maxHeartbeats 4000000 in
theorem mX4_firstByMinutes {l : Launch} {G : xG} {s0 : State} {b0 : Nat} (g : xG0 G s0 b0) {A : Nat → Prop} {S : xS} {ad : Nat × Nat → Nat} {z : xZ} (machine day minutes work : Int32) (hW : mWF S) : Met l yX4_firstByMinutes (ws_ yX4_firstByMinutes cX4_firstByMinutes 5 (some .int)) ({ frames := 4, cells := 0, slots := 0, locals := 98 } : Room) (xP s0 A [.ref (ad (0, 0)), .int machine, .int day, .int minutes, .int work] (fun H => xRM G A S ad z H)) (xQc (some (.int ((mFirstStart S machine day minutes work).1))) (fun _ H => xRM G A (mFirstStart S machine day minutes work).2 ad z H) A) 0 0 A := by
  refine Met.ofW (cc := cX4_firstByMinutes) (maxL := 5) (ret := (some .int)) (by decide) rfl ?_
  intro p e s m args below meth c s₁ B hml hv
  obtain ⟨rfl, hWK, hR⟩ := hv
  have hx := B.exec
  have hb := B.bytes
  have hr := B.returns
  have hts := atoms_spec (ws := ws_ yX4_firstByMinutes cX4_firstByMinutes 5 (some .int)) B.pre
  have hts : ∀ w ∈ lw_all, w.before _ s = true := fun w h => hts w (List.mem_cons_of_mem _ h)
  have hown : s.vm.findClass "LendlatheModel" = some m.cls := findClass_of_methodNamed B.named
  have hlocks := B.notSynchronized
  have hK := hWK.K g
  have F : CallFix p m c cX4_firstByMinutes 5 s _ lw_all "LendlatheModel" := ⟨hx, hb, hml, hown, hts⟩
  have hS : va_S A s.heap s.heap [] := va_S.rf
  have hl := lv_entry ([.ref (ad (0, 0)), .int machine, .int day, .int minutes, .int work]) (n := 5) (Nat.le_of_ble_eq_true rfl)
  rw [lg_entry_eq]
  generalize (lg_sl ([.ref (ad (0, 0)), .int machine, .int day, .int minutes, .int work]) ++ List.replicate (5 - (lg_sl ([.ref (ad (0, 0)), .int machine, .int day, .int minutes, .int work])).length) Slot.unset).toArray = ls at hl ⊢
  have hl : lv_has ls 5 [(0, .ref (ad (0, 0))), (1, .int machine), (2, .int day), (3, .int minutes), (4, .int work)] := hl
  have hn0 := hW.1
  have hn1 := hW.2.1
  have hn2 := hW.2.2.1
  have hn3 := hW.2.2.2.1
  have hn4 := hW.2.2.2.2.1
  refine lv_aload_n hx hb dX4_firstByMinutes_0 rfl (lv_at hl 0 rfl) ?_
  refine lv_iload_n hx hb dX4_firstByMinutes_1 rfl (lv_at hl 1 rfl) ?_
  refine lv_iload_n hx hb dX4_firstByMinutes_2 rfl (lv_at hl 2 rfl) ?_
  refine lv_iload_n hx hb dX4_firstByMinutes_3 rfl (lv_at hl 3 rfl) ?_
  refine lv_iload hx hb dX4_firstByMinutes_4 (lv_at hl 4 rfl) ?_
  refine xc_C (va_runV (As := [.int machine, .int day, .int minutes, .int work]) (rest := []) F (mX4_firstStart g (A := A) (S := S) (ad := ad) (z := z) machine day minutes work hW) (cwV 4 hts (lw_V q1727 q1720 q1721 q80 q1722) rfl rfl rfl hdV_X4_firstStart ⟨Nat.le_of_ble_eq_true rfl, Nat.le_of_ble_eq_true rfl⟩) (xpreV (xrecv hK (mw_0 hR) rfl) hWK hS hR) rfl rfl hl.1 rfl (lv_room (Nat.le_of_ble_eq_true rfl)) dX4_firstByMinutes_6 ⟨Nat.le_of_ble_eq_true rfl, Nat.le_of_ble_eq_true rfl⟩) hS (fun H locs hR1 hz hk hS => ?_)
  have hR := hR1
  have e9 : mFirstStart S machine day minutes work = ((mFirstStart S machine day minutes work).1, (mFirstStart S machine day minutes work).2) := by simp []
  exact xr_Ci hx hb hr hlocks ((congrArg Prod.fst e9).symm) (by show xRM G A (mFirstStart S machine day minutes work).2 ad z H; rw [show (mFirstStart S machine day minutes work).2 = (mFirstStart S machine day minutes work).2 from congrArg Prod.snd e9]; exact hR) hS (by first | omega | decide) (by first | omega | decide) dX4_firstByMinutes_9

set_option maxHeartbeats 4000000 in
theorem mX4_lays {l : Launch} {G : xG} {s0 : State} {b0 : Nat} (g : xG0 G s0 b0) {A : Nat → Prop} {S : xS} {ad : Nat × Nat → Nat} {z : xZ} (kind sort number most : Int32) (hW : mWF S) (hsc : narrow .char (.int sort) = .int sort) : Met l yX4_lays (ws_ yX4_lays cX4_lays 5 (some .int)) ({ frames := 2, cells := 0, slots := 0, locals := 42 } : Room) (xP s0 A [.ref (ad (0, 0)), .int kind, .int sort, .int number, .int most] (fun H => xRM G A S ad z H)) (xQc (some (.int ((mLays S kind sort number most).1))) (fun _ H => xRM G A (mLays S kind sort number most).2 ad z H) A) 0 0 A := by
  refine Met.ofW (cc := cX4_lays) (maxL := 5) (ret := (some .int)) (by decide) rfl ?_
  intro p e s m args below meth c s₁ B hml hv
  obtain ⟨rfl, hWK, hR⟩ := hv
  have hx := B.exec
  have hb := B.bytes
  have hr := B.returns
  have hts := atoms_spec (ws := ws_ yX4_lays cX4_lays 5 (some .int)) B.pre
  have hts : ∀ w ∈ lw_all, w.before _ s = true := fun w h => hts w (List.mem_cons_of_mem _ h)
  have hown : s.vm.findClass "LendlatheModel" = some m.cls := findClass_of_methodNamed B.named
  have hlocks := B.notSynchronized
  have hK := hWK.K g
  have F : CallFix p m c cX4_lays 5 s _ lw_all "LendlatheModel" := ⟨hx, hb, hml, hown, hts⟩
  have hS : va_S A s.heap s.heap [] := va_S.rf
  have hl := lv_entry ([.ref (ad (0, 0)), .int kind, .int sort, .int number, .int most]) (n := 5) (Nat.le_of_ble_eq_true rfl)
  rw [lg_entry_eq]
  generalize (lg_sl ([.ref (ad (0, 0)), .int kind, .int sort, .int number, .int most]) ++ List.replicate (5 - (lg_sl ([.ref (ad (0, 0)), .int kind, .int sort, .int number, .int most])).length) Slot.unset).toArray = ls at hl ⊢
  have hl : lv_has ls 5 [(0, .ref (ad (0, 0))), (1, .int kind), (2, .int sort), (3, .int number), (4, .int most)] := hl
  have hn0 := hW.1
  have hn1 := hW.2.1
  have hn2 := hW.2.2.1
  have hn3 := hW.2.2.2.1
  have hn4 := hW.2.2.2.2.1
  have hn5 := hW.2.2.2.2.2.1
  refine lv_aload_n hx hb dX4_lays_0 rfl (lv_at hl 0 rfl) ?_
  refine lv_iload_n hx hb dX4_lays_1 rfl (lv_at hl 1 rfl) ?_
  refine xc_P (va_runS (As := [.int kind]) (rest := [.ref (ad (0, 0))]) F (mX4_isKind g (A := A) kind) (va_cwS 1 hts (lw_S q1555 q1556 q80 q1557) rfl rfl rfl hdS_X4_isKind ⟨Nat.le_of_ble_eq_true rfl, Nat.le_of_ble_eq_true rfl⟩) (xpre hWK hS trivial) rfl rfl hl.1 rfl (lv_room (Nat.le_of_ble_eq_true rfl)) dX4_lays_2 ⟨Nat.le_of_ble_eq_true rfl, Nat.le_of_ble_eq_true rfl⟩) ?_
  refine x_ifeq (tgt := 18) hx hb dX4_lays_5 (by decide) (fun c_5 => ?_) (fun c_5 => ?_)
  · refine lv_iconst (v := 1) hx hb dX4_lays_18 (by decide) ?_
    refine lv_goto (tgt := 38) hx hb dX4_lays_19 (by decide) ?_
    refine p_X4_87 F hK hS (mw_0 hR) (ma_0 hR) (v := .int 1) rfl rfl (Nat.le_of_ble_eq_true rfl) dX4_lays_38 (fun H locs hat hof hS => ?_)
    have hR := ms_0_29 hR hof hat
    refine lv_aload_n hx hb dX4_lays_41 rfl (lv_at hl 0 rfl) ?_
    refine g_X4_87 F hK (mw_0 hR) (v := .int 1) (by simp [fset, nset, lset]) dX4_lays_42 ?_
    refine lv_if_le (tgt := 50) hx hb dX4_lays_45 (by decide) (fun c_45 => (by first | exact absurd c_45 (by decide) | exact absurd (by decide) c_45)) (fun c_45 => ?_)
    refine lv_iconst (v := 0) hx hb dX4_lays_48 (by decide) ?_
    have e9 : mLays S kind sort number most = (0, (sF S 26 0 0 1)) := by simp [mLays, c_5]
    exact xr_Ci hx hb hr hlocks ((congrArg Prod.fst e9).symm) (by show xRM G A (mLays S kind sort number most).2 ad z H; rw [show (mLays S kind sort number most).2 = (sF S 26 0 0 1) from congrArg Prod.snd e9]; exact hR) hS (by first | omega | decide) (by first | omega | decide) dX4_lays_49
  · obtain ⟨kj, hkj, rfl⟩ := inI_of' (n := 4) (by first | rfl | decide) (by first | decide | omega) c_5
    have h5k := hn5 kj hkj
    refine lv_iload_n hx hb dX4_lays_8 rfl (lv_at hl 3 rfl) ?_
    refine lv_iconst (v := 0) hx hb dX4_lays_9 (by decide) ?_
    refine lv_iload hx hb dX4_lays_10 (lv_at hl 4 rfl) ?_
    refine xc_P (va_runS (As := [.int number, .int 0, .int most]) (rest := [.ref (ad (0, 0))]) F (mX4_in g (A := A) number 0 most) (va_cwS 3 hts (lw_S q1558 q1559 q80 q1560) rfl rfl rfl hdS_X4_in ⟨Nat.le_of_ble_eq_true rfl, Nat.le_of_ble_eq_true rfl⟩) (xpre hWK hS trivial) rfl rfl hl.1 rfl (lv_room (Nat.le_of_ble_eq_true rfl)) dX4_lays_12 ⟨Nat.le_of_ble_eq_true rfl, Nat.le_of_ble_eq_true rfl⟩) ?_
    refine x_ifne (tgt := 22) hx hb dX4_lays_15 (by decide) (fun c_15 => ?_) (fun c_15 => ?_)
    · refine lv_aload_n hx hb dX4_lays_22 rfl (lv_at hl 0 rfl) ?_
      refine g_X4_81 F hK (mw_0 hR) (v := .ref (ad (28, 0))) rfl dX4_lays_23 ?_
      refine lv_iload_n hx hb dX4_lays_26 rfl (lv_at hl 1 rfl) ?_
      refine x_iald hx hb hK (mw_28 hR) (v := .int (nI (S.1 5 kj))) (xi_nI (n := 4) (by omega) (by omega)) (rfl) dX4_lays_27 ?_
      refine lv_bipush (v := 6) hx hb dX4_lays_28 (by decide) ?_
      refine xn_ne (tgt := 37) (S.1 5 kj) 6 rfl (by decide) (by omega) (by omega) hx hb dX4_lays_30 (by decide) (fun c_30 => ?_) (fun c_30 => ?_)
      · refine lv_iconst (v := 0) hx hb dX4_lays_37 (by decide) ?_
        refine p_X4_87 F hK hS (mw_0 hR) (ma_0 hR) (v := .int 0) rfl rfl (Nat.le_of_ble_eq_true rfl) dX4_lays_38 (fun H locs hat hof hS => ?_)
        have hR := ms_0_29 hR hof hat
        refine lv_aload_n hx hb dX4_lays_41 rfl (lv_at hl 0 rfl) ?_
        refine g_X4_87 F hK (mw_0 hR) (v := .int 0) (by simp [fset, nset, lset]) dX4_lays_42 ?_
        refine lv_if_le (tgt := 50) hx hb dX4_lays_45 (by decide) (fun c_45 => ?_) (fun c_45 => (by first | exact absurd c_45 (by decide) | exact absurd (by decide) c_45))
        refine lv_aload_n hx hb dX4_lays_50 rfl (lv_at hl 0 rfl) ?_
        refine g_X4_75 F hK (mw_0 hR) (v := .ref (ad (24, 0))) rfl dX4_lays_51 ?_
        refine lv_iload_n hx hb dX4_lays_54 rfl (lv_at hl 1 rfl) ?_
        refine x_aald hx hb hK (mw_24 hR) rfl rfl (v := .ref (ad (25, kj))) (xi_nI (n := 4) (by omega) (by omega)) (rfl) dX4_lays_55 ?_
        refine lv_aload_n hx hb dX4_lays_56 rfl (lv_at hl 0 rfl) ?_
        refine g_X4_81 F hK (mw_0 hR) (v := .ref (ad (28, 0))) rfl dX4_lays_57 ?_
        refine lv_iload_n hx hb dX4_lays_60 rfl (lv_at hl 1 rfl) ?_
        refine x_iald hx hb hK (mw_28 hR) (v := .int (nI (S.1 5 kj))) (xi_nI (n := 4) (by omega) (by omega)) (rfl) dX4_lays_61 ?_
        refine lv_iload_n hx hb dX4_lays_62 rfl (lv_at hl 2 rfl) ?_
        refine x_cast hx hb hK hS (mw_25 hR (by omega)) (ma_25 hR (by omega)) (xi_nI (n := 6) (by omega) (by omega)) hsc dX4_lays_63 (fun H locs hat hof hS => ?_)
        have hR := ms_25_a hR (by omega) hof hat
        refine lv_aload_n hx hb dX4_lays_64 rfl (lv_at hl 0 rfl) ?_
        refine g_X4_78 F hK (mw_0 hR) (v := .ref (ad (26, 0))) rfl dX4_lays_65 ?_
        refine lv_iload_n hx hb dX4_lays_68 rfl (lv_at hl 1 rfl) ?_
        refine x_aald hx hb hK (mw_26 hR) rfl rfl (v := .ref (ad (27, kj))) (xi_nI (n := 4) (by omega) (by omega)) (rfl) dX4_lays_69 ?_
        refine lv_aload_n hx hb dX4_lays_70 rfl (lv_at hl 0 rfl) ?_
        refine g_X4_81 F hK (mw_0 hR) (v := .ref (ad (28, 0))) rfl dX4_lays_71 ?_
        refine lv_iload_n hx hb dX4_lays_74 rfl (lv_at hl 1 rfl) ?_
        refine x_iald hx hb hK (mw_28 hR) (v := .int (nI (S.1 5 kj))) (xi_nI (n := 4) (by omega) (by omega)) (rfl) dX4_lays_75 ?_
        refine lv_iload_n hx hb dX4_lays_76 rfl (lv_at hl 3 rfl) ?_
        refine x_iast hx hb hK hS (mw_27 hR (by omega)) (ma_27 hR (by omega)) (xi_nI (n := 6) (by omega) (by omega)) dX4_lays_77 (fun H locs hat hof hS => ?_)
        have hR := ms_27_a hR (by omega) hof hat
        refine lv_aload_n hx hb dX4_lays_78 rfl (lv_at hl 0 rfl) ?_
        refine g_X4_81 F hK (mw_0 hR) (v := .ref (ad (28, 0))) rfl dX4_lays_79 ?_
        refine lv_iload_n hx hb dX4_lays_82 rfl (lv_at hl 1 rfl) ?_
        refine lv_dup2_11 hx hb dX4_lays_83 rfl rfl ?_
        refine x_iald hx hb hK (mw_28 hR) (v := .int (nI (S.1 5 kj))) (xi_nI (n := 4) (by omega) (by omega)) (rfl) dX4_lays_84 ?_
        refine lv_iconst (v := 1) hx hb dX4_lays_85 (by decide) ?_
        refine lv_iadd hx hb dX4_lays_86 ?_
        refine x_topi (nI_1 _) ?_
        refine x_iast hx hb hK hS (mw_28 hR) (ma_28 hR) (xi_nI (n := 4) (by omega) (by omega)) dX4_lays_87 (fun H locs hat hof hS => ?_)
        have hR := ms_28_a hR hof hat
        refine lv_aload_n hx hb dX4_lays_88 rfl (lv_at hl 0 rfl) ?_
        refine g_X4_81 F hK (mw_0 hR) (v := .ref (ad (28, 0))) rfl dX4_lays_89 ?_
        refine lv_iload_n hx hb dX4_lays_92 rfl (lv_at hl 1 rfl) ?_
        refine x_iald hx hb hK (mw_28 hR) (v := .int (nI (S.1 5 kj + 1))) (xi_nI (n := 4) (by omega) (by omega)) ((by simp [fset, nset, lset])) dX4_lays_93 ?_
        have e9 : mLays S (nI kj) sort number most = (nI (S.1 5 kj + 1), (sN (sF (sF (sF S 26 0 0 0) 24 kj (S.1 5 kj) sort) 23 kj (S.1 5 kj) number) 5 kj (S.1 5 kj + 1))) := by simp [mLays, c_5, c_15, c_30, nI_clamp (show kj < 2 ^ 31 by omega)]
        exact xr_Ci hx hb hr hlocks ((congrArg Prod.fst e9).symm) (by show xRM G A (mLays S (nI kj) sort number most).2 ad z H; rw [show (mLays S (nI kj) sort number most).2 = (sN (sF (sF (sF S 26 0 0 0) 24 kj (S.1 5 kj) sort) 23 kj (S.1 5 kj) number) 5 kj (S.1 5 kj + 1)) from congrArg Prod.snd e9]; exact hR) hS (by first | omega | decide) (by first | omega | decide) dX4_lays_94
      · refine lv_iconst (v := 2) hx hb dX4_lays_33 (by decide) ?_
        refine lv_goto (tgt := 38) hx hb dX4_lays_34 (by decide) ?_
        refine p_X4_87 F hK hS (mw_0 hR) (ma_0 hR) (v := .int 2) rfl rfl (Nat.le_of_ble_eq_true rfl) dX4_lays_38 (fun H locs hat hof hS => ?_)
        have hR := ms_0_29 hR hof hat
        refine lv_aload_n hx hb dX4_lays_41 rfl (lv_at hl 0 rfl) ?_
        refine g_X4_87 F hK (mw_0 hR) (v := .int 2) (by simp [fset, nset, lset]) dX4_lays_42 ?_
        refine lv_if_le (tgt := 50) hx hb dX4_lays_45 (by decide) (fun c_45 => (by first | exact absurd c_45 (by decide) | exact absurd (by decide) c_45)) (fun c_45 => ?_)
        refine lv_iconst (v := 0) hx hb dX4_lays_48 (by decide) ?_
        have e9 : mLays S (nI kj) sort number most = (0, (sF S 26 0 0 2)) := by simp [mLays, c_5, c_15, c_30, nI_clamp (show kj < 2 ^ 31 by omega)]
        exact xr_Ci hx hb hr hlocks ((congrArg Prod.fst e9).symm) (by show xRM G A (mLays S (nI kj) sort number most).2 ad z H; rw [show (mLays S (nI kj) sort number most).2 = (sF S 26 0 0 2) from congrArg Prod.snd e9]; exact hR) hS (by first | omega | decide) (by first | omega | decide) dX4_lays_49
    · refine lv_iconst (v := 1) hx hb dX4_lays_18 (by decide) ?_
      refine lv_goto (tgt := 38) hx hb dX4_lays_19 (by decide) ?_
      refine p_X4_87 F hK hS (mw_0 hR) (ma_0 hR) (v := .int 1) rfl rfl (Nat.le_of_ble_eq_true rfl) dX4_lays_38 (fun H locs hat hof hS => ?_)
      have hR := ms_0_29 hR hof hat
      refine lv_aload_n hx hb dX4_lays_41 rfl (lv_at hl 0 rfl) ?_
      refine g_X4_87 F hK (mw_0 hR) (v := .int 1) (by simp [fset, nset, lset]) dX4_lays_42 ?_
      refine lv_if_le (tgt := 50) hx hb dX4_lays_45 (by decide) (fun c_45 => (by first | exact absurd c_45 (by decide) | exact absurd (by decide) c_45)) (fun c_45 => ?_)
      refine lv_iconst (v := 0) hx hb dX4_lays_48 (by decide) ?_
      have e9 : mLays S (nI kj) sort number most = (0, (sF S 26 0 0 1)) := by simp [mLays, c_5, c_15, nI_clamp (show kj < 2 ^ 31 by omega)]
      exact xr_Ci hx hb hr hlocks ((congrArg Prod.fst e9).symm) (by show xRM G A (mLays S (nI kj) sort number most).2 ad z H; rw [show (mLays S (nI kj) sort number most).2 = (sF S 26 0 0 1) from congrArg Prod.snd e9]; exact hR) hS (by first | omega | decide) (by first | omega | decide) dX4_lays_49

set_option maxHeartbeats 4000000 in
theorem mX4_addFee {l : Launch} {G : xG} {s0 : State} {b0 : Nat} (g : xG0 G s0 b0) {A : Nat → Prop} {S : xS} {ad : Nat × Nat → Nat} {z : xZ} (kind v : Int32) (hW : mWF S) : Met l yX4_addFee (ws_ yX4_addFee cX4_addFee 3 (some .int)) ({ frames := 3, cells := 0, slots := 0, locals := 66 } : Room) (xP s0 A [.ref (ad (0, 0)), .int kind, .int v] (fun H => xRM G A S ad z H)) (xQc (some (.int ((mLays S kind 102 v 999).1))) (fun _ H => xRM G A (mLays S kind 102 v 999).2 ad z H) A) 0 0 A := by
  refine Met.ofW (cc := cX4_addFee) (maxL := 3) (ret := (some .int)) (by decide) rfl ?_
  intro p e s m args below meth c s₁ B hml hv
  obtain ⟨rfl, hWK, hR⟩ := hv
  have hx := B.exec
  have hb := B.bytes
  have hr := B.returns
  have hts := atoms_spec (ws := ws_ yX4_addFee cX4_addFee 3 (some .int)) B.pre
  have hts : ∀ w ∈ lw_all, w.before _ s = true := fun w h => hts w (List.mem_cons_of_mem _ h)
  have hown : s.vm.findClass "LendlatheModel" = some m.cls := findClass_of_methodNamed B.named
  have hlocks := B.notSynchronized
  have hK := hWK.K g
  have F : CallFix p m c cX4_addFee 3 s _ lw_all "LendlatheModel" := ⟨hx, hb, hml, hown, hts⟩
  have hS : va_S A s.heap s.heap [] := va_S.rf
  have hl := lv_entry ([.ref (ad (0, 0)), .int kind, .int v]) (n := 3) (Nat.le_of_ble_eq_true rfl)
  rw [lg_entry_eq]
  generalize (lg_sl ([.ref (ad (0, 0)), .int kind, .int v]) ++ List.replicate (3 - (lg_sl ([.ref (ad (0, 0)), .int kind, .int v])).length) Slot.unset).toArray = ls at hl ⊢
  have hl : lv_has ls 3 [(0, .ref (ad (0, 0))), (1, .int kind), (2, .int v)] := hl
  have hn0 := hW.1
  have hn1 := hW.2.1
  have hn2 := hW.2.2.1
  have hn3 := hW.2.2.2.1
  have hn4 := hW.2.2.2.2.1
  refine lv_aload_n hx hb dX4_addFee_0 rfl (lv_at hl 0 rfl) ?_
  refine lv_iload_n hx hb dX4_addFee_1 rfl (lv_at hl 1 rfl) ?_
  refine lv_bipush (v := 102) hx hb dX4_addFee_2 (by decide) ?_
  refine lv_iload_n hx hb dX4_addFee_4 rfl (lv_at hl 2 rfl) ?_
  refine lv_sipush (v := 999) hx hb dX4_addFee_5 (by decide) ?_
  refine xc_C (va_runV (As := [.int kind, .int 102, .int v, .int 999]) (rest := []) F (mX4_lays g (A := A) (S := S) (ad := ad) (z := z) kind 102 v 999 hW rfl) (cwV 4 hts (lw_V q1765 q1767 qs53 q80 q1768) rfl rfl rfl hdV_X4_lays ⟨Nat.le_of_ble_eq_true rfl, Nat.le_of_ble_eq_true rfl⟩) (xpreV (xrecv hK (mw_0 hR) rfl) hWK hS hR) rfl rfl hl.1 rfl (lv_room (Nat.le_of_ble_eq_true rfl)) dX4_addFee_8 ⟨Nat.le_of_ble_eq_true rfl, Nat.le_of_ble_eq_true rfl⟩) hS (fun H locs hR1 hz hk hS => ?_)
  have hR := hR1
  have e9 : mLays S kind 102 v 999 = ((mLays S kind 102 v 999).1, (mLays S kind 102 v 999).2) := by simp []
  exact xr_Ci hx hb hr hlocks ((congrArg Prod.fst e9).symm) (by show xRM G A (mLays S kind 102 v 999).2 ad z H; rw [show (mLays S kind 102 v 999).2 = (mLays S kind 102 v 999).2 from congrArg Prod.snd e9]; exact hR) hS (by first | omega | decide) (by first | omega | decide) dX4_addFee_11

set_option maxHeartbeats 4000000 in
theorem mX4_addCap {l : Launch} {G : xG} {s0 : State} {b0 : Nat} (g : xG0 G s0 b0) {A : Nat → Prop} {S : xS} {ad : Nat × Nat → Nat} {z : xZ} (kind v : Int32) (hW : mWF S) : Met l yX4_addCap (ws_ yX4_addCap cX4_addCap 3 (some .int)) ({ frames := 3, cells := 0, slots := 0, locals := 66 } : Room) (xP s0 A [.ref (ad (0, 0)), .int kind, .int v] (fun H => xRM G A S ad z H)) (xQc (some (.int ((mLays S kind 99 v 9999).1))) (fun _ H => xRM G A (mLays S kind 99 v 9999).2 ad z H) A) 0 0 A := by
  refine Met.ofW (cc := cX4_addCap) (maxL := 3) (ret := (some .int)) (by decide) rfl ?_
  intro p e s m args below meth c s₁ B hml hv
  obtain ⟨rfl, hWK, hR⟩ := hv
  have hx := B.exec
  have hb := B.bytes
  have hr := B.returns
  have hts := atoms_spec (ws := ws_ yX4_addCap cX4_addCap 3 (some .int)) B.pre
  have hts : ∀ w ∈ lw_all, w.before _ s = true := fun w h => hts w (List.mem_cons_of_mem _ h)
  have hown : s.vm.findClass "LendlatheModel" = some m.cls := findClass_of_methodNamed B.named
  have hlocks := B.notSynchronized
  have hK := hWK.K g
  have F : CallFix p m c cX4_addCap 3 s _ lw_all "LendlatheModel" := ⟨hx, hb, hml, hown, hts⟩
  have hS : va_S A s.heap s.heap [] := va_S.rf
  have hl := lv_entry ([.ref (ad (0, 0)), .int kind, .int v]) (n := 3) (Nat.le_of_ble_eq_true rfl)
  rw [lg_entry_eq]
  generalize (lg_sl ([.ref (ad (0, 0)), .int kind, .int v]) ++ List.replicate (3 - (lg_sl ([.ref (ad (0, 0)), .int kind, .int v])).length) Slot.unset).toArray = ls at hl ⊢
  have hl : lv_has ls 3 [(0, .ref (ad (0, 0))), (1, .int kind), (2, .int v)] := hl
  have hn0 := hW.1
  have hn1 := hW.2.1
  have hn2 := hW.2.2.1
  have hn3 := hW.2.2.2.1
  have hn4 := hW.2.2.2.2.1
  refine lv_aload_n hx hb dX4_addCap_0 rfl (lv_at hl 0 rfl) ?_
  refine lv_iload_n hx hb dX4_addCap_1 rfl (lv_at hl 1 rfl) ?_
  refine lv_bipush (v := 99) hx hb dX4_addCap_2 (by decide) ?_
  refine lv_iload_n hx hb dX4_addCap_4 rfl (lv_at hl 2 rfl) ?_
  refine lv_sipush (v := 9999) hx hb dX4_addCap_5 (by decide) ?_
  refine xc_C (va_runV (As := [.int kind, .int 99, .int v, .int 9999]) (rest := []) F (mX4_lays g (A := A) (S := S) (ad := ad) (z := z) kind 99 v 9999 hW rfl) (cwV 4 hts (lw_V q1765 q1767 qs53 q80 q1768) rfl rfl rfl hdV_X4_lays ⟨Nat.le_of_ble_eq_true rfl, Nat.le_of_ble_eq_true rfl⟩) (xpreV (xrecv hK (mw_0 hR) rfl) hWK hS hR) rfl rfl hl.1 rfl (lv_room (Nat.le_of_ble_eq_true rfl)) dX4_addCap_8 ⟨Nat.le_of_ble_eq_true rfl, Nat.le_of_ble_eq_true rfl⟩) hS (fun H locs hR1 hz hk hS => ?_)
  have hR := hR1
  have e9 : mLays S kind 99 v 9999 = ((mLays S kind 99 v 9999).1, (mLays S kind 99 v 9999).2) := by simp []
  exact xr_Ci hx hb hr hlocks ((congrArg Prod.fst e9).symm) (by show xRM G A (mLays S kind 99 v 9999).2 ad z H; rw [show (mLays S kind 99 v 9999).2 = (mLays S kind 99 v 9999).2 from congrArg Prod.snd e9]; exact hR) hS (by first | omega | decide) (by first | omega | decide) dX4_addCap_11

set_option maxHeartbeats 4000000 in
theorem mX4_addDouble {l : Launch} {G : xG} {s0 : State} {b0 : Nat} (g : xG0 G s0 b0) {A : Nat → Prop} {S : xS} {ad : Nat × Nat → Nat} {z : xZ} (kind v : Int32) (hW : mWF S) : Met l yX4_addDouble (ws_ yX4_addDouble cX4_addDouble 3 (some .int)) ({ frames := 3, cells := 0, slots := 0, locals := 66 } : Room) (xP s0 A [.ref (ad (0, 0)), .int kind, .int v] (fun H => xRM G A S ad z H)) (xQc (some (.int ((mLays S kind 100 v 240).1))) (fun _ H => xRM G A (mLays S kind 100 v 240).2 ad z H) A) 0 0 A := by
  refine Met.ofW (cc := cX4_addDouble) (maxL := 3) (ret := (some .int)) (by decide) rfl ?_
  intro p e s m args below meth c s₁ B hml hv
  obtain ⟨rfl, hWK, hR⟩ := hv
  have hx := B.exec
  have hb := B.bytes
  have hr := B.returns
  have hts := atoms_spec (ws := ws_ yX4_addDouble cX4_addDouble 3 (some .int)) B.pre
  have hts : ∀ w ∈ lw_all, w.before _ s = true := fun w h => hts w (List.mem_cons_of_mem _ h)
  have hown : s.vm.findClass "LendlatheModel" = some m.cls := findClass_of_methodNamed B.named
  have hlocks := B.notSynchronized
  have hK := hWK.K g
  have F : CallFix p m c cX4_addDouble 3 s _ lw_all "LendlatheModel" := ⟨hx, hb, hml, hown, hts⟩
  have hS : va_S A s.heap s.heap [] := va_S.rf
  have hl := lv_entry ([.ref (ad (0, 0)), .int kind, .int v]) (n := 3) (Nat.le_of_ble_eq_true rfl)
  rw [lg_entry_eq]
  generalize (lg_sl ([.ref (ad (0, 0)), .int kind, .int v]) ++ List.replicate (3 - (lg_sl ([.ref (ad (0, 0)), .int kind, .int v])).length) Slot.unset).toArray = ls at hl ⊢
  have hl : lv_has ls 3 [(0, .ref (ad (0, 0))), (1, .int kind), (2, .int v)] := hl
  have hn0 := hW.1
  have hn1 := hW.2.1
  have hn2 := hW.2.2.1
  have hn3 := hW.2.2.2.1
  have hn4 := hW.2.2.2.2.1
  refine lv_aload_n hx hb dX4_addDouble_0 rfl (lv_at hl 0 rfl) ?_
  refine lv_iload_n hx hb dX4_addDouble_1 rfl (lv_at hl 1 rfl) ?_
  refine lv_bipush (v := 100) hx hb dX4_addDouble_2 (by decide) ?_
  refine lv_iload_n hx hb dX4_addDouble_4 rfl (lv_at hl 2 rfl) ?_
  refine lv_sipush (v := 240) hx hb dX4_addDouble_5 (by decide) ?_
  refine xc_C (va_runV (As := [.int kind, .int 100, .int v, .int 240]) (rest := []) F (mX4_lays g (A := A) (S := S) (ad := ad) (z := z) kind 100 v 240 hW rfl) (cwV 4 hts (lw_V q1765 q1767 qs53 q80 q1768) rfl rfl rfl hdV_X4_lays ⟨Nat.le_of_ble_eq_true rfl, Nat.le_of_ble_eq_true rfl⟩) (xpreV (xrecv hK (mw_0 hR) rfl) hWK hS hR) rfl rfl hl.1 rfl (lv_room (Nat.le_of_ble_eq_true rfl)) dX4_addDouble_8 ⟨Nat.le_of_ble_eq_true rfl, Nat.le_of_ble_eq_true rfl⟩) hS (fun H locs hR1 hz hk hS => ?_)
  have hR := hR1
  have e9 : mLays S kind 100 v 240 = ((mLays S kind 100 v 240).1, (mLays S kind 100 v 240).2) := by simp []
  exact xr_Ci hx hb hr hlocks ((congrArg Prod.fst e9).symm) (by show xRM G A (mLays S kind 100 v 240).2 ad z H; rw [show (mLays S kind 100 v 240).2 = (mLays S kind 100 v 240).2 from congrArg Prod.snd e9]; exact hR) hS (by first | omega | decide) (by first | omega | decide) dX4_addDouble_11

set_option maxHeartbeats 4000000 in
theorem mX4_addDiscount {l : Launch} {G : xG} {s0 : State} {b0 : Nat} (g : xG0 G s0 b0) {A : Nat → Prop} {S : xS} {ad : Nat × Nat → Nat} {z : xZ} (kind v : Int32) (hW : mWF S) : Met l yX4_addDiscount (ws_ yX4_addDiscount cX4_addDiscount 3 (some .int)) ({ frames := 3, cells := 0, slots := 0, locals := 66 } : Room) (xP s0 A [.ref (ad (0, 0)), .int kind, .int v] (fun H => xRM G A S ad z H)) (xQc (some (.int ((mLays S kind 112 v 100).1))) (fun _ H => xRM G A (mLays S kind 112 v 100).2 ad z H) A) 0 0 A := by
  refine Met.ofW (cc := cX4_addDiscount) (maxL := 3) (ret := (some .int)) (by decide) rfl ?_
  intro p e s m args below meth c s₁ B hml hv
  obtain ⟨rfl, hWK, hR⟩ := hv
  have hx := B.exec
  have hb := B.bytes
  have hr := B.returns
  have hts := atoms_spec (ws := ws_ yX4_addDiscount cX4_addDiscount 3 (some .int)) B.pre
  have hts : ∀ w ∈ lw_all, w.before _ s = true := fun w h => hts w (List.mem_cons_of_mem _ h)
  have hown : s.vm.findClass "LendlatheModel" = some m.cls := findClass_of_methodNamed B.named
  have hlocks := B.notSynchronized
  have hK := hWK.K g
  have F : CallFix p m c cX4_addDiscount 3 s _ lw_all "LendlatheModel" := ⟨hx, hb, hml, hown, hts⟩
  have hS : va_S A s.heap s.heap [] := va_S.rf
  have hl := lv_entry ([.ref (ad (0, 0)), .int kind, .int v]) (n := 3) (Nat.le_of_ble_eq_true rfl)
  rw [lg_entry_eq]
  generalize (lg_sl ([.ref (ad (0, 0)), .int kind, .int v]) ++ List.replicate (3 - (lg_sl ([.ref (ad (0, 0)), .int kind, .int v])).length) Slot.unset).toArray = ls at hl ⊢
  have hl : lv_has ls 3 [(0, .ref (ad (0, 0))), (1, .int kind), (2, .int v)] := hl
  have hn0 := hW.1
  have hn1 := hW.2.1
  have hn2 := hW.2.2.1
  have hn3 := hW.2.2.2.1
  have hn4 := hW.2.2.2.2.1
  refine lv_aload_n hx hb dX4_addDiscount_0 rfl (lv_at hl 0 rfl) ?_
  refine lv_iload_n hx hb dX4_addDiscount_1 rfl (lv_at hl 1 rfl) ?_
  refine lv_bipush (v := 112) hx hb dX4_addDiscount_2 (by decide) ?_
  refine lv_iload_n hx hb dX4_addDiscount_4 rfl (lv_at hl 2 rfl) ?_
  refine lv_bipush (v := 100) hx hb dX4_addDiscount_5 (by decide) ?_
  refine xc_C (va_runV (As := [.int kind, .int 112, .int v, .int 100]) (rest := []) F (mX4_lays g (A := A) (S := S) (ad := ad) (z := z) kind 112 v 100 hW rfl) (cwV 4 hts (lw_V q1765 q1767 qs53 q80 q1768) rfl rfl rfl hdV_X4_lays ⟨Nat.le_of_ble_eq_true rfl, Nat.le_of_ble_eq_true rfl⟩) (xpreV (xrecv hK (mw_0 hR) rfl) hWK hS hR) rfl rfl hl.1 rfl (lv_room (Nat.le_of_ble_eq_true rfl)) dX4_addDiscount_7 ⟨Nat.le_of_ble_eq_true rfl, Nat.le_of_ble_eq_true rfl⟩) hS (fun H locs hR1 hz hk hS => ?_)
  have hR := hR1
  have e9 : mLays S kind 112 v 100 = ((mLays S kind 112 v 100).1, (mLays S kind 112 v 100).2) := by simp []
  exact xr_Ci hx hb hr hlocks ((congrArg Prod.fst e9).symm) (by show xRM G A (mLays S kind 112 v 100).2 ad z H; rw [show (mLays S kind 112 v 100).2 = (mLays S kind 112 v 100).2 from congrArg Prod.snd e9]; exact hR) hS (by first | omega | decide) (by first | omega | decide) dX4_addDiscount_10

set_option maxHeartbeats 4000000 in
theorem mX4_costOf {l : Launch} {G : xG} {s0 : State} {b0 : Nat} (g : xG0 G s0 b0) {A : Nat → Prop} {S : xS} {ad : Nat × Nat → Nat} {z : xZ} (kind minutes : Int32) (hW : mWF S) : Met l yX4_costOf (ws_ yX4_costOf cX4_costOf 3 (some .int)) ({ frames := 2, cells := 1, slots := 6, locals := 43 } : Room) (xP s0 A [.ref (ad (0, 0)), .int kind, .int minutes] (fun H => xRM G A S ad z H)) (xQc (some (.int ((mCostOf S kind minutes).1))) (fun _ H => xRM G A (mCostOf S kind minutes).2 ad z H) A) 1 6 A := by
  refine Met.ofW (cc := cX4_costOf) (maxL := 3) (ret := (some .int)) (by decide) rfl ?_
  intro p e s m args below meth c s₁ B hml hv
  obtain ⟨rfl, hWK, hR⟩ := hv
  have hx := B.exec
  have hb := B.bytes
  have hr := B.returns
  have hts := atoms_spec (ws := ws_ yX4_costOf cX4_costOf 3 (some .int)) B.pre
  have hts : ∀ w ∈ lw_all, w.before _ s = true := fun w h => hts w (List.mem_cons_of_mem _ h)
  have hown : s.vm.findClass "LendlatheModel" = some m.cls := findClass_of_methodNamed B.named
  have hlocks := B.notSynchronized
  have hK := hWK.K g
  have F : CallFix p m c cX4_costOf 3 s _ lw_all "LendlatheModel" := ⟨hx, hb, hml, hown, hts⟩
  have hS : va_S A s.heap s.heap [] := va_S.rf
  have hl := lv_entry ([.ref (ad (0, 0)), .int kind, .int minutes]) (n := 3) (Nat.le_of_ble_eq_true rfl)
  rw [lg_entry_eq]
  generalize (lg_sl ([.ref (ad (0, 0)), .int kind, .int minutes]) ++ List.replicate (3 - (lg_sl ([.ref (ad (0, 0)), .int kind, .int minutes])).length) Slot.unset).toArray = ls at hl ⊢
  have hl : lv_has ls 3 [(0, .ref (ad (0, 0))), (1, .int kind), (2, .int minutes)] := hl
  have hn0 := hW.1
  have hn1 := hW.2.1
  have hn2 := hW.2.2.1
  have hn3 := hW.2.2.2.1
  have hn4 := hW.2.2.2.2.1
  refine lv_aload_n hx hb dX4_costOf_0 rfl (lv_at hl 0 rfl) ?_
  refine lv_iload_n hx hb dX4_costOf_1 rfl (lv_at hl 1 rfl) ?_
  refine xc_P (va_runS (As := [.int kind]) (rest := [.ref (ad (0, 0))]) F (mX4_isKind g (A := A) kind) (va_cwS 1 hts (lw_S q1555 q1556 q80 q1557) rfl rfl rfl hdS_X4_isKind ⟨Nat.le_of_ble_eq_true rfl, Nat.le_of_ble_eq_true rfl⟩) (xpre hWK hS trivial) rfl rfl hl.1 rfl (lv_room (Nat.le_of_ble_eq_true rfl)) dX4_costOf_2 ⟨Nat.le_of_ble_eq_true rfl, Nat.le_of_ble_eq_true rfl⟩) ?_
  refine x_ifeq (tgt := 23) hx hb dX4_costOf_5 (by decide) (fun c_5 => ?_) (fun c_5 => ?_)
  · refine lv_iconst (v := 1) hx hb dX4_costOf_23 (by decide) ?_
    refine p_X4_87 F hK hS (mw_0 hR) (ma_0 hR) (v := .int 1) rfl rfl (Nat.le_of_ble_eq_true rfl) dX4_costOf_24 (fun H locs hat hof hS => ?_)
    have hR := ms_0_29 hR hof hat
    refine lv_aload_n hx hb dX4_costOf_27 rfl (lv_at hl 0 rfl) ?_
    refine g_X4_87 F hK (mw_0 hR) (v := .int 1) (by simp [fset, nset, lset]) dX4_costOf_28 ?_
    refine lv_if_le (tgt := 38) hx hb dX4_costOf_31 (by decide) (fun c_31 => (by first | exact absurd c_31 (by decide) | exact absurd (by decide) c_31)) (fun c_31 => ?_)
    refine lv_iconst (v := 0) hx hb dX4_costOf_34 (by decide) ?_
    refine lv_goto (tgt := 44) hx hb dX4_costOf_35 (by decide) ?_
    have e9 : mCostOf S kind minutes = (0, (sF S 26 0 0 1)) := by simp [mCostOf, c_5]
    exact xr_Ci hx hb hr hlocks ((congrArg Prod.fst e9).symm) (by show xRM G A (mCostOf S kind minutes).2 ad z H; rw [show (mCostOf S kind minutes).2 = (sF S 26 0 0 1) from congrArg Prod.snd e9]; exact hR) hS (by first | omega | decide) (by first | omega | decide) dX4_costOf_44
  · obtain ⟨kj, hkj, rfl⟩ := inI_of' (n := 4) (by first | rfl | decide) (by first | decide | omega) c_5
    refine lv_iload_n hx hb dX4_costOf_8 rfl (lv_at hl 2 rfl) ?_
    refine lv_iconst (v := 0) hx hb dX4_costOf_9 (by decide) ?_
    refine lv_sipush (v := 480) hx hb dX4_costOf_10 (by decide) ?_
    refine xc_P (va_runS (As := [.int minutes, .int 0, .int 480]) (rest := [.ref (ad (0, 0))]) F (mX4_in g (A := A) minutes 0 480) (va_cwS 3 hts (lw_S q1558 q1559 q80 q1560) rfl rfl rfl hdS_X4_in ⟨Nat.le_of_ble_eq_true rfl, Nat.le_of_ble_eq_true rfl⟩) (xpre hWK hS trivial) rfl rfl hl.1 rfl (lv_room (Nat.le_of_ble_eq_true rfl)) dX4_costOf_13 ⟨Nat.le_of_ble_eq_true rfl, Nat.le_of_ble_eq_true rfl⟩) ?_
    refine x_ifeq (tgt := 23) hx hb dX4_costOf_16 (by decide) (fun c_16 => ?_) (fun c_16 => ?_)
    · refine lv_iconst (v := 1) hx hb dX4_costOf_23 (by decide) ?_
      refine p_X4_87 F hK hS (mw_0 hR) (ma_0 hR) (v := .int 1) rfl rfl (Nat.le_of_ble_eq_true rfl) dX4_costOf_24 (fun H locs hat hof hS => ?_)
      have hR := ms_0_29 hR hof hat
      refine lv_aload_n hx hb dX4_costOf_27 rfl (lv_at hl 0 rfl) ?_
      refine g_X4_87 F hK (mw_0 hR) (v := .int 1) (by simp [fset, nset, lset]) dX4_costOf_28 ?_
      refine lv_if_le (tgt := 38) hx hb dX4_costOf_31 (by decide) (fun c_31 => (by first | exact absurd c_31 (by decide) | exact absurd (by decide) c_31)) (fun c_31 => ?_)
      refine lv_iconst (v := 0) hx hb dX4_costOf_34 (by decide) ?_
      refine lv_goto (tgt := 44) hx hb dX4_costOf_35 (by decide) ?_
      have e9 : mCostOf S (nI kj) minutes = (0, (sF S 26 0 0 1)) := by simp [mCostOf, c_5, c_16, nI_clamp (show kj < 2 ^ 31 by omega)]
      exact xr_Ci hx hb hr hlocks ((congrArg Prod.fst e9).symm) (by show xRM G A (mCostOf S (nI kj) minutes).2 ad z H; rw [show (mCostOf S (nI kj) minutes).2 = (sF S 26 0 0 1) from congrArg Prod.snd e9]; exact hR) hS (by first | omega | decide) (by first | omega | decide) dX4_costOf_44
    · refine lv_iconst (v := 0) hx hb dX4_costOf_19 (by decide) ?_
      refine lv_goto (tgt := 24) hx hb dX4_costOf_20 (by decide) ?_
      refine p_X4_87 F hK hS (mw_0 hR) (ma_0 hR) (v := .int 0) rfl rfl (Nat.le_of_ble_eq_true rfl) dX4_costOf_24 (fun H locs hat hof hS => ?_)
      have hR := ms_0_29 hR hof hat
      refine lv_aload_n hx hb dX4_costOf_27 rfl (lv_at hl 0 rfl) ?_
      refine g_X4_87 F hK (mw_0 hR) (v := .int 0) (by simp [fset, nset, lset]) dX4_costOf_28 ?_
      refine lv_if_le (tgt := 38) hx hb dX4_costOf_31 (by decide) (fun c_31 => ?_) (fun c_31 => (by first | exact absurd c_31 (by decide) | exact absurd (by decide) c_31))
      refine lv_aload_n hx hb dX4_costOf_38 rfl (lv_at hl 0 rfl) ?_
      refine lv_iload_n hx hb dX4_costOf_39 rfl (lv_at hl 1 rfl) ?_
      refine lv_iload_n hx hb dX4_costOf_40 rfl (lv_at hl 2 rfl) ?_
      refine xc_C (va_runV (As := [.int (nI kj), .int minutes]) (rest := []) F (mX4_cost g (A := A) (S := (sF S 26 0 0 0)) (ad := ad) (z := z) minutes (xi_nI (n := 4) (by omega) (by omega)) hW) (cwV 2 hts (lw_V q1664 q1666 qs46 q80 q1667) rfl rfl rfl hdV_X4_cost ⟨Nat.le_of_ble_eq_true rfl, Nat.le_of_ble_eq_true rfl⟩) (xpreV (xrecv hK (mw_0 hR) rfl) hWK hS hR) rfl rfl hl.1 rfl (lv_room (Nat.le_of_ble_eq_true rfl)) dX4_costOf_41 ⟨Nat.le_of_ble_eq_true rfl, Nat.le_of_ble_eq_true rfl⟩) hS (fun H locs hR1 hz hk hS => ?_)
      have hR := hR1
      refine x_topi (show mCost (sF S 26 0 0 0) kj minutes = mCost S kj minutes from mCost_c (fun _ => rfl) (fun _ => rfl) rfl) ?_
      have e9 : mCostOf S (nI kj) minutes = (mCost S kj minutes, (sF S 26 0 0 0)) := by simp [mCostOf, c_5, c_16, nI_clamp (show kj < 2 ^ 31 by omega)]
      exact xr_Ci hx hb hr hlocks ((congrArg Prod.fst e9).symm) (by show xRM G A (mCostOf S (nI kj) minutes).2 ad z H; rw [show (mCostOf S (nI kj) minutes).2 = (sF S 26 0 0 0) from congrArg Prod.snd e9]; exact hR) hS (by first | omega | decide) (by first | omega | decide) dX4_costOf_44

set_option maxHeartbeats 4000000 in
theorem mX4_book {l : Launch} {G : xG} {s0 : State} {b0 : Nat} (g : xG0 G s0 b0) {A : Nat → Prop} {S : xS} {ad : Nat × Nat → Nat} {z : xZ} (member machine day start minutes work : Int32) (hW : mWF S) (hA : ∃ rk, rkOK S.2.1 rk ∧ ∀ i, rk i < 4) : Met l yX4_book (ws_ yX4_book cX4_book 8 (some .int)) ({ frames := 7, cells := 0, slots := 0, locals := 195 } : Room) (xP s0 A [.ref (ad (0, 0)), .int member, .int machine, .int day, .int start, .int minutes, .int work] (fun H => xRM G A S ad z H)) (xQc (some (.int ((mBook S member machine day start minutes work).1))) (fun _ H => xRM G A (mBook S member machine day start minutes work).2 ad z H) A) 0 0 A := by
  refine Met.ofW (cc := cX4_book) (maxL := 8) (ret := (some .int)) (by decide) rfl ?_
  intro p e s m args below meth c s₁ B hml hv
  obtain ⟨rfl, hWK, hR⟩ := hv
  have hx := B.exec
  have hb := B.bytes
  have hr := B.returns
  have hts := atoms_spec (ws := ws_ yX4_book cX4_book 8 (some .int)) B.pre
  have hts : ∀ w ∈ lw_all, w.before _ s = true := fun w h => hts w (List.mem_cons_of_mem _ h)
  have hown : s.vm.findClass "LendlatheModel" = some m.cls := findClass_of_methodNamed B.named
  have hlocks := B.notSynchronized
  have hK := hWK.K g
  have F : CallFix p m c cX4_book 8 s _ lw_all "LendlatheModel" := ⟨hx, hb, hml, hown, hts⟩
  have hS : va_S A s.heap s.heap [] := va_S.rf
  have hl := lv_entry ([.ref (ad (0, 0)), .int member, .int machine, .int day, .int start, .int minutes, .int work]) (n := 8) (Nat.le_of_ble_eq_true rfl)
  rw [lg_entry_eq]
  generalize (lg_sl ([.ref (ad (0, 0)), .int member, .int machine, .int day, .int start, .int minutes, .int work]) ++ List.replicate (8 - (lg_sl ([.ref (ad (0, 0)), .int member, .int machine, .int day, .int start, .int minutes, .int work])).length) Slot.unset).toArray = ls at hl ⊢
  have hl : lv_has ls 8 [(0, .ref (ad (0, 0))), (1, .int member), (2, .int machine), (3, .int day), (4, .int start), (5, .int minutes), (6, .int work)] := hl
  have hn0 := hW.1
  have hn1 := hW.2.1
  have hn2 := hW.2.2.1
  have hn3 := hW.2.2.2.1
  have hn4 := hW.2.2.2.2.1
  refine lv_aload_n hx hb dX4_book_0 rfl (lv_at hl 0 rfl) ?_
  refine lv_aload_n hx hb dX4_book_1 rfl (lv_at hl 0 rfl) ?_
  refine lv_iload_n hx hb dX4_book_2 rfl (lv_at hl 1 rfl) ?_
  refine lv_iload_n hx hb dX4_book_3 rfl (lv_at hl 2 rfl) ?_
  refine lv_iload_n hx hb dX4_book_4 rfl (lv_at hl 3 rfl) ?_
  refine lv_iload hx hb dX4_book_5 (lv_at hl 4 rfl) ?_
  refine lv_iload hx hb dX4_book_7 (lv_at hl 5 rfl) ?_
  refine lv_iload hx hb dX4_book_9 (lv_at hl 6 rfl) ?_
  refine xc_P (va_runV (As := [.int member, .int machine, .int day, .int start, .int minutes, .int work]) (rest := [.ref (ad (0, 0))]) F (mX4_lacks g (A := A) (S := S) (ad := ad) (z := z) member machine day start minutes work) (cwV 6 hts (lw_V q1633 q1635 qs42 q80 q1636) rfl rfl rfl hdV_X4_lacks ⟨Nat.le_of_ble_eq_true rfl, Nat.le_of_ble_eq_true rfl⟩) (xpreV (xrecv hK (mw_0 hR) rfl) hWK hS hR) rfl rfl hl.1 rfl (lv_room (Nat.le_of_ble_eq_true rfl)) dX4_book_11 ⟨Nat.le_of_ble_eq_true rfl, Nat.le_of_ble_eq_true rfl⟩) ?_
  refine p_X4_87 F hK hS (mw_0 hR) (ma_0 hR) (v := .int (mLacks S member machine day start minutes work)) rfl rfl (Nat.le_of_ble_eq_true rfl) dX4_book_14 (fun H locs hat hof hS => ?_)
  have hR := ms_0_29 hR hof hat
  refine lv_aload_n hx hb dX4_book_17 rfl (lv_at hl 0 rfl) ?_
  refine g_X4_87 F hK (mw_0 hR) (v := .int (mLacks S member machine day start minutes work)) (by simp [fset, nset, lset]) dX4_book_18 ?_
  refine lv_if_le (tgt := 26) hx hb dX4_book_21 (by decide) (fun c_21 => ?_) (fun c_21 => ?_)
  · obtain ⟨mj, hmj, rfl⟩ := inI_of' (n := S.1 1 0) (by first | rfl | decide) (by first | decide | omega) (mLacks_all c_21).1
    obtain ⟨qj, hqj, rfl⟩ := inI_of' (n := S.1 0 0) (by first | rfl | decide) (by first | decide | omega) (mLacks_all c_21).2.1
    refine lv_aload_n hx hb dX4_book_26 rfl (lv_at hl 0 rfl) ?_
    refine lv_iload_n hx hb dX4_book_27 rfl (lv_at hl 1 rfl) ?_
    refine lv_iload_n hx hb dX4_book_28 rfl (lv_at hl 2 rfl) ?_
    refine lv_iload_n hx hb dX4_book_29 rfl (lv_at hl 3 rfl) ?_
    refine lv_iload hx hb dX4_book_30 (lv_at hl 4 rfl) ?_
    refine lv_iload hx hb dX4_book_32 (lv_at hl 5 rfl) ?_
    refine lv_iload hx hb dX4_book_34 (lv_at hl 6 rfl) ?_
    refine xc_P (va_runV (As := [.int (nI mj), .int (nI qj), .int day, .int start, .int minutes, .int work]) (rest := []) F (mX4_letter g (A := A) (S := (sF S 26 0 0 (mLacks S (nI mj) (nI qj) day start minutes work))) (ad := ad) (z := z) day start minutes work (xi_nI (n := 10) (by omega) (by omega)) (xi_nI (n := 6) (by omega) (by omega)) hW hA) (cwV 6 hts (lw_V q1593 q1595 qs35 q80 q1596) rfl rfl rfl hdV_X4_letter ⟨Nat.le_of_ble_eq_true rfl, Nat.le_of_ble_eq_true rfl⟩) (xpreV (xrecv hK (mw_0 hR) rfl) hWK hS hR) rfl rfl hl.1 rfl (lv_room (Nat.le_of_ble_eq_true rfl)) dX4_book_36 ⟨Nat.le_of_ble_eq_true rfl, Nat.le_of_ble_eq_true rfl⟩) ?_
    refine x_topi (show mLetter (sF S 26 0 0 (mLacks S (nI mj) (nI qj) day start minutes work)).2.1 ((sF S 26 0 0 (mLacks S (nI mj) (nI qj) day start minutes work)).1 2 0) (nI mj) mj (nI qj) qj day start minutes work = mLetter S.2.1 (S.1 2 0) (nI mj) mj (nI qj) qj day start minutes work from rfl) ?_
    refine lv_istore (lv' := [(7, .int (mLetter S.2.1 (S.1 2 0) (nI mj) mj (nI qj) qj day start minutes work)), (0, .ref (ad (0, 0))), (1, .int (nI mj)), (2, .int (nI qj)), (3, .int day), (4, .int start), (5, .int minutes), (6, .int work)]) hx hb dX4_book_39 hl (by decide) rfl (fun ls hl => ?_)
    refine lv_aload_n hx hb dX4_book_41 rfl (lv_at hl 1 rfl) ?_
    refine lv_iload hx hb dX4_book_42 (lv_at hl 0 rfl) ?_
    refine lv_bipush (v := 105) hx hb dX4_book_44 (by decide) ?_
    refine lv_icmp_ne (tgt := 53) hx hb dX4_book_46 (by decide) (fun c_46 => ?_) (fun c_46 => ?_)
    · refine lv_iload hx hb dX4_book_53 (lv_at hl 0 rfl) ?_
      refine lv_bipush (v := 109) hx hb dX4_book_55 (by decide) ?_
      refine lv_icmp_ne (tgt := 64) hx hb dX4_book_57 (by decide) (fun c_57 => ?_) (fun c_57 => ?_)
      · refine lv_iload hx hb dX4_book_64 (lv_at hl 0 rfl) ?_
        refine lv_bipush (v := 116) hx hb dX4_book_66 (by decide) ?_
        refine lv_icmp_ne (tgt := 75) hx hb dX4_book_68 (by decide) (fun c_68 => ?_) (fun c_68 => ?_)
        · refine lv_aload_n hx hb dX4_book_75 rfl (lv_at hl 1 rfl) ?_
          refine g_X4_101 F hK (mw_0 hR) (v := .int (nI (S.1 2 0))) rfl dX4_book_76 ?_
          refine lv_sipush (v := 150) hx hb dX4_book_79 (by decide) ?_
          refine xn_ne (tgt := 90) (S.1 2 0) 150 rfl (by decide) (by omega) (by omega) hx hb dX4_book_82 (by decide) (fun c_82 => ?_) (fun c_82 => ?_)
          · refine lv_iconst (v := 0) hx hb dX4_book_90 (by decide) ?_
            refine p_X4_87 F hK hS (mw_0 hR) (ma_0 hR) (v := .int 0) rfl rfl (Nat.le_of_ble_eq_true rfl) dX4_book_91 (fun H locs hat hof hS => ?_)
            have hR := ms_0_29 hR hof hat
            rw [sF_sF] at hR
            refine lv_aload_n hx hb dX4_book_94 rfl (lv_at hl 1 rfl) ?_
            refine g_X4_87 F hK (mw_0 hR) (v := .int 0) (by simp [fset, nset, lset]) dX4_book_95 ?_
            refine lv_if_le (tgt := 105) hx hb dX4_book_98 (by decide) (fun c_98 => ?_) (fun c_98 => (by first | exact absurd c_98 (by decide) | exact absurd (by decide) c_98))
            refine lv_aload_n hx hb dX4_book_105 rfl (lv_at hl 1 rfl) ?_
            refine lv_iload_n hx hb dX4_book_106 rfl (lv_at hl 2 rfl) ?_
            refine lv_iload_n hx hb dX4_book_107 rfl (lv_at hl 3 rfl) ?_
            refine lv_iload_n hx hb dX4_book_108 rfl (lv_at hl 4 rfl) ?_
            refine lv_iload hx hb dX4_book_109 (lv_at hl 5 rfl) ?_
            refine lv_iload hx hb dX4_book_111 (lv_at hl 6 rfl) ?_
            refine lv_iload hx hb dX4_book_113 (lv_at hl 7 rfl) ?_
            refine lv_bipush (v := 98) hx hb dX4_book_115 (by decide) ?_
            refine xc_C (va_runV (As := [.int (nI mj), .int (nI qj), .int day, .int start, .int minutes, .int work, .int 98]) (rest := []) F (mX4_adds g (A := A) (S := (sF S 26 0 0 0)) (ad := ad) (z := z) (nI mj) (nI qj) day start minutes work 98 (by show S.1 2 0 < 150; omega) (mLacks_wk c_21) rfl) (cwV 7 hts (lw_V q1644 q1646 qs44 q80 q1647) rfl rfl rfl hdV_X4_adds ⟨Nat.le_of_ble_eq_true rfl, Nat.le_of_ble_eq_true rfl⟩) (xpreV (xrecv hK (mw_0 hR) rfl) hWK hS hR) rfl rfl hl.1 rfl (lv_room (Nat.le_of_ble_eq_true rfl)) dX4_book_117 ⟨Nat.le_of_ble_eq_true rfl, Nat.le_of_ble_eq_true rfl⟩) hS (fun H locs hR1 hz hk hS => ?_)
            have hR := hR1
            have e9 : mBook S (nI mj) (nI qj) day start minutes work = ((mAdds (sF S 26 0 0 0) (nI mj) (nI qj) day start minutes work 98).1, (mAdds (sF S 26 0 0 0) (nI mj) (nI qj) day start minutes work 98).2) := by simp [mBook, mLet6, c_21, c_46, c_57, c_68, nI_clamp (show mj < 2 ^ 31 by omega), nI_clamp (show qj < 2 ^ 31 by omega)]; simp [c_82]
            exact xr_Ci hx hb hr hlocks ((congrArg Prod.fst e9).symm) (by show xRM G A (mBook S (nI mj) (nI qj) day start minutes work).2 ad z H; rw [show (mBook S (nI mj) (nI qj) day start minutes work).2 = (mAdds (sF S 26 0 0 0) (nI mj) (nI qj) day start minutes work 98).2 from congrArg Prod.snd e9]; exact hR) hS (by first | omega | decide) (by first | omega | decide) dX4_book_120
          · refine lv_bipush (v := 6) hx hb dX4_book_85 (by decide) ?_
            refine lv_goto (tgt := 91) hx hb dX4_book_87 (by decide) ?_
            refine p_X4_87 F hK hS (mw_0 hR) (ma_0 hR) (v := .int 6) rfl rfl (Nat.le_of_ble_eq_true rfl) dX4_book_91 (fun H locs hat hof hS => ?_)
            have hR := ms_0_29 hR hof hat
            rw [sF_sF] at hR
            refine lv_aload_n hx hb dX4_book_94 rfl (lv_at hl 1 rfl) ?_
            refine g_X4_87 F hK (mw_0 hR) (v := .int 6) (by simp [fset, nset, lset]) dX4_book_95 ?_
            refine lv_if_le (tgt := 105) hx hb dX4_book_98 (by decide) (fun c_98 => (by first | exact absurd c_98 (by decide) | exact absurd (by decide) c_98)) (fun c_98 => ?_)
            refine lv_iconst (v := 0) hx hb dX4_book_101 (by decide) ?_
            refine lv_goto (tgt := 120) hx hb dX4_book_102 (by decide) ?_
            have e9 : mBook S (nI mj) (nI qj) day start minutes work = (0, (sF S 26 0 0 6)) := by simp [mBook, mLet6, c_21, c_46, c_57, c_68, nI_clamp (show mj < 2 ^ 31 by omega), nI_clamp (show qj < 2 ^ 31 by omega)]; simp [c_82]
            exact xr_Ci hx hb hr hlocks ((congrArg Prod.fst e9).symm) (by show xRM G A (mBook S (nI mj) (nI qj) day start minutes work).2 ad z H; rw [show (mBook S (nI mj) (nI qj) day start minutes work).2 = (sF S 26 0 0 6) from congrArg Prod.snd e9]; exact hR) hS (by first | omega | decide) (by first | omega | decide) dX4_book_120
        · refine lv_iconst (v := 5) hx hb dX4_book_71 (by decide) ?_
          refine lv_goto (tgt := 91) hx hb dX4_book_72 (by decide) ?_
          refine p_X4_87 F hK hS (mw_0 hR) (ma_0 hR) (v := .int 5) rfl rfl (Nat.le_of_ble_eq_true rfl) dX4_book_91 (fun H locs hat hof hS => ?_)
          have hR := ms_0_29 hR hof hat
          rw [sF_sF] at hR
          refine lv_aload_n hx hb dX4_book_94 rfl (lv_at hl 1 rfl) ?_
          refine g_X4_87 F hK (mw_0 hR) (v := .int 5) (by simp [fset, nset, lset]) dX4_book_95 ?_
          refine lv_if_le (tgt := 105) hx hb dX4_book_98 (by decide) (fun c_98 => (by first | exact absurd c_98 (by decide) | exact absurd (by decide) c_98)) (fun c_98 => ?_)
          refine lv_iconst (v := 0) hx hb dX4_book_101 (by decide) ?_
          refine lv_goto (tgt := 120) hx hb dX4_book_102 (by decide) ?_
          have e9 : mBook S (nI mj) (nI qj) day start minutes work = (0, (sF S 26 0 0 5)) := by simp [mBook, mLet6, c_21, c_46, c_57, c_68, nI_clamp (show mj < 2 ^ 31 by omega), nI_clamp (show qj < 2 ^ 31 by omega)]
          exact xr_Ci hx hb hr hlocks ((congrArg Prod.fst e9).symm) (by show xRM G A (mBook S (nI mj) (nI qj) day start minutes work).2 ad z H; rw [show (mBook S (nI mj) (nI qj) day start minutes work).2 = (sF S 26 0 0 5) from congrArg Prod.snd e9]; exact hR) hS (by first | omega | decide) (by first | omega | decide) dX4_book_120
      · refine lv_iconst (v := 4) hx hb dX4_book_60 (by decide) ?_
        refine lv_goto (tgt := 91) hx hb dX4_book_61 (by decide) ?_
        refine p_X4_87 F hK hS (mw_0 hR) (ma_0 hR) (v := .int 4) rfl rfl (Nat.le_of_ble_eq_true rfl) dX4_book_91 (fun H locs hat hof hS => ?_)
        have hR := ms_0_29 hR hof hat
        rw [sF_sF] at hR
        refine lv_aload_n hx hb dX4_book_94 rfl (lv_at hl 1 rfl) ?_
        refine g_X4_87 F hK (mw_0 hR) (v := .int 4) (by simp [fset, nset, lset]) dX4_book_95 ?_
        refine lv_if_le (tgt := 105) hx hb dX4_book_98 (by decide) (fun c_98 => (by first | exact absurd c_98 (by decide) | exact absurd (by decide) c_98)) (fun c_98 => ?_)
        refine lv_iconst (v := 0) hx hb dX4_book_101 (by decide) ?_
        refine lv_goto (tgt := 120) hx hb dX4_book_102 (by decide) ?_
        have e9 : mBook S (nI mj) (nI qj) day start minutes work = (0, (sF S 26 0 0 4)) := by simp [mBook, mLet6, c_21, c_46, c_57, nI_clamp (show mj < 2 ^ 31 by omega), nI_clamp (show qj < 2 ^ 31 by omega)]
        exact xr_Ci hx hb hr hlocks ((congrArg Prod.fst e9).symm) (by show xRM G A (mBook S (nI mj) (nI qj) day start minutes work).2 ad z H; rw [show (mBook S (nI mj) (nI qj) day start minutes work).2 = (sF S 26 0 0 4) from congrArg Prod.snd e9]; exact hR) hS (by first | omega | decide) (by first | omega | decide) dX4_book_120
    · refine lv_iconst (v := 3) hx hb dX4_book_49 (by decide) ?_
      refine lv_goto (tgt := 91) hx hb dX4_book_50 (by decide) ?_
      refine p_X4_87 F hK hS (mw_0 hR) (ma_0 hR) (v := .int 3) rfl rfl (Nat.le_of_ble_eq_true rfl) dX4_book_91 (fun H locs hat hof hS => ?_)
      have hR := ms_0_29 hR hof hat
      rw [sF_sF] at hR
      refine lv_aload_n hx hb dX4_book_94 rfl (lv_at hl 1 rfl) ?_
      refine g_X4_87 F hK (mw_0 hR) (v := .int 3) (by simp [fset, nset, lset]) dX4_book_95 ?_
      refine lv_if_le (tgt := 105) hx hb dX4_book_98 (by decide) (fun c_98 => (by first | exact absurd c_98 (by decide) | exact absurd (by decide) c_98)) (fun c_98 => ?_)
      refine lv_iconst (v := 0) hx hb dX4_book_101 (by decide) ?_
      refine lv_goto (tgt := 120) hx hb dX4_book_102 (by decide) ?_
      have e9 : mBook S (nI mj) (nI qj) day start minutes work = (0, (sF S 26 0 0 3)) := by simp [mBook, mLet6, c_21, c_46, nI_clamp (show mj < 2 ^ 31 by omega), nI_clamp (show qj < 2 ^ 31 by omega)]
      exact xr_Ci hx hb hr hlocks ((congrArg Prod.fst e9).symm) (by show xRM G A (mBook S (nI mj) (nI qj) day start minutes work).2 ad z H; rw [show (mBook S (nI mj) (nI qj) day start minutes work).2 = (sF S 26 0 0 3) from congrArg Prod.snd e9]; exact hR) hS (by first | omega | decide) (by first | omega | decide) dX4_book_120
  · refine lv_iconst (v := 0) hx hb dX4_book_24 (by decide) ?_
    have e9 : mBook S member machine day start minutes work = (0, (sF S 26 0 0 (mLacks S member machine day start minutes work))) := by simp [mBook, mLet6, c_21]
    exact xr_Ci hx hb hr hlocks ((congrArg Prod.fst e9).symm) (by show xRM G A (mBook S member machine day start minutes work).2 ad z H; rw [show (mBook S member machine day start minutes work).2 = (sF S 26 0 0 (mLacks S member machine day start minutes work)) from congrArg Prod.snd e9]; exact hR) hS (by first | omega | decide) (by first | omega | decide) dX4_book_25

set_option maxHeartbeats 4000000 in
theorem mX4_await {l : Launch} {G : xG} {s0 : State} {b0 : Nat} (g : xG0 G s0 b0) {A : Nat → Prop} {S : xS} {ad : Nat × Nat → Nat} {z : xZ} (member machine day start minutes work : Int32) (hW : mWF S) (hA : ∃ rk, rkOK S.2.1 rk ∧ ∀ i, rk i < 4) : Met l yX4_await (ws_ yX4_await cX4_await 8 (some .int)) ({ frames := 7, cells := 0, slots := 0, locals := 195 } : Room) (xP s0 A [.ref (ad (0, 0)), .int member, .int machine, .int day, .int start, .int minutes, .int work] (fun H => xRM G A S ad z H)) (xQc (some (.int ((mAwait S member machine day start minutes work).1))) (fun _ H => xRM G A (mAwait S member machine day start minutes work).2 ad z H) A) 0 0 A := by
  refine Met.ofW (cc := cX4_await) (maxL := 8) (ret := (some .int)) (by decide) rfl ?_
  intro p e s m args below meth c s₁ B hml hv
  obtain ⟨rfl, hWK, hR⟩ := hv
  have hx := B.exec
  have hb := B.bytes
  have hr := B.returns
  have hts := atoms_spec (ws := ws_ yX4_await cX4_await 8 (some .int)) B.pre
  have hts : ∀ w ∈ lw_all, w.before _ s = true := fun w h => hts w (List.mem_cons_of_mem _ h)
  have hown : s.vm.findClass "LendlatheModel" = some m.cls := findClass_of_methodNamed B.named
  have hlocks := B.notSynchronized
  have hK := hWK.K g
  have F : CallFix p m c cX4_await 8 s _ lw_all "LendlatheModel" := ⟨hx, hb, hml, hown, hts⟩
  have hS : va_S A s.heap s.heap [] := va_S.rf
  have hl := lv_entry ([.ref (ad (0, 0)), .int member, .int machine, .int day, .int start, .int minutes, .int work]) (n := 8) (Nat.le_of_ble_eq_true rfl)
  rw [lg_entry_eq]
  generalize (lg_sl ([.ref (ad (0, 0)), .int member, .int machine, .int day, .int start, .int minutes, .int work]) ++ List.replicate (8 - (lg_sl ([.ref (ad (0, 0)), .int member, .int machine, .int day, .int start, .int minutes, .int work])).length) Slot.unset).toArray = ls at hl ⊢
  have hl : lv_has ls 8 [(0, .ref (ad (0, 0))), (1, .int member), (2, .int machine), (3, .int day), (4, .int start), (5, .int minutes), (6, .int work)] := hl
  have hn0 := hW.1
  have hn1 := hW.2.1
  have hn2 := hW.2.2.1
  have hn3 := hW.2.2.2.1
  have hn4 := hW.2.2.2.2.1
  refine lv_aload_n hx hb dX4_await_0 rfl (lv_at hl 0 rfl) ?_
  refine lv_aload_n hx hb dX4_await_1 rfl (lv_at hl 0 rfl) ?_
  refine lv_iload_n hx hb dX4_await_2 rfl (lv_at hl 1 rfl) ?_
  refine lv_iload_n hx hb dX4_await_3 rfl (lv_at hl 2 rfl) ?_
  refine lv_iload_n hx hb dX4_await_4 rfl (lv_at hl 3 rfl) ?_
  refine lv_iload hx hb dX4_await_5 (lv_at hl 4 rfl) ?_
  refine lv_iload hx hb dX4_await_7 (lv_at hl 5 rfl) ?_
  refine lv_iload hx hb dX4_await_9 (lv_at hl 6 rfl) ?_
  refine xc_P (va_runV (As := [.int member, .int machine, .int day, .int start, .int minutes, .int work]) (rest := [.ref (ad (0, 0))]) F (mX4_lacks g (A := A) (S := S) (ad := ad) (z := z) member machine day start minutes work) (cwV 6 hts (lw_V q1633 q1635 qs42 q80 q1636) rfl rfl rfl hdV_X4_lacks ⟨Nat.le_of_ble_eq_true rfl, Nat.le_of_ble_eq_true rfl⟩) (xpreV (xrecv hK (mw_0 hR) rfl) hWK hS hR) rfl rfl hl.1 rfl (lv_room (Nat.le_of_ble_eq_true rfl)) dX4_await_11 ⟨Nat.le_of_ble_eq_true rfl, Nat.le_of_ble_eq_true rfl⟩) ?_
  refine p_X4_87 F hK hS (mw_0 hR) (ma_0 hR) (v := .int (mLacks S member machine day start minutes work)) rfl rfl (Nat.le_of_ble_eq_true rfl) dX4_await_14 (fun H locs hat hof hS => ?_)
  have hR := ms_0_29 hR hof hat
  refine lv_aload_n hx hb dX4_await_17 rfl (lv_at hl 0 rfl) ?_
  refine g_X4_87 F hK (mw_0 hR) (v := .int (mLacks S member machine day start minutes work)) (by simp [fset, nset, lset]) dX4_await_18 ?_
  refine lv_if_le (tgt := 26) hx hb dX4_await_21 (by decide) (fun c_21 => ?_) (fun c_21 => ?_)
  · obtain ⟨mj, hmj, rfl⟩ := inI_of' (n := S.1 1 0) (by first | rfl | decide) (by first | decide | omega) (mLacks_all c_21).1
    obtain ⟨qj, hqj, rfl⟩ := inI_of' (n := S.1 0 0) (by first | rfl | decide) (by first | decide | omega) (mLacks_all c_21).2.1
    refine lv_aload_n hx hb dX4_await_26 rfl (lv_at hl 0 rfl) ?_
    refine lv_iload_n hx hb dX4_await_27 rfl (lv_at hl 1 rfl) ?_
    refine lv_iload_n hx hb dX4_await_28 rfl (lv_at hl 2 rfl) ?_
    refine lv_iload_n hx hb dX4_await_29 rfl (lv_at hl 3 rfl) ?_
    refine lv_iload hx hb dX4_await_30 (lv_at hl 4 rfl) ?_
    refine lv_iload hx hb dX4_await_32 (lv_at hl 5 rfl) ?_
    refine lv_iload hx hb dX4_await_34 (lv_at hl 6 rfl) ?_
    refine xc_P (va_runV (As := [.int (nI mj), .int (nI qj), .int day, .int start, .int minutes, .int work]) (rest := []) F (mX4_letter g (A := A) (S := (sF S 26 0 0 (mLacks S (nI mj) (nI qj) day start minutes work))) (ad := ad) (z := z) day start minutes work (xi_nI (n := 10) (by omega) (by omega)) (xi_nI (n := 6) (by omega) (by omega)) hW hA) (cwV 6 hts (lw_V q1593 q1595 qs35 q80 q1596) rfl rfl rfl hdV_X4_letter ⟨Nat.le_of_ble_eq_true rfl, Nat.le_of_ble_eq_true rfl⟩) (xpreV (xrecv hK (mw_0 hR) rfl) hWK hS hR) rfl rfl hl.1 rfl (lv_room (Nat.le_of_ble_eq_true rfl)) dX4_await_36 ⟨Nat.le_of_ble_eq_true rfl, Nat.le_of_ble_eq_true rfl⟩) ?_
    refine x_topi (show mLetter (sF S 26 0 0 (mLacks S (nI mj) (nI qj) day start minutes work)).2.1 ((sF S 26 0 0 (mLacks S (nI mj) (nI qj) day start minutes work)).1 2 0) (nI mj) mj (nI qj) qj day start minutes work = mLetter S.2.1 (S.1 2 0) (nI mj) mj (nI qj) qj day start minutes work from rfl) ?_
    refine lv_istore (lv' := [(7, .int (mLetter S.2.1 (S.1 2 0) (nI mj) mj (nI qj) qj day start minutes work)), (0, .ref (ad (0, 0))), (1, .int (nI mj)), (2, .int (nI qj)), (3, .int day), (4, .int start), (5, .int minutes), (6, .int work)]) hx hb dX4_await_39 hl (by decide) rfl (fun ls hl => ?_)
    refine lv_aload_n hx hb dX4_await_41 rfl (lv_at hl 1 rfl) ?_
    refine lv_iload hx hb dX4_await_42 (lv_at hl 0 rfl) ?_
    refine lv_bipush (v := 105) hx hb dX4_await_44 (by decide) ?_
    refine lv_icmp_ne (tgt := 53) hx hb dX4_await_46 (by decide) (fun c_46 => ?_) (fun c_46 => ?_)
    · refine lv_iload hx hb dX4_await_53 (lv_at hl 0 rfl) ?_
      refine lv_bipush (v := 111) hx hb dX4_await_55 (by decide) ?_
      refine lv_icmp_eq (tgt := 70) hx hb dX4_await_57 (by decide) (fun c_57 => ?_) (fun c_57 => ?_)
      · refine lv_iconst (v := 4) hx hb dX4_await_70 (by decide) ?_
        refine lv_goto (tgt := 75) hx hb dX4_await_71 (by decide) ?_
        refine p_X4_87 F hK hS (mw_0 hR) (ma_0 hR) (v := .int 4) rfl rfl (Nat.le_of_ble_eq_true rfl) dX4_await_75 (fun H locs hat hof hS => ?_)
        have hR := ms_0_29 hR hof hat
        rw [sF_sF] at hR
        refine lv_aload_n hx hb dX4_await_78 rfl (lv_at hl 1 rfl) ?_
        refine g_X4_87 F hK (mw_0 hR) (v := .int 4) (by simp [fset, nset, lset]) dX4_await_79 ?_
        refine lv_if_le (tgt := 89) hx hb dX4_await_82 (by decide) (fun c_82 => (by first | exact absurd c_82 (by decide) | exact absurd (by decide) c_82)) (fun c_82 => ?_)
        refine lv_iconst (v := 0) hx hb dX4_await_85 (by decide) ?_
        refine lv_goto (tgt := 104) hx hb dX4_await_86 (by decide) ?_
        have e9 : mAwait S (nI mj) (nI qj) day start minutes work = (0, (sF S 26 0 0 4)) := by simp [mAwait, mLet6, c_21, c_46, c_57, nI_clamp (show mj < 2 ^ 31 by omega), nI_clamp (show qj < 2 ^ 31 by omega)]
        exact xr_Ci hx hb hr hlocks ((congrArg Prod.fst e9).symm) (by show xRM G A (mAwait S (nI mj) (nI qj) day start minutes work).2 ad z H; rw [show (mAwait S (nI mj) (nI qj) day start minutes work).2 = (sF S 26 0 0 4) from congrArg Prod.snd e9]; exact hR) hS (by first | omega | decide) (by first | omega | decide) dX4_await_104
      · refine lv_aload_n hx hb dX4_await_60 rfl (lv_at hl 1 rfl) ?_
        refine g_X4_101 F hK (mw_0 hR) (v := .int (nI (S.1 2 0))) rfl dX4_await_61 ?_
        refine lv_sipush (v := 150) hx hb dX4_await_64 (by decide) ?_
        refine xn_ne (tgt := 74) (S.1 2 0) 150 rfl (by decide) (by omega) (by omega) hx hb dX4_await_67 (by decide) (fun c_67 => ?_) (fun c_67 => ?_)
        · refine lv_iconst (v := 0) hx hb dX4_await_74 (by decide) ?_
          refine p_X4_87 F hK hS (mw_0 hR) (ma_0 hR) (v := .int 0) rfl rfl (Nat.le_of_ble_eq_true rfl) dX4_await_75 (fun H locs hat hof hS => ?_)
          have hR := ms_0_29 hR hof hat
          rw [sF_sF] at hR
          refine lv_aload_n hx hb dX4_await_78 rfl (lv_at hl 1 rfl) ?_
          refine g_X4_87 F hK (mw_0 hR) (v := .int 0) (by simp [fset, nset, lset]) dX4_await_79 ?_
          refine lv_if_le (tgt := 89) hx hb dX4_await_82 (by decide) (fun c_82 => ?_) (fun c_82 => (by first | exact absurd c_82 (by decide) | exact absurd (by decide) c_82))
          refine lv_aload_n hx hb dX4_await_89 rfl (lv_at hl 1 rfl) ?_
          refine lv_iload_n hx hb dX4_await_90 rfl (lv_at hl 2 rfl) ?_
          refine lv_iload_n hx hb dX4_await_91 rfl (lv_at hl 3 rfl) ?_
          refine lv_iload_n hx hb dX4_await_92 rfl (lv_at hl 4 rfl) ?_
          refine lv_iload hx hb dX4_await_93 (lv_at hl 5 rfl) ?_
          refine lv_iload hx hb dX4_await_95 (lv_at hl 6 rfl) ?_
          refine lv_iload hx hb dX4_await_97 (lv_at hl 7 rfl) ?_
          refine lv_bipush (v := 119) hx hb dX4_await_99 (by decide) ?_
          refine xc_C (va_runV (As := [.int (nI mj), .int (nI qj), .int day, .int start, .int minutes, .int work, .int 119]) (rest := []) F (mX4_adds g (A := A) (S := (sF S 26 0 0 0)) (ad := ad) (z := z) (nI mj) (nI qj) day start minutes work 119 (by show S.1 2 0 < 150; omega) (mLacks_wk c_21) rfl) (cwV 7 hts (lw_V q1644 q1646 qs44 q80 q1647) rfl rfl rfl hdV_X4_adds ⟨Nat.le_of_ble_eq_true rfl, Nat.le_of_ble_eq_true rfl⟩) (xpreV (xrecv hK (mw_0 hR) rfl) hWK hS hR) rfl rfl hl.1 rfl (lv_room (Nat.le_of_ble_eq_true rfl)) dX4_await_101 ⟨Nat.le_of_ble_eq_true rfl, Nat.le_of_ble_eq_true rfl⟩) hS (fun H locs hR1 hz hk hS => ?_)
          have hR := hR1
          have e9 : mAwait S (nI mj) (nI qj) day start minutes work = ((mAdds (sF S 26 0 0 0) (nI mj) (nI qj) day start minutes work 119).1, (mAdds (sF S 26 0 0 0) (nI mj) (nI qj) day start minutes work 119).2) := by simp [mAwait, mLet6, c_21, c_46, c_57, nI_clamp (show mj < 2 ^ 31 by omega), nI_clamp (show qj < 2 ^ 31 by omega)]; simp [c_67]
          exact xr_Ci hx hb hr hlocks ((congrArg Prod.fst e9).symm) (by show xRM G A (mAwait S (nI mj) (nI qj) day start minutes work).2 ad z H; rw [show (mAwait S (nI mj) (nI qj) day start minutes work).2 = (mAdds (sF S 26 0 0 0) (nI mj) (nI qj) day start minutes work 119).2 from congrArg Prod.snd e9]; exact hR) hS (by first | omega | decide) (by first | omega | decide) dX4_await_104
        · refine lv_iconst (v := 4) hx hb dX4_await_70 (by decide) ?_
          refine lv_goto (tgt := 75) hx hb dX4_await_71 (by decide) ?_
          refine p_X4_87 F hK hS (mw_0 hR) (ma_0 hR) (v := .int 4) rfl rfl (Nat.le_of_ble_eq_true rfl) dX4_await_75 (fun H locs hat hof hS => ?_)
          have hR := ms_0_29 hR hof hat
          rw [sF_sF] at hR
          refine lv_aload_n hx hb dX4_await_78 rfl (lv_at hl 1 rfl) ?_
          refine g_X4_87 F hK (mw_0 hR) (v := .int 4) (by simp [fset, nset, lset]) dX4_await_79 ?_
          refine lv_if_le (tgt := 89) hx hb dX4_await_82 (by decide) (fun c_82 => (by first | exact absurd c_82 (by decide) | exact absurd (by decide) c_82)) (fun c_82 => ?_)
          refine lv_iconst (v := 0) hx hb dX4_await_85 (by decide) ?_
          refine lv_goto (tgt := 104) hx hb dX4_await_86 (by decide) ?_
          have e9 : mAwait S (nI mj) (nI qj) day start minutes work = (0, (sF S 26 0 0 4)) := by simp [mAwait, mLet6, c_21, c_46, c_57, nI_clamp (show mj < 2 ^ 31 by omega), nI_clamp (show qj < 2 ^ 31 by omega)]; simp [c_67]
          exact xr_Ci hx hb hr hlocks ((congrArg Prod.fst e9).symm) (by show xRM G A (mAwait S (nI mj) (nI qj) day start minutes work).2 ad z H; rw [show (mAwait S (nI mj) (nI qj) day start minutes work).2 = (sF S 26 0 0 4) from congrArg Prod.snd e9]; exact hR) hS (by first | omega | decide) (by first | omega | decide) dX4_await_104
    · refine lv_iconst (v := 3) hx hb dX4_await_49 (by decide) ?_
      refine lv_goto (tgt := 75) hx hb dX4_await_50 (by decide) ?_
      refine p_X4_87 F hK hS (mw_0 hR) (ma_0 hR) (v := .int 3) rfl rfl (Nat.le_of_ble_eq_true rfl) dX4_await_75 (fun H locs hat hof hS => ?_)
      have hR := ms_0_29 hR hof hat
      rw [sF_sF] at hR
      refine lv_aload_n hx hb dX4_await_78 rfl (lv_at hl 1 rfl) ?_
      refine g_X4_87 F hK (mw_0 hR) (v := .int 3) (by simp [fset, nset, lset]) dX4_await_79 ?_
      refine lv_if_le (tgt := 89) hx hb dX4_await_82 (by decide) (fun c_82 => (by first | exact absurd c_82 (by decide) | exact absurd (by decide) c_82)) (fun c_82 => ?_)
      refine lv_iconst (v := 0) hx hb dX4_await_85 (by decide) ?_
      refine lv_goto (tgt := 104) hx hb dX4_await_86 (by decide) ?_
      have e9 : mAwait S (nI mj) (nI qj) day start minutes work = (0, (sF S 26 0 0 3)) := by simp [mAwait, mLet6, c_21, c_46, nI_clamp (show mj < 2 ^ 31 by omega), nI_clamp (show qj < 2 ^ 31 by omega)]
      exact xr_Ci hx hb hr hlocks ((congrArg Prod.fst e9).symm) (by show xRM G A (mAwait S (nI mj) (nI qj) day start minutes work).2 ad z H; rw [show (mAwait S (nI mj) (nI qj) day start minutes work).2 = (sF S 26 0 0 3) from congrArg Prod.snd e9]; exact hR) hS (by first | omega | decide) (by first | omega | decide) dX4_await_104
  · refine lv_iconst (v := 0) hx hb dX4_await_24 (by decide) ?_
    have e9 : mAwait S member machine day start minutes work = (0, (sF S 26 0 0 (mLacks S member machine day start minutes work))) := by simp [mAwait, mLet6, c_21]
    exact xr_Ci hx hb hr hlocks ((congrArg Prod.fst e9).symm) (by show xRM G A (mAwait S member machine day start minutes work).2 ad z H; rw [show (mAwait S member machine day start minutes work).2 = (sF S 26 0 0 (mLacks S member machine day start minutes work)) from congrArg Prod.snd e9]; exact hR) hS (by first | omega | decide) (by first | omega | decide) dX4_await_25

set_option maxHeartbeats 4000000 in
theorem mX4_check {l : Launch} {G : xG} {s0 : State} {b0 : Nat} (g : xG0 G s0 b0) {A : Nat → Prop} {S : xS} {ad : Nat × Nat → Nat} {z : xZ} (member machine day start minutes work : Int32) (hW : mWF S) (hA : ∃ rk, rkOK S.2.1 rk ∧ ∀ i, rk i < 4) : Met l yX4_check (ws_ yX4_check cX4_check 7 (some .char)) ({ frames := 7, cells := 0, slots := 0, locals := 195 } : Room) (xP s0 A [.ref (ad (0, 0)), .int member, .int machine, .int day, .int start, .int minutes, .int work] (fun H => xRM G A S ad z H)) (xQc (some (.int ((mCheck S member machine day start minutes work).1))) (fun _ H => xRM G A (mCheck S member machine day start minutes work).2 ad z H) A) 0 0 A := by
  refine Met.ofW (cc := cX4_check) (maxL := 7) (ret := (some .char)) (by decide) rfl ?_
  intro p e s m args below meth c s₁ B hml hv
  obtain ⟨rfl, hWK, hR⟩ := hv
  have hx := B.exec
  have hb := B.bytes
  have hr := B.returns
  have hts := atoms_spec (ws := ws_ yX4_check cX4_check 7 (some .char)) B.pre
  have hts : ∀ w ∈ lw_all, w.before _ s = true := fun w h => hts w (List.mem_cons_of_mem _ h)
  have hown : s.vm.findClass "LendlatheModel" = some m.cls := findClass_of_methodNamed B.named
  have hlocks := B.notSynchronized
  have hK := hWK.K g
  have F : CallFix p m c cX4_check 7 s _ lw_all "LendlatheModel" := ⟨hx, hb, hml, hown, hts⟩
  have hS : va_S A s.heap s.heap [] := va_S.rf
  have hl := lv_entry ([.ref (ad (0, 0)), .int member, .int machine, .int day, .int start, .int minutes, .int work]) (n := 7) (Nat.le_of_ble_eq_true rfl)
  rw [lg_entry_eq]
  generalize (lg_sl ([.ref (ad (0, 0)), .int member, .int machine, .int day, .int start, .int minutes, .int work]) ++ List.replicate (7 - (lg_sl ([.ref (ad (0, 0)), .int member, .int machine, .int day, .int start, .int minutes, .int work])).length) Slot.unset).toArray = ls at hl ⊢
  have hl : lv_has ls 7 [(0, .ref (ad (0, 0))), (1, .int member), (2, .int machine), (3, .int day), (4, .int start), (5, .int minutes), (6, .int work)] := hl
  have hn0 := hW.1
  have hn1 := hW.2.1
  have hn2 := hW.2.2.1
  have hn3 := hW.2.2.2.1
  have hn4 := hW.2.2.2.2.1
  refine lv_aload_n hx hb dX4_check_0 rfl (lv_at hl 0 rfl) ?_
  refine lv_aload_n hx hb dX4_check_1 rfl (lv_at hl 0 rfl) ?_
  refine lv_iload_n hx hb dX4_check_2 rfl (lv_at hl 1 rfl) ?_
  refine lv_iload_n hx hb dX4_check_3 rfl (lv_at hl 2 rfl) ?_
  refine lv_iload_n hx hb dX4_check_4 rfl (lv_at hl 3 rfl) ?_
  refine lv_iload hx hb dX4_check_5 (lv_at hl 4 rfl) ?_
  refine lv_iload hx hb dX4_check_7 (lv_at hl 5 rfl) ?_
  refine lv_iload hx hb dX4_check_9 (lv_at hl 6 rfl) ?_
  refine xc_P (va_runV (As := [.int member, .int machine, .int day, .int start, .int minutes, .int work]) (rest := [.ref (ad (0, 0))]) F (mX4_lacks g (A := A) (S := S) (ad := ad) (z := z) member machine day start minutes work) (cwV 6 hts (lw_V q1633 q1635 qs42 q80 q1636) rfl rfl rfl hdV_X4_lacks ⟨Nat.le_of_ble_eq_true rfl, Nat.le_of_ble_eq_true rfl⟩) (xpreV (xrecv hK (mw_0 hR) rfl) hWK hS hR) rfl rfl hl.1 rfl (lv_room (Nat.le_of_ble_eq_true rfl)) dX4_check_11 ⟨Nat.le_of_ble_eq_true rfl, Nat.le_of_ble_eq_true rfl⟩) ?_
  refine p_X4_87 F hK hS (mw_0 hR) (ma_0 hR) (v := .int (mLacks S member machine day start minutes work)) rfl rfl (Nat.le_of_ble_eq_true rfl) dX4_check_14 (fun H locs hat hof hS => ?_)
  have hR := ms_0_29 hR hof hat
  refine lv_aload_n hx hb dX4_check_17 rfl (lv_at hl 0 rfl) ?_
  refine g_X4_87 F hK (mw_0 hR) (v := .int (mLacks S member machine day start minutes work)) (by simp [fset, nset, lset]) dX4_check_18 ?_
  refine lv_if_le (tgt := 28) hx hb dX4_check_21 (by decide) (fun c_21 => ?_) (fun c_21 => ?_)
  · obtain ⟨mj, hmj, rfl⟩ := inI_of' (n := S.1 1 0) (by first | rfl | decide) (by first | decide | omega) (mLacks_all c_21).1
    obtain ⟨qj, hqj, rfl⟩ := inI_of' (n := S.1 0 0) (by first | rfl | decide) (by first | decide | omega) (mLacks_all c_21).2.1
    refine lv_aload_n hx hb dX4_check_28 rfl (lv_at hl 0 rfl) ?_
    refine lv_iload_n hx hb dX4_check_29 rfl (lv_at hl 1 rfl) ?_
    refine lv_iload_n hx hb dX4_check_30 rfl (lv_at hl 2 rfl) ?_
    refine lv_iload_n hx hb dX4_check_31 rfl (lv_at hl 3 rfl) ?_
    refine lv_iload hx hb dX4_check_32 (lv_at hl 4 rfl) ?_
    refine lv_iload hx hb dX4_check_34 (lv_at hl 5 rfl) ?_
    refine lv_iload hx hb dX4_check_36 (lv_at hl 6 rfl) ?_
    refine xc_P (va_runV (As := [.int (nI mj), .int (nI qj), .int day, .int start, .int minutes, .int work]) (rest := []) F (mX4_letter g (A := A) (S := (sF S 26 0 0 (mLacks S (nI mj) (nI qj) day start minutes work))) (ad := ad) (z := z) day start minutes work (xi_nI (n := 10) (by omega) (by omega)) (xi_nI (n := 6) (by omega) (by omega)) hW hA) (cwV 6 hts (lw_V q1593 q1595 qs35 q80 q1596) rfl rfl rfl hdV_X4_letter ⟨Nat.le_of_ble_eq_true rfl, Nat.le_of_ble_eq_true rfl⟩) (xpreV (xrecv hK (mw_0 hR) rfl) hWK hS hR) rfl rfl hl.1 rfl (lv_room (Nat.le_of_ble_eq_true rfl)) dX4_check_38 ⟨Nat.le_of_ble_eq_true rfl, Nat.le_of_ble_eq_true rfl⟩) ?_
    refine x_topi (show mLetter (sF S 26 0 0 (mLacks S (nI mj) (nI qj) day start minutes work)).2.1 ((sF S 26 0 0 (mLacks S (nI mj) (nI qj) day start minutes work)).1 2 0) (nI mj) mj (nI qj) qj day start minutes work = mLetter S.2.1 (S.1 2 0) (nI mj) mj (nI qj) qj day start minutes work from rfl) ?_
    have e0 := mLacks_zero c_21
    have e9 : mCheck S (nI mj) (nI qj) day start minutes work = (mLetter S.2.1 (S.1 2 0) (nI mj) mj (nI qj) qj day start minutes work, (sF S 26 0 0 (mLacks S (nI mj) (nI qj) day start minutes work))) := by simp [mCheck, mLet6, c_21, e0, nI_clamp (show mj < 2 ^ 31 by omega), nI_clamp (show qj < 2 ^ 31 by omega)]
    exact xr_Cc hx hb hr hlocks ((congrArg Prod.fst e9).symm) (by show xRM G A (mCheck S (nI mj) (nI qj) day start minutes work).2 ad z H; rw [show (mCheck S (nI mj) (nI qj) day start minutes work).2 = (sF S 26 0 0 (mLacks S (nI mj) (nI qj) day start minutes work)) from congrArg Prod.snd e9]; exact hR) hS (by first | omega | decide) (by first | omega | decide) mCheck_nar dX4_check_41
  · refine lv_iconst (v := 0) hx hb dX4_check_24 (by decide) ?_
    refine lv_goto (tgt := 41) hx hb dX4_check_25 (by decide) ?_
    have e9 : mCheck S member machine day start minutes work = (0, (sF S 26 0 0 (mLacks S member machine day start minutes work))) := by simp [mCheck, mLet6, c_21]
    exact xr_Cc hx hb hr hlocks ((congrArg Prod.fst e9).symm) (by show xRM G A (mCheck S member machine day start minutes work).2 ad z H; rw [show (mCheck S member machine day start minutes work).2 = (sF S 26 0 0 (mLacks S member machine day start minutes work)) from congrArg Prod.snd e9]; exact hR) hS (by first | omega | decide) (by first | omega | decide) mCheck_nar dX4_check_41

set_option maxHeartbeats 4000000 in
theorem mX4_cancel {l : Launch} {G : xG} {s0 : State} {b0 : Nat} (g : xG0 G s0 b0) {A : Nat → Prop} {S : xS} {ad : Nat × Nat → Nat} {z : xZ} (entry : Int32) (hW : mWF S) (hA : ∃ rk, rkOK S.2.1 rk ∧ ∀ i, rk i < 4) : Met l yX4_cancel (ws_ yX4_cancel cX4_cancel 3 (some .char)) ({ frames := 8, cells := 1, slots := 6, locals := 216 } : Room) (xP s0 A [.ref (ad (0, 0)), .int entry] (fun H => xRM G A S ad z H)) (xQc (some (.int ((mCancel S entry).1))) (fun _ H => xRM G A (mCancel S entry).2 ad z H) A) 1 6 A := by
  refine Met.ofW (cc := cX4_cancel) (maxL := 3) (ret := (some .char)) (by decide) rfl ?_
  intro p e s m args below meth c s₁ B hml hv
  obtain ⟨rfl, hWK, hR⟩ := hv
  have hx := B.exec
  have hb := B.bytes
  have hr := B.returns
  have hts := atoms_spec (ws := ws_ yX4_cancel cX4_cancel 3 (some .char)) B.pre
  have hts : ∀ w ∈ lw_all, w.before _ s = true := fun w h => hts w (List.mem_cons_of_mem _ h)
  have hown : s.vm.findClass "LendlatheModel" = some m.cls := findClass_of_methodNamed B.named
  have hlocks := B.notSynchronized
  have hK := hWK.K g
  have F : CallFix p m c cX4_cancel 3 s _ lw_all "LendlatheModel" := ⟨hx, hb, hml, hown, hts⟩
  have hS : va_S A s.heap s.heap [] := va_S.rf
  have hl := lv_entry ([.ref (ad (0, 0)), .int entry]) (n := 3) (Nat.le_of_ble_eq_true rfl)
  rw [lg_entry_eq]
  generalize (lg_sl ([.ref (ad (0, 0)), .int entry]) ++ List.replicate (3 - (lg_sl ([.ref (ad (0, 0)), .int entry])).length) Slot.unset).toArray = ls at hl ⊢
  have hl : lv_has ls 3 [(0, .ref (ad (0, 0))), (1, .int entry)] := hl
  have hn0 := hW.1
  have hn1 := hW.2.1
  have hn2 := hW.2.2.1
  have hn3 := hW.2.2.2.1
  have hn4 := hW.2.2.2.2.1
  refine lv_aload_n hx hb dX4_cancel_0 rfl (lv_at hl 0 rfl) ?_
  refine lv_aload_n hx hb dX4_cancel_1 rfl (lv_at hl 0 rfl) ?_
  refine lv_iload_n hx hb dX4_cancel_2 rfl (lv_at hl 1 rfl) ?_
  refine xc_P (va_runV (As := [.int entry]) (rest := [.ref (ad (0, 0))]) F (mX4_isEntry g (A := A) (S := S) (ad := ad) (z := z) entry) (cwV 1 hts (lw_V q1660 q1662 qs45 q80 q1663) rfl rfl rfl hdV_X4_isEntry ⟨Nat.le_of_ble_eq_true rfl, Nat.le_of_ble_eq_true rfl⟩) (xpreV (xrecv hK (mw_0 hR) rfl) hWK hS hR) rfl rfl hl.1 rfl (lv_room (Nat.le_of_ble_eq_true rfl)) dX4_cancel_3 ⟨Nat.le_of_ble_eq_true rfl, Nat.le_of_ble_eq_true rfl⟩) ?_
  refine x_ifne (tgt := 13) hx hb dX4_cancel_6 (by decide) (fun c_6 => ?_) (fun c_6 => ?_)
  · obtain ⟨ej, hej, rfl⟩ := inI_of' (n := S.1 2 0) (by first | rfl | decide) (by first | decide | omega) c_6
    refine lv_aload_n hx hb dX4_cancel_13 rfl (lv_at hl 0 rfl) ?_
    refine g_X4_49 F hK (mw_0 hR) (v := .ref (ad (14, 0))) rfl dX4_cancel_14 ?_
    refine lv_iload_n hx hb dX4_cancel_17 rfl (lv_at hl 1 rfl) ?_
    refine x_cald hx hb hK (mw_14 hR) (v := .int (S.2.1 16 ej 0)) (xi_nI (n := 150) (by omega) (by omega)) (rfl) dX4_cancel_18 ?_
    refine lv_bipush (v := 119) hx hb dX4_cancel_19 (by decide) ?_
    refine lv_icmp_eq (tgt := 39) hx hb dX4_cancel_21 (by decide) (fun c_21 => ?_) (fun c_21 => ?_)
    · refine lv_iconst (v := 0) hx hb dX4_cancel_39 (by decide) ?_
      refine p_X4_87 F hK hS (mw_0 hR) (ma_0 hR) (v := .int 0) rfl rfl (Nat.le_of_ble_eq_true rfl) dX4_cancel_40 (fun H locs hat hof hS => ?_)
      have hR := ms_0_29 hR hof hat
      refine lv_aload_n hx hb dX4_cancel_43 rfl (lv_at hl 0 rfl) ?_
      refine g_X4_87 F hK (mw_0 hR) (v := .int 0) (by simp [fset, nset, lset]) dX4_cancel_44 ?_
      refine lv_if_le (tgt := 52) hx hb dX4_cancel_47 (by decide) (fun c_47 => ?_) (fun c_47 => (by first | exact absurd c_47 (by decide) | exact absurd (by decide) c_47))
      refine lv_aload_n hx hb dX4_cancel_52 rfl (lv_at hl 0 rfl) ?_
      refine g_X4_49 F hK (mw_0 hR) (v := .ref (ad (14, 0))) rfl dX4_cancel_53 ?_
      refine lv_iload_n hx hb dX4_cancel_56 rfl (lv_at hl 1 rfl) ?_
      refine x_cald hx hb hK (mw_14 hR) (v := .int (S.2.1 16 ej 0)) (xi_nI (n := 150) (by omega) (by omega)) (rfl) dX4_cancel_57 ?_
      refine lv_bipush (v := 119) hx hb dX4_cancel_58 (by decide) ?_
      refine lv_icmp_ne (tgt := 68) hx hb dX4_cancel_60 (by decide) (fun c_60 => ?_) (fun c_60 => ?_)
      · exact absurd c_21 c_60
      · refine lv_bipush (v := 119) hx hb dX4_cancel_63 (by decide) ?_
        refine lv_goto (tgt := 88) hx hb dX4_cancel_65 (by decide) ?_
        refine lv_istore_n (lv' := [(2, .int 119), (0, .ref (ad (0, 0))), (1, .int (nI ej))]) hx hb dX4_cancel_88 rfl hl (by decide) rfl (fun ls hl => ?_)
        refine lv_aload_n hx hb dX4_cancel_89 rfl (lv_at hl 1 rfl) ?_
        refine g_X4_52 F hK (mw_0 hR) (v := .ref (ad (15, 0))) rfl dX4_cancel_90 ?_
        refine lv_iload_n hx hb dX4_cancel_93 rfl (lv_at hl 2 rfl) ?_
        refine lv_iload_n hx hb dX4_cancel_94 rfl (lv_at hl 0 rfl) ?_
        refine lv_bipush (v := 104) hx hb dX4_cancel_95 (by decide) ?_
        refine lv_icmp_ne (tgt := 126) hx hb dX4_cancel_97 (by decide) (fun c_97 => ?_) (fun c_97 => (by first | exact absurd c_97 (by decide) | exact absurd (by decide) c_97))
        refine lv_iconst (v := 0) hx hb dX4_cancel_126 (by decide) ?_
        refine x_iast hx hb hK hS (mw_15 hR) (ma_15 hR) (xi_nI (n := 150) (by omega) (by omega)) dX4_cancel_127 (fun H locs hat hof hS => ?_)
        have hR := ms_15_a hR hof hat
        refine lv_aload_n hx hb dX4_cancel_128 rfl (lv_at hl 1 rfl) ?_
        refine g_X4_49 F hK (mw_0 hR) (v := .ref (ad (14, 0))) rfl dX4_cancel_129 ?_
        refine lv_iload_n hx hb dX4_cancel_132 rfl (lv_at hl 2 rfl) ?_
        refine lv_bipush (v := 99) hx hb dX4_cancel_133 (by decide) ?_
        refine x_cast hx hb hK hS (mw_14 hR) (ma_14 hR) (xi_nI (n := 150) (by omega) (by omega)) rfl dX4_cancel_135 (fun H locs hat hof hS => ?_)
        have hR := ms_14_a hR hof hat
        refine lv_aload_n hx hb dX4_cancel_136 rfl (lv_at hl 1 rfl) ?_
        refine xc_C0 (va_runV (As := []) (rest := []) F (mX4_gives g (A := A) (S := (sF (sF (sF S 26 0 0 0) 17 ej 0 0) 16 ej 0 99)) (ad := ad) (z := z) (mWF_st hW ej (by first | rfl | assumption)) hA) (cwV 0 hts (lw_V q1589 q1591 qs34 q80 q1592) rfl rfl rfl hdV_X4_gives ⟨Nat.le_of_ble_eq_true rfl, Nat.le_of_ble_eq_true rfl⟩) (xpreV (xrecv hK (mw_0 hR) rfl) hWK hS hR) rfl rfl hl.1 rfl (lv_room (Nat.le_of_ble_eq_true rfl)) dX4_cancel_137 ⟨Nat.le_of_ble_eq_true rfl, Nat.le_of_ble_eq_true rfl⟩) hS (fun H locs hR1 hz hk hS => ?_)
        have hR := hR1
        refine lv_iload_n hx hb dX4_cancel_140 rfl (lv_at hl 0 rfl) ?_
        have e9 : mCancel S (nI ej) = (119, (mGives (sF (sF (sF S 26 0 0 0) 17 ej 0 0) 16 ej 0 99))) := by simp [mCancel, mCostE, c_6, c_21, c_60, nI_clamp (show ej < 2 ^ 31 by omega)]
        exact xr_Cc hx hb hr hlocks ((congrArg Prod.fst e9).symm) (by show xRM G A (mCancel S (nI ej)).2 ad z H; rw [show (mCancel S (nI ej)).2 = (mGives (sF (sF (sF S 26 0 0 0) 17 ej 0 0) 16 ej 0 99)) from congrArg Prod.snd e9]; exact hR) hS (by first | omega | decide) (by first | omega | decide) mCancel_nar dX4_cancel_141
    · refine lv_aload_n hx hb dX4_cancel_24 rfl (lv_at hl 0 rfl) ?_
      refine g_X4_49 F hK (mw_0 hR) (v := .ref (ad (14, 0))) rfl dX4_cancel_25 ?_
      refine lv_iload_n hx hb dX4_cancel_28 rfl (lv_at hl 1 rfl) ?_
      refine x_cald hx hb hK (mw_14 hR) (v := .int (S.2.1 16 ej 0)) (xi_nI (n := 150) (by omega) (by omega)) (rfl) dX4_cancel_29 ?_
      refine lv_bipush (v := 98) hx hb dX4_cancel_30 (by decide) ?_
      refine lv_icmp_eq (tgt := 39) hx hb dX4_cancel_32 (by decide) (fun c_32 => ?_) (fun c_32 => ?_)
      · refine lv_iconst (v := 0) hx hb dX4_cancel_39 (by decide) ?_
        refine p_X4_87 F hK hS (mw_0 hR) (ma_0 hR) (v := .int 0) rfl rfl (Nat.le_of_ble_eq_true rfl) dX4_cancel_40 (fun H locs hat hof hS => ?_)
        have hR := ms_0_29 hR hof hat
        refine lv_aload_n hx hb dX4_cancel_43 rfl (lv_at hl 0 rfl) ?_
        refine g_X4_87 F hK (mw_0 hR) (v := .int 0) (by simp [fset, nset, lset]) dX4_cancel_44 ?_
        refine lv_if_le (tgt := 52) hx hb dX4_cancel_47 (by decide) (fun c_47 => ?_) (fun c_47 => (by first | exact absurd c_47 (by decide) | exact absurd (by decide) c_47))
        refine lv_aload_n hx hb dX4_cancel_52 rfl (lv_at hl 0 rfl) ?_
        refine g_X4_49 F hK (mw_0 hR) (v := .ref (ad (14, 0))) rfl dX4_cancel_53 ?_
        refine lv_iload_n hx hb dX4_cancel_56 rfl (lv_at hl 1 rfl) ?_
        refine x_cald hx hb hK (mw_14 hR) (v := .int (S.2.1 16 ej 0)) (xi_nI (n := 150) (by omega) (by omega)) (rfl) dX4_cancel_57 ?_
        refine lv_bipush (v := 119) hx hb dX4_cancel_58 (by decide) ?_
        refine lv_icmp_ne (tgt := 68) hx hb dX4_cancel_60 (by decide) (fun c_60 => ?_) (fun c_60 => ?_)
        · refine lv_aload_n hx hb dX4_cancel_68 rfl (lv_at hl 0 rfl) ?_
          refine g_X4_36 F hK (mw_0 hR) (v := .ref (ad (10, 0))) rfl dX4_cancel_69 ?_
          refine lv_iload_n hx hb dX4_cancel_72 rfl (lv_at hl 1 rfl) ?_
          refine x_iald hx hb hK (mw_10 hR) (v := .int (S.2.1 12 ej 0)) (xi_nI (n := 150) (by omega) (by omega)) (rfl) dX4_cancel_73 ?_
          refine lv_aload_n hx hb dX4_cancel_74 rfl (lv_at hl 0 rfl) ?_
          refine g_X4_112 F hK (mw_0 hR) (v := .int (S.2.1 7 0 0)) rfl dX4_cancel_75 ?_
          refine lv_icmp_ne (tgt := 86) hx hb dX4_cancel_78 (by decide) (fun c_78 => ?_) (fun c_78 => ?_)
          · refine lv_bipush (v := 102) hx hb dX4_cancel_86 (by decide) ?_
            refine lv_istore_n (lv' := [(2, .int 102), (0, .ref (ad (0, 0))), (1, .int (nI ej))]) hx hb dX4_cancel_88 rfl hl (by decide) rfl (fun ls hl => ?_)
            refine lv_aload_n hx hb dX4_cancel_89 rfl (lv_at hl 1 rfl) ?_
            refine g_X4_52 F hK (mw_0 hR) (v := .ref (ad (15, 0))) rfl dX4_cancel_90 ?_
            refine lv_iload_n hx hb dX4_cancel_93 rfl (lv_at hl 2 rfl) ?_
            refine lv_iload_n hx hb dX4_cancel_94 rfl (lv_at hl 0 rfl) ?_
            refine lv_bipush (v := 104) hx hb dX4_cancel_95 (by decide) ?_
            refine lv_icmp_ne (tgt := 126) hx hb dX4_cancel_97 (by decide) (fun c_97 => ?_) (fun c_97 => (by first | exact absurd c_97 (by decide) | exact absurd (by decide) c_97))
            refine lv_iconst (v := 0) hx hb dX4_cancel_126 (by decide) ?_
            refine x_iast hx hb hK hS (mw_15 hR) (ma_15 hR) (xi_nI (n := 150) (by omega) (by omega)) dX4_cancel_127 (fun H locs hat hof hS => ?_)
            have hR := ms_15_a hR hof hat
            refine lv_aload_n hx hb dX4_cancel_128 rfl (lv_at hl 1 rfl) ?_
            refine g_X4_49 F hK (mw_0 hR) (v := .ref (ad (14, 0))) rfl dX4_cancel_129 ?_
            refine lv_iload_n hx hb dX4_cancel_132 rfl (lv_at hl 2 rfl) ?_
            refine lv_bipush (v := 99) hx hb dX4_cancel_133 (by decide) ?_
            refine x_cast hx hb hK hS (mw_14 hR) (ma_14 hR) (xi_nI (n := 150) (by omega) (by omega)) rfl dX4_cancel_135 (fun H locs hat hof hS => ?_)
            have hR := ms_14_a hR hof hat
            refine lv_aload_n hx hb dX4_cancel_136 rfl (lv_at hl 1 rfl) ?_
            refine xc_C0 (va_runV (As := []) (rest := []) F (mX4_gives g (A := A) (S := (sF (sF (sF S 26 0 0 0) 17 ej 0 0) 16 ej 0 99)) (ad := ad) (z := z) (mWF_st hW ej (by first | rfl | assumption)) hA) (cwV 0 hts (lw_V q1589 q1591 qs34 q80 q1592) rfl rfl rfl hdV_X4_gives ⟨Nat.le_of_ble_eq_true rfl, Nat.le_of_ble_eq_true rfl⟩) (xpreV (xrecv hK (mw_0 hR) rfl) hWK hS hR) rfl rfl hl.1 rfl (lv_room (Nat.le_of_ble_eq_true rfl)) dX4_cancel_137 ⟨Nat.le_of_ble_eq_true rfl, Nat.le_of_ble_eq_true rfl⟩) hS (fun H locs hR1 hz hk hS => ?_)
            have hR := hR1
            refine lv_iload_n hx hb dX4_cancel_140 rfl (lv_at hl 0 rfl) ?_
            have e9 : mCancel S (nI ej) = (102, (mGives (sF (sF (sF S 26 0 0 0) 17 ej 0 0) 16 ej 0 99))) := by simp [mCancel, mCostE, c_6, c_21, c_32, c_60, c_78, nI_clamp (show ej < 2 ^ 31 by omega)]
            exact xr_Cc hx hb hr hlocks ((congrArg Prod.fst e9).symm) (by show xRM G A (mCancel S (nI ej)).2 ad z H; rw [show (mCancel S (nI ej)).2 = (mGives (sF (sF (sF S 26 0 0 0) 17 ej 0 0) 16 ej 0 99)) from congrArg Prod.snd e9]; exact hR) hS (by first | omega | decide) (by first | omega | decide) mCancel_nar dX4_cancel_141
          · refine lv_bipush (v := 104) hx hb dX4_cancel_81 (by decide) ?_
            refine lv_goto (tgt := 88) hx hb dX4_cancel_83 (by decide) ?_
            refine lv_istore_n (lv' := [(2, .int 104), (0, .ref (ad (0, 0))), (1, .int (nI ej))]) hx hb dX4_cancel_88 rfl hl (by decide) rfl (fun ls hl => ?_)
            refine lv_aload_n hx hb dX4_cancel_89 rfl (lv_at hl 1 rfl) ?_
            refine g_X4_52 F hK (mw_0 hR) (v := .ref (ad (15, 0))) rfl dX4_cancel_90 ?_
            refine lv_iload_n hx hb dX4_cancel_93 rfl (lv_at hl 2 rfl) ?_
            refine lv_iload_n hx hb dX4_cancel_94 rfl (lv_at hl 0 rfl) ?_
            refine lv_bipush (v := 104) hx hb dX4_cancel_95 (by decide) ?_
            refine lv_icmp_ne (tgt := 126) hx hb dX4_cancel_97 (by decide) (fun c_97 => (by first | exact absurd c_97 (by decide) | exact absurd (by decide) c_97)) (fun c_97 => ?_)
            refine lv_aload_n hx hb dX4_cancel_100 rfl (lv_at hl 1 rfl) ?_
            refine lv_aload_n hx hb dX4_cancel_101 rfl (lv_at hl 1 rfl) ?_
            refine g_X4_9 F hK (mw_0 hR) (v := .ref (ad (1, 0))) rfl dX4_cancel_102 ?_
            refine lv_aload_n hx hb dX4_cancel_105 rfl (lv_at hl 1 rfl) ?_
            refine g_X4_33 F hK (mw_0 hR) (v := .ref (ad (9, 0))) rfl dX4_cancel_106 ?_
            refine lv_iload_n hx hb dX4_cancel_109 rfl (lv_at hl 2 rfl) ?_
            refine x_iald hx hb hK (mw_9 hR) (v := .int (S.2.1 11 ej 0)) (xi_nI (n := 150) (by omega) (by omega)) (rfl) dX4_cancel_110 ?_
            refine x_iald hx hb hK (mw_1 hR) (v := .int (S.2.1 0 ((S.2.1 11 ej 0).toNatClampNeg) 0)) (xi.up (xi_of (hW.2.2.2.2.2.2.2.2.2.1 ej)) (by omega)) (rfl) dX4_cancel_111 ?_
            refine lv_aload_n hx hb dX4_cancel_112 rfl (lv_at hl 1 rfl) ?_
            refine g_X4_42 F hK (mw_0 hR) (v := .ref (ad (12, 0))) rfl dX4_cancel_113 ?_
            refine lv_iload_n hx hb dX4_cancel_116 rfl (lv_at hl 2 rfl) ?_
            refine x_iald hx hb hK (mw_12 hR) (v := .int (S.2.1 14 ej 0)) (xi_nI (n := 150) (by omega) (by omega)) (rfl) dX4_cancel_117 ?_
            refine xc_C (va_runV (As := [.int (S.2.1 0 ((S.2.1 11 ej 0).toNatClampNeg) 0), .int (S.2.1 14 ej 0)]) (rest := [.int (nI ej), .ref (ad (15, 0))]) F (mX4_cost g (A := A) (S := (sF S 26 0 0 0)) (ad := ad) (z := z) (S.2.1 14 ej 0) (xi.up (xi_of (hW.2.2.2.2.2.2.2.1 ((S.2.1 11 ej 0).toNatClampNeg))) (by omega)) hW) (cwV 2 hts (lw_V q1664 q1666 qs46 q80 q1667) rfl rfl rfl hdV_X4_cost ⟨Nat.le_of_ble_eq_true rfl, Nat.le_of_ble_eq_true rfl⟩) (xpreV (xrecv hK (mw_0 hR) rfl) hWK hS hR) rfl rfl hl.1 rfl (lv_room (Nat.le_of_ble_eq_true rfl)) dX4_cancel_118 ⟨Nat.le_of_ble_eq_true rfl, Nat.le_of_ble_eq_true rfl⟩) hS (fun H locs hR1 hz hk hS => ?_)
            have hR := hR1
            refine x_topi (show mCost (sF S 26 0 0 0) ((S.2.1 0 ((S.2.1 11 ej 0).toNatClampNeg) 0).toNatClampNeg) (S.2.1 14 ej 0) = mCost S ((S.2.1 0 ((S.2.1 11 ej 0).toNatClampNeg) 0).toNatClampNeg) (S.2.1 14 ej 0) from mCost_c (fun _ => rfl) (fun _ => rfl) rfl) ?_
            refine lv_iconst (v := 2) hx hb dX4_cancel_121 (by decide) ?_
            refine lv_idiv hx hb dX4_cancel_122 (by decide) ?_
            refine lv_goto (tgt := 127) hx hb dX4_cancel_123 (by decide) ?_
            refine x_iast hx hb hK hS (mw_15 hR) (ma_15 hR) (xi_nI (n := 150) (by omega) (by omega)) dX4_cancel_127 (fun H locs hat hof hS => ?_)
            have hR := ms_15_a hR hof hat
            refine lv_aload_n hx hb dX4_cancel_128 rfl (lv_at hl 1 rfl) ?_
            refine g_X4_49 F hK (mw_0 hR) (v := .ref (ad (14, 0))) rfl dX4_cancel_129 ?_
            refine lv_iload_n hx hb dX4_cancel_132 rfl (lv_at hl 2 rfl) ?_
            refine lv_bipush (v := 99) hx hb dX4_cancel_133 (by decide) ?_
            refine x_cast hx hb hK hS (mw_14 hR) (ma_14 hR) (xi_nI (n := 150) (by omega) (by omega)) rfl dX4_cancel_135 (fun H locs hat hof hS => ?_)
            have hR := ms_14_a hR hof hat
            refine lv_aload_n hx hb dX4_cancel_136 rfl (lv_at hl 1 rfl) ?_
            refine xc_C0 (va_runV (As := []) (rest := []) F (mX4_gives g (A := A) (S := (sF (sF (sF S 26 0 0 0) 17 ej 0 ((mCost S ((S.2.1 0 ((S.2.1 11 ej 0).toNatClampNeg) 0).toNatClampNeg) (S.2.1 14 ej 0)) / 2)) 16 ej 0 99)) (ad := ad) (z := z) (mWF_st hW ej (by first | rfl | assumption)) hA) (cwV 0 hts (lw_V q1589 q1591 qs34 q80 q1592) rfl rfl rfl hdV_X4_gives ⟨Nat.le_of_ble_eq_true rfl, Nat.le_of_ble_eq_true rfl⟩) (xpreV (xrecv hK (mw_0 hR) rfl) hWK hS hR) rfl rfl hl.1 rfl (lv_room (Nat.le_of_ble_eq_true rfl)) dX4_cancel_137 ⟨Nat.le_of_ble_eq_true rfl, Nat.le_of_ble_eq_true rfl⟩) hS (fun H locs hR1 hz hk hS => ?_)
            have hR := hR1
            refine lv_iload_n hx hb dX4_cancel_140 rfl (lv_at hl 0 rfl) ?_
            have e9 : mCancel S (nI ej) = (104, (mGives (sF (sF (sF S 26 0 0 0) 17 ej 0 ((mCost S ((S.2.1 0 ((S.2.1 11 ej 0).toNatClampNeg) 0).toNatClampNeg) (S.2.1 14 ej 0)) / 2)) 16 ej 0 99))) := by simp [mCancel, mCostE, c_6, c_21, c_32, c_60, c_78, nI_clamp (show ej < 2 ^ 31 by omega)]
            exact xr_Cc hx hb hr hlocks ((congrArg Prod.fst e9).symm) (by show xRM G A (mCancel S (nI ej)).2 ad z H; rw [show (mCancel S (nI ej)).2 = (mGives (sF (sF (sF S 26 0 0 0) 17 ej 0 ((mCost S ((S.2.1 0 ((S.2.1 11 ej 0).toNatClampNeg) 0).toNatClampNeg) (S.2.1 14 ej 0)) / 2)) 16 ej 0 99)) from congrArg Prod.snd e9]; exact hR) hS (by first | omega | decide) (by first | omega | decide) mCancel_nar dX4_cancel_141
        · exact absurd c_60 c_21
      · refine lv_iconst (v := 2) hx hb dX4_cancel_35 (by decide) ?_
        refine lv_goto (tgt := 40) hx hb dX4_cancel_36 (by decide) ?_
        refine p_X4_87 F hK hS (mw_0 hR) (ma_0 hR) (v := .int 2) rfl rfl (Nat.le_of_ble_eq_true rfl) dX4_cancel_40 (fun H locs hat hof hS => ?_)
        have hR := ms_0_29 hR hof hat
        refine lv_aload_n hx hb dX4_cancel_43 rfl (lv_at hl 0 rfl) ?_
        refine g_X4_87 F hK (mw_0 hR) (v := .int 2) (by simp [fset, nset, lset]) dX4_cancel_44 ?_
        refine lv_if_le (tgt := 52) hx hb dX4_cancel_47 (by decide) (fun c_47 => (by first | exact absurd c_47 (by decide) | exact absurd (by decide) c_47)) (fun c_47 => ?_)
        refine lv_iconst (v := 0) hx hb dX4_cancel_50 (by decide) ?_
        have e9 : mCancel S (nI ej) = (0, (sF S 26 0 0 2)) := by simp [mCancel, mCostE, c_6, c_21, c_32, nI_clamp (show ej < 2 ^ 31 by omega)]
        exact xr_Cc hx hb hr hlocks ((congrArg Prod.fst e9).symm) (by show xRM G A (mCancel S (nI ej)).2 ad z H; rw [show (mCancel S (nI ej)).2 = (sF S 26 0 0 2) from congrArg Prod.snd e9]; exact hR) hS (by first | omega | decide) (by first | omega | decide) mCancel_nar dX4_cancel_51
  · refine lv_iconst (v := 1) hx hb dX4_cancel_9 (by decide) ?_
    refine lv_goto (tgt := 40) hx hb dX4_cancel_10 (by decide) ?_
    refine p_X4_87 F hK hS (mw_0 hR) (ma_0 hR) (v := .int 1) rfl rfl (Nat.le_of_ble_eq_true rfl) dX4_cancel_40 (fun H locs hat hof hS => ?_)
    have hR := ms_0_29 hR hof hat
    refine lv_aload_n hx hb dX4_cancel_43 rfl (lv_at hl 0 rfl) ?_
    refine g_X4_87 F hK (mw_0 hR) (v := .int 1) (by simp [fset, nset, lset]) dX4_cancel_44 ?_
    refine lv_if_le (tgt := 52) hx hb dX4_cancel_47 (by decide) (fun c_47 => (by first | exact absurd c_47 (by decide) | exact absurd (by decide) c_47)) (fun c_47 => ?_)
    refine lv_iconst (v := 0) hx hb dX4_cancel_50 (by decide) ?_
    have e9 : mCancel S entry = (0, (sF S 26 0 0 1)) := by simp [mCancel, mCostE, c_6]
    exact xr_Cc hx hb hr hlocks ((congrArg Prod.fst e9).symm) (by show xRM G A (mCancel S entry).2 ad z H; rw [show (mCancel S entry).2 = (sF S 26 0 0 1) from congrArg Prod.snd e9]; exact hR) hS (by first | omega | decide) (by first | omega | decide) mCancel_nar dX4_cancel_51

set_option maxHeartbeats 4000000 in
theorem mX4_isSound {l : Launch} {G : xG} {s0 : State} {b0 : Nat} (g : xG0 G s0 b0) {A : Nat → Prop} {S : xS} {ad : Nat × Nat → Nat} {z : xZ} : Met l yX4_isSound (ws_ yX4_isSound cX4_isSound 1 (some .boolean)) ({ frames := 0, cells := 0, slots := 0, locals := 0 } : Room) (xP s0 A [.ref (ad (0, 0))] (fun H => xRM G A S ad z H)) (xQc (some (.int (bI ((mSound S).1)))) (fun _ H => xRM G A (mSound S).2 ad z H) A) 0 0 A := by
  refine Met.ofW (cc := cX4_isSound) (maxL := 1) (ret := (some .boolean)) (by decide) rfl ?_
  intro p e s m args below meth c s₁ B hml hv
  obtain ⟨rfl, hWK, hR⟩ := hv
  have hx := B.exec
  have hb := B.bytes
  have hr := B.returns
  have hts := atoms_spec (ws := ws_ yX4_isSound cX4_isSound 1 (some .boolean)) B.pre
  have hts : ∀ w ∈ lw_all, w.before _ s = true := fun w h => hts w (List.mem_cons_of_mem _ h)
  have hown : s.vm.findClass "LendlatheModel" = some m.cls := findClass_of_methodNamed B.named
  have hlocks := B.notSynchronized
  have hK := hWK.K g
  have F : CallFix p m c cX4_isSound 1 s _ lw_all "LendlatheModel" := ⟨hx, hb, hml, hown, hts⟩
  have hS : va_S A s.heap s.heap [] := va_S.rf
  have hl := lv_entry ([.ref (ad (0, 0))]) (n := 1) (Nat.le_of_ble_eq_true rfl)
  rw [lg_entry_eq]
  generalize (lg_sl ([.ref (ad (0, 0))]) ++ List.replicate (1 - (lg_sl ([.ref (ad (0, 0))])).length) Slot.unset).toArray = ls at hl ⊢
  have hl : lv_has ls 1 [(0, .ref (ad (0, 0)))] := hl
  refine lv_aload_n hx hb dX4_isSound_0 rfl (lv_at hl 0 rfl) ?_
  refine lv_iconst (v := 0) hx hb dX4_isSound_1 (by decide) ?_
  refine p_X4_87 F hK hS (mw_0 hR) (ma_0 hR) (v := .int 0) rfl rfl (Nat.le_of_ble_eq_true rfl) dX4_isSound_2 (fun H locs hat hof hS => ?_)
  have hR := ms_0_29 hR hof hat
  refine lv_iconst (v := 1) hx hb dX4_isSound_5 (by decide) ?_
  have e9 : mSound S = (true, (sF S 26 0 0 0)) := by simp [mSound]
  exact xr_Cz hx hb hr hlocks ((by rw [show (mSound S).1 = true from congrArg Prod.fst e9]; rfl)) (by show xRM G A (mSound S).2 ad z H; rw [show (mSound S).2 = (sF S 26 0 0 0) from congrArg Prod.snd e9]; exact hR) hS (by first | omega | decide) (by first | omega | decide) dX4_isSound_6

set_option maxHeartbeats 4000000 in
theorem mX4_takings {l : Launch} {G : xG} {s0 : State} {b0 : Nat} (g : xG0 G s0 b0) {A : Nat → Prop} {S : xS} {ad : Nat × Nat → Nat} {z : xZ} (hW : mWF S) : Met l yX4_takings (ws_ yX4_takings cX4_takings 4 (some .long)) ({ frames := 0, cells := 0, slots := 0, locals := 0 } : Room) (xP s0 A [.ref (ad (0, 0))] (fun H => xRM G A S ad z H)) (xQc (some (.long ((mTakings S).1))) (fun _ H => xRM G A (mTakings S).2 ad z H) A) 0 0 A := by
  refine Met.ofW (cc := cX4_takings) (maxL := 4) (ret := (some .long)) (by decide) rfl ?_
  intro p e s m args below meth c s₁ B hml hv
  obtain ⟨rfl, hWK, hR⟩ := hv
  have hx := B.exec
  have hb := B.bytes
  have hr := B.returns
  have hts := atoms_spec (ws := ws_ yX4_takings cX4_takings 4 (some .long)) B.pre
  have hts : ∀ w ∈ lw_all, w.before _ s = true := fun w h => hts w (List.mem_cons_of_mem _ h)
  have hown : s.vm.findClass "LendlatheModel" = some m.cls := findClass_of_methodNamed B.named
  have hlocks := B.notSynchronized
  have hK := hWK.K g
  have F : CallFix p m c cX4_takings 4 s _ lw_all "LendlatheModel" := ⟨hx, hb, hml, hown, hts⟩
  have hS : va_S A s.heap s.heap [] := va_S.rf
  have hl := lv_entry ([.ref (ad (0, 0))]) (n := 4) (Nat.le_of_ble_eq_true rfl)
  rw [lg_entry_eq]
  generalize (lg_sl ([.ref (ad (0, 0))]) ++ List.replicate (4 - (lg_sl ([.ref (ad (0, 0))])).length) Slot.unset).toArray = ls at hl ⊢
  have hl : lv_has ls 4 [(0, .ref (ad (0, 0)))] := hl
  have hn0 := hW.1
  have hn1 := hW.2.1
  have hn2 := hW.2.2.1
  have hn3 := hW.2.2.2.1
  have hn4 := hW.2.2.2.2.1
  refine lv_aload_n hx hb dX4_takings_0 rfl (lv_at hl 0 rfl) ?_
  refine lv_iconst (v := 0) hx hb dX4_takings_1 (by decide) ?_
  refine p_X4_87 F hK hS (mw_0 hR) (ma_0 hR) (v := .int 0) rfl rfl (Nat.le_of_ble_eq_true rfl) dX4_takings_2 (fun H locs hat hof hS => ?_)
  have hR := ms_0_29 hR hof hat
  refine lv_lconst (v := 0) hx hb dX4_takings_5 (by decide) ?_
  refine lv_lstore_n (lv' := [(1, .long 0), (0, .ref (ad (0, 0)))]) hx hb dX4_takings_6 rfl hl (by decide) rfl (fun ls hl => ?_)
  refine lv_iconst (v := 0) hx hb dX4_takings_7 (by decide) ?_
  refine lv_istore_n (lv' := [(3, .int 0), (1, .long 0), (0, .ref (ad (0, 0)))]) hx hb dX4_takings_8 rfl hl (by decide) rfl (fun ls hl => ?_)
  have L9 : ∀ (n : Nat) (k : Nat) (acc : Int64), S.1 1 0 - k < n → (k ≤ S.1 1 0) → (acc = sumL k (fun m => S.2.2 m)) → ∀ (ls : Array Slot), lv_has ls 4 [(3, .int (nI k)), (1, .long acc), (0, .ref (ad (0, 0)))] → W p l e (headSpec (ws_ yX4_takings cX4_takings 4 (some .long)) ({ frames := 0, cells := 0, slots := 0, locals := 0 } : Room)).room s m ([.ref (ad (0, 0))] : List Value).toArray below meth c H locs 0 0 (MQ below (xQc (some (.long ((mTakings S).1))) (fun _ H => xRM G A (mTakings S).2 ad z H) A) ([.ref (ad (0, 0))] : List Value).toArray s 0 0 A) (F0 m 9 ls []) := by
    intro n9
    induction n9 with
    | zero =>
      intro k acc hn9
      exact absurd hn9 (Nat.not_lt_zero _)
    | succ n9 ih9 =>
      intro k acc hn9 hkn ea ls hl
      refine lv_iload_n hx hb dX4_takings_9 rfl (lv_at hl 0 rfl) ?_
      refine lv_aload_n hx hb dX4_takings_10 rfl (lv_at hl 2 rfl) ?_
      refine g_X4_95 F hK (mw_0 hR) (v := .int (nI (S.1 1 0))) rfl dX4_takings_11 ?_
      refine xn_ge (tgt := 32) k (S.1 1 0) rfl rfl (by omega) (by omega) hx hb dX4_takings_14 (by decide) (fun c_14 => ?_) (fun c_14 => ?_)
      · refine lv_lload_n hx hb dX4_takings_32 rfl (lv_at hl 1 rfl) ?_
        have hk9 : k = S.1 1 0 := (by omega)
        subst hk9
        have e9 : mTakings S = (acc, (sF S 26 0 0 0)) := by simp [mTakings, c_14, ea]
        exact xr_Cl hx hb hr hlocks ((congrArg Prod.fst e9).symm) (by show xRM G A (mTakings S).2 ad z H; rw [show (mTakings S).2 = (sF S 26 0 0 0) from congrArg Prod.snd e9]; exact hR) hS (by first | omega | decide) (by first | omega | decide) dX4_takings_33
      · refine lv_lload_n hx hb dX4_takings_17 rfl (lv_at hl 1 rfl) ?_
        refine lv_aload_n hx hb dX4_takings_18 rfl (lv_at hl 2 rfl) ?_
        refine g_X4_21 F hK (mw_0 hR) (v := .ref (ad (5, 0))) rfl dX4_takings_19 ?_
        refine lv_iload_n hx hb dX4_takings_22 rfl (lv_at hl 0 rfl) ?_
        refine x_lald hx hb hK (mw_5 hR) (v := .long (S.2.2 k)) (xi_nI (n := 10) (by omega) (by omega)) (rfl) dX4_takings_23 ?_
        refine lv_ladd hx hb dX4_takings_24 ?_
        refine lv_lstore_n (lv' := [(1, .long (acc + (S.2.2 k))), (3, .int (nI k)), (0, .ref (ad (0, 0)))]) hx hb dX4_takings_25 rfl hl (by decide) rfl (fun ls hl => ?_)
        refine lv_iinc (v := nI (k + 1)) (lv' := [(3, .int (nI (k + 1))), (1, .long (acc + (S.2.2 k))), (0, .ref (ad (0, 0)))]) hx hb dX4_takings_26 hl (k := 1) rfl (nI_1 _) (by decide) rfl (fun ls hl => ?_)
        refine lv_goto (tgt := 9) hx hb dX4_takings_29 (by decide) ?_
        exact ih9 (k + 1) (acc + (S.2.2 k)) (by omega) (by omega) (by rw [ea]; rfl) ls (lv_sub hl [0, 1, 2] rfl)
  exact L9 (S.1 1 0 + 1) 0 0 (by omega) (by omega) rfl ls (lv_sub hl [0, 1, 2] rfl)

