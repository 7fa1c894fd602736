/-! contracts (printed by gen/mx10.py) -/
set_option maxRecDepth 100000
set_option maxHeartbeats 4000000 in
theorem xX1_addMachine {l : Launch} {G : xG} {s0 : State} {b0 : Nat} (g1 : xG1 l G s0 b0) {A : Nat → Prop} {S : xS} {ad : Nat × Nat → Nat} {z : xZ} (kind setup : Int32) (hW : xW S) : vx_Met l yX1_addMachine (ws_ yX1_addMachine cX1_addMachine 3 (some .int)) ({ frames := 7, cells := 2, slots := 12, locals := 101 } : Room) (xP s0 A [.ref (ad (0, 0)), .int kind, .int setup] (fun H => xRX G A S ad z H)) (xQc (some (.int ((xAddMachine S kind setup).2.1))) (fun _ H => (xAddMachine S kind setup).1 = 0 ∧ ∃ ad9 z9, xRX G A (xAddMachine S kind setup).2.2 ad9 z9 H ∧ ad9 (0, 0) = ad (0, 0)) A) (xXc (fun E _ H => E = xExn (xAddMachine S kind setup).1 ∧ ¬ (xAddMachine S kind setup).1 = 0 ∧ ∃ z9, xRX G A S ad z9 H) A) 2 12 A := by
  refine vx_ofW (cc := cX1_addMachine) (maxL := 3) (ret := (some .int)) (by decide) rfl ?_
  intro p e s m args below meth c s₁ B hml hnt hv
  obtain ⟨rfl, hWK, hR⟩ := hv
  have g := g1.1
  have hx := B.exec
  have hb := B.bytes
  have hr := B.returns
  have hts := atoms_spec (ws := ws_ yX1_addMachine cX1_addMachine 3 (some .int)) B.pre
  have hts : ∀ w ∈ lw_all, w.before _ s = true := fun w h => hts w (List.mem_cons_of_mem _ h)
  have hown : s.vm.findClass "Lendlathe" = some m.cls := findClass_of_methodNamed B.named
  have hlocks := B.notSynchronized
  have hK := hWK.K g
  have F : CallFix p m c cX1_addMachine 3 s _ lw_all "Lendlathe" := ⟨hx, hb, hml, hown, hts⟩
  have hS : va_S A s.heap s.heap [] := va_S.rf
  have hl := lv_entry ([.ref (ad (0, 0)), .int kind, .int setup]) (n := 3) (Nat.le_of_ble_eq_true rfl)
  rw [lg_entry_eq]
  generalize (lg_sl ([.ref (ad (0, 0)), .int kind, .int setup]) ++ List.replicate (3 - (lg_sl ([.ref (ad (0, 0)), .int kind, .int setup])).length) Slot.unset).toArray = ls at hl ⊢
  have hl : lv_has ls 3 [(0, .ref (ad (0, 0))), (1, .int kind), (2, .int setup)] := hl
  have hn0 := hW.1.1
  have hn1 := hW.1.2.1
  have hn2 := hW.1.2.2.1
  have hn3 := hW.1.2.2.2.1
  have hn4 := hW.1.2.2.2.2
  refine lv_iload_n hx hb dX1_addMachine_0 rfl (lv_at hl 1 rfl) ?_
  refine xc_P (va_runS (As := [.int kind]) (rest := []) F (xX1_isKind g1 (A := A) kind) (va_cwS 1 hts (lw_S q755 q756 q56 q757) rfl rfl rfl hdS_X1_isKind ⟨Nat.le_of_ble_eq_true rfl, Nat.le_of_ble_eq_true rfl⟩) (xpre hWK hS trivial) rfl rfl hl.1 rfl (lv_room (Nat.le_of_ble_eq_true rfl)) dX1_addMachine_1 ⟨Nat.le_of_ble_eq_true rfl, Nat.le_of_ble_eq_true rfl⟩) ?_
  refine x_ifeq (tgt := 21) hx hb dX1_addMachine_4 (by decide) (fun c_4 => ?_) (fun c_4 => ?_)
  · refine lv_iconst (v := 0) hx hb dX1_addMachine_21 (by decide) ?_
    have e9 : (xAddMachine S kind setup).1 = 1 := by simp [xAddMachine, c_4]
    exact xc_T (vx_runS (As := [.int 0]) (rest := []) F (xX1_want_no g1 (A := A) false rfl) (va_cwS 1 hts (lw_S q761 q762 q56 q763) rfl rfl rfl hdS_X1_want ⟨Nat.le_of_ble_eq_true rfl, Nat.le_of_ble_eq_true rfl⟩) (xpre hWK hS trivial) rfl rfl hl.1 rfl (lv_room (Nat.le_of_ble_eq_true rfl)) dX1_addMachine_22 ⟨Nat.le_of_ble_eq_true rfl, Nat.le_of_ble_eq_true rfl⟩) hS (fun E ce q9 H locs hX hz hk hS hq9 hv9 hc9 => vx_out (fun x hx => (hnt x hx).elim) hlocks hq9 hv9 hc9 (fun t ht _ => ⟨by rw [ht]; exact ⟨hX.1.trans (congrArg xExn e9).symm, (by rw [e9]; decide), z, hR.grow hX.2⟩, hS.F ht⟩) hS.2.2 (Nat.le_of_ble_eq_true rfl) (Nat.le_of_ble_eq_true rfl))
  · refine lv_iload_n hx hb dX1_addMachine_7 rfl (lv_at hl 2 rfl) ?_
    refine lv_iconst (v := 0) hx hb dX1_addMachine_8 (by decide) ?_
    refine lv_bipush (v := 30) hx hb dX1_addMachine_9 (by decide) ?_
    refine xc_P (va_runS (As := [.int setup, .int 0, .int 30]) (rest := []) F (xX1_in g1 (A := A) setup 0 30) (va_cwS 3 hts (lw_S q758 q759 q56 q760) rfl rfl rfl hdS_X1_in ⟨Nat.le_of_ble_eq_true rfl, Nat.le_of_ble_eq_true rfl⟩) (xpre hWK hS trivial) rfl rfl hl.1 rfl (lv_room (Nat.le_of_ble_eq_true rfl)) dX1_addMachine_11 ⟨Nat.le_of_ble_eq_true rfl, Nat.le_of_ble_eq_true rfl⟩) ?_
    refine x_ifeq (tgt := 21) hx hb dX1_addMachine_14 (by decide) (fun c_14 => ?_) (fun c_14 => ?_)
    · refine lv_iconst (v := 0) hx hb dX1_addMachine_21 (by decide) ?_
      have e9 : (xAddMachine S kind setup).1 = 1 := by simp [xAddMachine, c_4, c_14]
      exact xc_T (vx_runS (As := [.int 0]) (rest := []) F (xX1_want_no g1 (A := A) false rfl) (va_cwS 1 hts (lw_S q761 q762 q56 q763) rfl rfl rfl hdS_X1_want ⟨Nat.le_of_ble_eq_true rfl, Nat.le_of_ble_eq_true rfl⟩) (xpre hWK hS trivial) rfl rfl hl.1 rfl (lv_room (Nat.le_of_ble_eq_true rfl)) dX1_addMachine_22 ⟨Nat.le_of_ble_eq_true rfl, Nat.le_of_ble_eq_true rfl⟩) hS (fun E ce q9 H locs hX hz hk hS hq9 hv9 hc9 => vx_out (fun x hx => (hnt x hx).elim) hlocks hq9 hv9 hc9 (fun t ht _ => ⟨by rw [ht]; exact ⟨hX.1.trans (congrArg xExn e9).symm, (by rw [e9]; decide), z, hR.grow hX.2⟩, hS.F ht⟩) hS.2.2 (Nat.le_of_ble_eq_true rfl) (Nat.le_of_ble_eq_true rfl))
    · refine lv_iconst (v := 1) hx hb dX1_addMachine_17 (by decide) ?_
      refine lv_goto (tgt := 22) hx hb dX1_addMachine_18 (by decide) ?_
      refine xc_P0 (va_runS (As := [.int 1]) (rest := []) F (xX1_want_ok g1 (A := A) true rfl) (va_cwS 1 hts (lw_S q761 q762 q56 q763) rfl rfl rfl hdS_X1_want ⟨Nat.le_of_ble_eq_true rfl, Nat.le_of_ble_eq_true rfl⟩) (xpre hWK hS trivial) rfl rfl hl.1 rfl (lv_room (Nat.le_of_ble_eq_true rfl)) dX1_addMachine_22 ⟨Nat.le_of_ble_eq_true rfl, Nat.le_of_ble_eq_true rfl⟩) ?_
      refine lv_aload_n hx hb dX1_addMachine_25 rfl (lv_at hl 0 rfl) ?_
      refine g_X1_29 F hK (xw_0 hR) (v := .ref (ad (3, 0))) rfl dX1_addMachine_26 ?_
      refine xc_P (va_runV (As := []) (rest := []) F (xJ2_size_20 g1 (A := A) (S := S) (ad := ad) (z := z) ) (cwV 0 hts (lw_V q510 q511 q512 q60 q513) rfl rfl rfl hdV_J2_size ⟨Nat.le_of_ble_eq_true rfl, Nat.le_of_ble_eq_true rfl⟩) (xpreV (xrecv hK (xw_3 hR) rfl) hWK hS hR) rfl rfl hl.1 rfl (lv_room (Nat.le_of_ble_eq_true rfl)) dX1_addMachine_29 ⟨Nat.le_of_ble_eq_true rfl, Nat.le_of_ble_eq_true rfl⟩) ?_
      refine lv_bipush (v := 6) hx hb dX1_addMachine_32 (by decide) ?_
      refine xn_ge (tgt := 41) (S.1 0 0) 6 rfl (by decide) (by omega) (by omega) hx hb dX1_addMachine_34 (by decide) (fun c_34 => ?_) (fun c_34 => ?_)
      · have n_34 := Nat.not_lt.mpr c_34
        refine lv_iconst (v := 0) hx hb dX1_addMachine_41 (by decide) ?_
        have e9 : (xAddMachine S kind setup).1 = 2 := by simp [xAddMachine, c_4, c_14, c_34, n_34]
        exact xc_T (vx_runS (As := [.int 0]) (rest := []) F (xX1_ready_no g1 (A := A) false rfl) (va_cwS 1 hts (lw_S q769 q770 q56 q771) rfl rfl rfl hdS_X1_ready ⟨Nat.le_of_ble_eq_true rfl, Nat.le_of_ble_eq_true rfl⟩) (xpre hWK hS trivial) rfl rfl hl.1 rfl (lv_room (Nat.le_of_ble_eq_true rfl)) dX1_addMachine_42 ⟨Nat.le_of_ble_eq_true rfl, Nat.le_of_ble_eq_true rfl⟩) hS (fun E ce q9 H locs hX hz hk hS hq9 hv9 hc9 => vx_out (fun x hx => (hnt x hx).elim) hlocks hq9 hv9 hc9 (fun t ht _ => ⟨by rw [ht]; exact ⟨hX.1.trans (congrArg xExn e9).symm, (by rw [e9]; decide), z, hR.grow hX.2⟩, hS.F ht⟩) hS.2.2 (Nat.le_of_ble_eq_true rfl) (Nat.le_of_ble_eq_true rfl))
      · have n_34 := Nat.not_le.mpr c_34
        refine lv_iconst (v := 1) hx hb dX1_addMachine_37 (by decide) ?_
        refine lv_goto (tgt := 42) hx hb dX1_addMachine_38 (by decide) ?_
        refine xc_P0 (va_runS (As := [.int 1]) (rest := []) F (xX1_ready_ok g1 (A := A) true rfl) (va_cwS 1 hts (lw_S q769 q770 q56 q771) rfl rfl rfl hdS_X1_ready ⟨Nat.le_of_ble_eq_true rfl, Nat.le_of_ble_eq_true rfl⟩) (xpre hWK hS trivial) rfl rfl hl.1 rfl (lv_room (Nat.le_of_ble_eq_true rfl)) dX1_addMachine_42 ⟨Nat.le_of_ble_eq_true rfl, Nat.le_of_ble_eq_true rfl⟩) ?_
        refine lv_aload_n hx hb dX1_addMachine_45 rfl (lv_at hl 0 rfl) ?_
        refine g_X1_29 F hK (xw_0 hR) (v := .ref (ad (3, 0))) rfl dX1_addMachine_46 ?_
        refine x_new (ci := 5) F hK in_X5 tyX5 tyX5_ok rfl (hts _ q501) (hts _ q787) (hts _ q82) df5 (Nat.le_of_ble_eq_true rfl) (Nat.le_of_ble_eq_true rfl) dX1_addMachine_49 (fun H1 hO hz hg => ?_)
        have hfq := hR.fresh
        have hA9 : A (Array.size s.heap) := hWK.2.2.2.1 _ hS.1
        have hR := hR.grow hg
        have hS := hg.S hS
        clear hz hg
        generalize Array.size s.heap = q at hO hA9 hfq ⊢
        generalize H1 = H at hO hR hS ⊢
        refine lv_dup hx hb dX1_addMachine_52 rfl ?_
        refine lv_iload_n hx hb dX1_addMachine_53 rfl (lv_at hl 1 rfl) ?_
        refine lv_iload_n hx hb dX1_addMachine_54 rfl (lv_at hl 2 rfl) ?_
        refine xc_C0 (va_runI (As := [.int kind, .int setup]) (rest := [.ref q, .ref (ad (3, 0))]) F (xX5_init g1 (A := A) q kind setup) (xcI 2 hts q788 q789 q82 q790 rfl (by decide +kernel) ⟨Nat.le_of_ble_eq_true rfl, Nat.le_of_ble_eq_true rfl⟩) (xpre hWK hS ⟨hO, hA9⟩) rfl rfl hl.1 rfl (lv_room (Nat.le_of_ble_eq_true rfl)) dX1_addMachine_55 ⟨Nat.le_of_ble_eq_true rfl, Nat.le_of_ble_eq_true rfl⟩) hS (fun H locs hR1 hz hk hS => ?_)
        obtain ⟨hO, h9⟩ := hR1
        have hR := hR.og hfq h9
        clear h9 hz hk
        have hqa : q ≠ ad (3, 0) := fun z9 => hfq 3 0 1 _ rfl (Nat.zero_lt_one) rfl z9.symm
        have hqe : q ≠ ad (15, 0) := fun z9 => hfq 15 0 1 _ rfl (Nat.zero_lt_one) rfl z9.symm
        have hne : ad (3, 0) ≠ ad (15, 0) := fun z9 => absurd (hR.2 3 0 1 15 0 1 rfl (Nat.zero_lt_one) rfl (Nat.zero_lt_one) z9).1 (by decide)
        refine xc_C (va_runV (As := [.ref q]) (rest := []) F (xJ2_add g1 (A := A) (ad (3, 0)) q (ad (15, 0)) (S.1 0 0) 6 _ _ (ci := 5) rfl q1862 ⟨by omega, by omega⟩ hqa) (cwV 1 hts (lw_V q802 q803 q804 q60 q805) rfl rfl rfl hdV_J2_add ⟨Nat.le_of_ble_eq_true rfl, Nat.le_of_ble_eq_true rfl⟩) (xpreV (xrecv hK (xw_3 hR) rfl) hWK hS ⟨xw_3 hR, xa_3 hR, xw_15 hR, xa_15 hR, hne, hO⟩) rfl rfl hl.1 rfl (lv_room (Nat.le_of_ble_eq_true rfl)) dX1_addMachine_58 ⟨Nat.le_of_ble_eq_true rfl, Nat.le_of_ble_eq_true rfl⟩) hS (fun H locs hR1 hz hk hS => ?_)
        obtain ⟨hL, hE, h9⟩ := hR1
        have hO := h9.at hO hqa hqe
        have hR : xRX G A (xMachS S kind setup) (xAd ad (xN1 20 (S.1 0 0) q)) z H := xg_mach hR hfq hA9 hO hL hE (fun c _ h1 h2 => h9.2 c h1 h2)
        clear hz hk
        refine lv_pop hx hb dX1_addMachine_61 rfl ?_
        refine lv_aload_n hx hb dX1_addMachine_62 rfl (lv_at hl 0 rfl) ?_
        refine g_X1_29 F hK (xw_0 (ad := (xAd ad (xN1 20 (S.1 0 0) q))) hR) (v := .ref (ad (3, 0))) rfl dX1_addMachine_63 ?_
        refine xc_P (va_runV (As := []) (rest := []) F (xJ2_size_20 g1 (A := A) (S := (xMachS S kind setup)) (ad := (xAd ad (xN1 20 (S.1 0 0) q))) (z := z) ) (cwV 0 hts (lw_V q510 q511 q512 q60 q513) rfl rfl rfl hdV_J2_size ⟨Nat.le_of_ble_eq_true rfl, Nat.le_of_ble_eq_true rfl⟩) (xpreV (xrecv hK (xw_3 (ad := (xAd ad (xN1 20 (S.1 0 0) q))) hR) rfl) hWK hS hR) rfl rfl hl.1 rfl (lv_room (Nat.le_of_ble_eq_true rfl)) dX1_addMachine_66 ⟨Nat.le_of_ble_eq_true rfl, Nat.le_of_ble_eq_true rfl⟩) ?_
        refine lv_iconst (v := 1) hx hb dX1_addMachine_69 (by decide) ?_
        refine lv_isub hx hb dX1_addMachine_70 ?_
        have e9 : xAddMachine S kind setup = (0, (nI ((xMachS S kind setup).1 0 0)) - 1, (xMachS S kind setup)) := by simp [xAddMachine, c_4, c_14, c_34, n_34, show (xMachS S kind setup).1 0 0 = S.1 0 0 + 1 from rfl]
        exact vx_ret (xr_Ci hx hb hr hlocks ((congrArg (fun q => q.2.1) e9).symm) (⟨congrArg Prod.fst e9, (xAd ad (xN1 20 (S.1 0 0) q)), z, by rw [show (xAddMachine S kind setup).2.2 = (xMachS S kind setup) from congrArg (fun q => q.2.2) e9]; exact hR, rfl⟩) hS (by first | omega | decide) (by first | omega | decide) dX1_addMachine_71)

set_option maxHeartbeats 4000000 in
theorem xX1_deliver {l : Launch} {G : xG} {s0 : State} {b0 : Nat} (g1 : xG1 l G s0 b0) {A : Nat → Prop} {S : xS} {ad : Nat × Nat → Nat} {z : xZ} (material length : Int32) (hW : xW S) : vx_Met l yX1_deliver (ws_ yX1_deliver cX1_deliver 3 (some .int)) ({ frames := 7, cells := 2, slots := 12, locals := 101 } : Room) (xP s0 A [.ref (ad (0, 0)), .int material, .int length] (fun H => xRX G A S ad z H)) (xQc (some (.int ((xDeliver S material length).2.1))) (fun _ H => (xDeliver S material length).1 = 0 ∧ ∃ ad9 z9, xRX G A (xDeliver S material length).2.2 ad9 z9 H ∧ ad9 (0, 0) = ad (0, 0)) A) (xXc (fun E _ H => E = xExn (xDeliver S material length).1 ∧ ¬ (xDeliver S material length).1 = 0 ∧ ∃ z9, xRX G A S ad z9 H) A) 2 12 A := by
  refine vx_ofW (cc := cX1_deliver) (maxL := 3) (ret := (some .int)) (by decide) rfl ?_
  intro p e s m args below meth c s₁ B hml hnt hv
  obtain ⟨rfl, hWK, hR⟩ := hv
  have g := g1.1
  have hx := B.exec
  have hb := B.bytes
  have hr := B.returns
  have hts := atoms_spec (ws := ws_ yX1_deliver cX1_deliver 3 (some .int)) B.pre
  have hts : ∀ w ∈ lw_all, w.before _ s = true := fun w h => hts w (List.mem_cons_of_mem _ h)
  have hown : s.vm.findClass "Lendlathe" = some m.cls := findClass_of_methodNamed B.named
  have hlocks := B.notSynchronized
  have hK := hWK.K g
  have F : CallFix p m c cX1_deliver 3 s _ lw_all "Lendlathe" := ⟨hx, hb, hml, hown, hts⟩
  have hS : va_S A s.heap s.heap [] := va_S.rf
  have hl := lv_entry ([.ref (ad (0, 0)), .int material, .int length]) (n := 3) (Nat.le_of_ble_eq_true rfl)
  rw [lg_entry_eq]
  generalize (lg_sl ([.ref (ad (0, 0)), .int material, .int length]) ++ List.replicate (3 - (lg_sl ([.ref (ad (0, 0)), .int material, .int length])).length) Slot.unset).toArray = ls at hl ⊢
  have hl : lv_has ls 3 [(0, .ref (ad (0, 0))), (1, .int material), (2, .int length)] := hl
  have hn0 := hW.1.1
  have hn1 := hW.1.2.1
  have hn2 := hW.1.2.2.1
  have hn3 := hW.1.2.2.2.1
  have hn4 := hW.1.2.2.2.2
  refine lv_iload_n hx hb dX1_deliver_0 rfl (lv_at hl 1 rfl) ?_
  refine xc_P (va_runS (As := [.int material]) (rest := []) F (xX1_isMaterial g1 (A := A) material) (va_cwS 1 hts (lw_S q1233 q1234 q56 q1235) rfl rfl rfl hdS_X1_isMaterial ⟨Nat.le_of_ble_eq_true rfl, Nat.le_of_ble_eq_true rfl⟩) (xpre hWK hS trivial) rfl rfl hl.1 rfl (lv_room (Nat.le_of_ble_eq_true rfl)) dX1_deliver_1 ⟨Nat.le_of_ble_eq_true rfl, Nat.le_of_ble_eq_true rfl⟩) ?_
  refine x_ifeq (tgt := 22) hx hb dX1_deliver_4 (by decide) (fun c_4 => ?_) (fun c_4 => ?_)
  · refine lv_iconst (v := 0) hx hb dX1_deliver_22 (by decide) ?_
    have e9 : (xDeliver S material length).1 = 1 := by simp [xDeliver, c_4]
    exact xc_T (vx_runS (As := [.int 0]) (rest := []) F (xX1_want_no g1 (A := A) false rfl) (va_cwS 1 hts (lw_S q761 q762 q56 q763) rfl rfl rfl hdS_X1_want ⟨Nat.le_of_ble_eq_true rfl, Nat.le_of_ble_eq_true rfl⟩) (xpre hWK hS trivial) rfl rfl hl.1 rfl (lv_room (Nat.le_of_ble_eq_true rfl)) dX1_deliver_23 ⟨Nat.le_of_ble_eq_true rfl, Nat.le_of_ble_eq_true rfl⟩) hS (fun E ce q9 H locs hX hz hk hS hq9 hv9 hc9 => vx_out (fun x hx => (hnt x hx).elim) hlocks hq9 hv9 hc9 (fun t ht _ => ⟨by rw [ht]; exact ⟨hX.1.trans (congrArg xExn e9).symm, (by rw [e9]; decide), z, hR.grow hX.2⟩, hS.F ht⟩) hS.2.2 (Nat.le_of_ble_eq_true rfl) (Nat.le_of_ble_eq_true rfl))
  · refine lv_iload_n hx hb dX1_deliver_7 rfl (lv_at hl 2 rfl) ?_
    refine lv_iconst (v := 1) hx hb dX1_deliver_8 (by decide) ?_
    refine lv_sipush (v := 5000) hx hb dX1_deliver_9 (by decide) ?_
    refine xc_P (va_runS (As := [.int length, .int 1, .int 5000]) (rest := []) F (xX1_in g1 (A := A) length 1 5000) (va_cwS 3 hts (lw_S q758 q759 q56 q760) rfl rfl rfl hdS_X1_in ⟨Nat.le_of_ble_eq_true rfl, Nat.le_of_ble_eq_true rfl⟩) (xpre hWK hS trivial) rfl rfl hl.1 rfl (lv_room (Nat.le_of_ble_eq_true rfl)) dX1_deliver_12 ⟨Nat.le_of_ble_eq_true rfl, Nat.le_of_ble_eq_true rfl⟩) ?_
    refine x_ifeq (tgt := 22) hx hb dX1_deliver_15 (by decide) (fun c_15 => ?_) (fun c_15 => ?_)
    · refine lv_iconst (v := 0) hx hb dX1_deliver_22 (by decide) ?_
      have e9 : (xDeliver S material length).1 = 1 := by simp [xDeliver, c_4, c_15]
      exact xc_T (vx_runS (As := [.int 0]) (rest := []) F (xX1_want_no g1 (A := A) false rfl) (va_cwS 1 hts (lw_S q761 q762 q56 q763) rfl rfl rfl hdS_X1_want ⟨Nat.le_of_ble_eq_true rfl, Nat.le_of_ble_eq_true rfl⟩) (xpre hWK hS trivial) rfl rfl hl.1 rfl (lv_room (Nat.le_of_ble_eq_true rfl)) dX1_deliver_23 ⟨Nat.le_of_ble_eq_true rfl, Nat.le_of_ble_eq_true rfl⟩) hS (fun E ce q9 H locs hX hz hk hS hq9 hv9 hc9 => vx_out (fun x hx => (hnt x hx).elim) hlocks hq9 hv9 hc9 (fun t ht _ => ⟨by rw [ht]; exact ⟨hX.1.trans (congrArg xExn e9).symm, (by rw [e9]; decide), z, hR.grow hX.2⟩, hS.F ht⟩) hS.2.2 (Nat.le_of_ble_eq_true rfl) (Nat.le_of_ble_eq_true rfl))
    · refine lv_iconst (v := 1) hx hb dX1_deliver_18 (by decide) ?_
      refine lv_goto (tgt := 23) hx hb dX1_deliver_19 (by decide) ?_
      refine xc_P0 (va_runS (As := [.int 1]) (rest := []) F (xX1_want_ok g1 (A := A) true rfl) (va_cwS 1 hts (lw_S q761 q762 q56 q763) rfl rfl rfl hdS_X1_want ⟨Nat.le_of_ble_eq_true rfl, Nat.le_of_ble_eq_true rfl⟩) (xpre hWK hS trivial) rfl rfl hl.1 rfl (lv_room (Nat.le_of_ble_eq_true rfl)) dX1_deliver_23 ⟨Nat.le_of_ble_eq_true rfl, Nat.le_of_ble_eq_true rfl⟩) ?_
      refine lv_aload_n hx hb dX1_deliver_26 rfl (lv_at hl 0 rfl) ?_
      refine g_X1_39 F hK (xw_0 hR) (v := .ref (ad (6, 0))) rfl dX1_deliver_27 ?_
      refine xc_P (va_runV (As := []) (rest := []) F (xJ2_size_26 g1 (A := A) (S := S) (ad := ad) (z := z) ) (cwV 0 hts (lw_V q510 q511 q512 q60 q513) rfl rfl rfl hdV_J2_size ⟨Nat.le_of_ble_eq_true rfl, Nat.le_of_ble_eq_true rfl⟩) (xpreV (xrecv hK (xw_6 hR) rfl) hWK hS hR) rfl rfl hl.1 rfl (lv_room (Nat.le_of_ble_eq_true rfl)) dX1_deliver_30 ⟨Nat.le_of_ble_eq_true rfl, Nat.le_of_ble_eq_true rfl⟩) ?_
      refine lv_bipush (v := 30) hx hb dX1_deliver_33 (by decide) ?_
      refine xn_ge (tgt := 42) (S.1 3 0) 30 rfl (by decide) (by omega) (by omega) hx hb dX1_deliver_35 (by decide) (fun c_35 => ?_) (fun c_35 => ?_)
      · have n_35 := Nat.not_lt.mpr c_35
        refine lv_iconst (v := 0) hx hb dX1_deliver_42 (by decide) ?_
        have e9 : (xDeliver S material length).1 = 2 := by simp [xDeliver, c_4, c_15, c_35, n_35]
        exact xc_T (vx_runS (As := [.int 0]) (rest := []) F (xX1_ready_no g1 (A := A) false rfl) (va_cwS 1 hts (lw_S q769 q770 q56 q771) rfl rfl rfl hdS_X1_ready ⟨Nat.le_of_ble_eq_true rfl, Nat.le_of_ble_eq_true rfl⟩) (xpre hWK hS trivial) rfl rfl hl.1 rfl (lv_room (Nat.le_of_ble_eq_true rfl)) dX1_deliver_43 ⟨Nat.le_of_ble_eq_true rfl, Nat.le_of_ble_eq_true rfl⟩) hS (fun E ce q9 H locs hX hz hk hS hq9 hv9 hc9 => vx_out (fun x hx => (hnt x hx).elim) hlocks hq9 hv9 hc9 (fun t ht _ => ⟨by rw [ht]; exact ⟨hX.1.trans (congrArg xExn e9).symm, (by rw [e9]; decide), z, hR.grow hX.2⟩, hS.F ht⟩) hS.2.2 (Nat.le_of_ble_eq_true rfl) (Nat.le_of_ble_eq_true rfl))
      · have n_35 := Nat.not_le.mpr c_35
        refine lv_iconst (v := 1) hx hb dX1_deliver_38 (by decide) ?_
        refine lv_goto (tgt := 43) hx hb dX1_deliver_39 (by decide) ?_
        refine xc_P0 (va_runS (As := [.int 1]) (rest := []) F (xX1_ready_ok g1 (A := A) true rfl) (va_cwS 1 hts (lw_S q769 q770 q56 q771) rfl rfl rfl hdS_X1_ready ⟨Nat.le_of_ble_eq_true rfl, Nat.le_of_ble_eq_true rfl⟩) (xpre hWK hS trivial) rfl rfl hl.1 rfl (lv_room (Nat.le_of_ble_eq_true rfl)) dX1_deliver_43 ⟨Nat.le_of_ble_eq_true rfl, Nat.le_of_ble_eq_true rfl⟩) ?_
        refine lv_aload_n hx hb dX1_deliver_46 rfl (lv_at hl 0 rfl) ?_
        refine g_X1_39 F hK (xw_0 hR) (v := .ref (ad (6, 0))) rfl dX1_deliver_47 ?_
        refine x_new (ci := 8) F hK in_X9 tyX9 tyX9_ok rfl (hts _ q721) (hts _ q1236) (hts _ q90) df9 (Nat.le_of_ble_eq_true rfl) (Nat.le_of_ble_eq_true rfl) dX1_deliver_50 (fun H1 hO hz hg => ?_)
        have hfq := hR.fresh
        have hA9 : A (Array.size s.heap) := hWK.2.2.2.1 _ hS.1
        have hR := hR.grow hg
        have hS := hg.S hS
        clear hz hg
        generalize Array.size s.heap = q at hO hA9 hfq ⊢
        generalize H1 = H at hO hR hS ⊢
        refine lv_dup hx hb dX1_deliver_53 rfl ?_
        refine lv_iload_n hx hb dX1_deliver_54 rfl (lv_at hl 1 rfl) ?_
        refine lv_iload_n hx hb dX1_deliver_55 rfl (lv_at hl 2 rfl) ?_
        refine xc_C0 (va_runI (As := [.int material, .int length]) (rest := [.ref q, .ref (ad (6, 0))]) F (xX9_init g1 (A := A) q material length) (xcI 2 hts q1237 q1238 q90 q1239 rfl (by decide +kernel) ⟨Nat.le_of_ble_eq_true rfl, Nat.le_of_ble_eq_true rfl⟩) (xpre hWK hS ⟨hO, hA9⟩) rfl rfl hl.1 rfl (lv_room (Nat.le_of_ble_eq_true rfl)) dX1_deliver_56 ⟨Nat.le_of_ble_eq_true rfl, Nat.le_of_ble_eq_true rfl⟩) hS (fun H locs hR1 hz hk hS => ?_)
        obtain ⟨hO, h9⟩ := hR1
        have hR := hR.og hfq h9
        clear h9 hz hk
        have hqa : q ≠ ad (6, 0) := fun z9 => hfq 6 0 1 _ rfl (Nat.zero_lt_one) rfl z9.symm
        have hqe : q ≠ ad (18, 0) := fun z9 => hfq 18 0 1 _ rfl (Nat.zero_lt_one) rfl z9.symm
        have hne : ad (6, 0) ≠ ad (18, 0) := fun z9 => absurd (hR.2 6 0 1 18 0 1 rfl (Nat.zero_lt_one) rfl (Nat.zero_lt_one) z9).1 (by decide)
        refine xc_C (va_runV (As := [.ref q]) (rest := []) F (xJ2_add g1 (A := A) (ad (6, 0)) q (ad (18, 0)) (S.1 3 0) 30 _ _ (ci := 8) rfl q1868 ⟨by omega, by omega⟩ hqa) (cwV 1 hts (lw_V q802 q803 q804 q60 q805) rfl rfl rfl hdV_J2_add ⟨Nat.le_of_ble_eq_true rfl, Nat.le_of_ble_eq_true rfl⟩) (xpreV (xrecv hK (xw_6 hR) rfl) hWK hS ⟨xw_6 hR, xa_6 hR, xw_18 hR, xa_18 hR, hne, hO⟩) rfl rfl hl.1 rfl (lv_room (Nat.le_of_ble_eq_true rfl)) dX1_deliver_59 ⟨Nat.le_of_ble_eq_true rfl, Nat.le_of_ble_eq_true rfl⟩) hS (fun H locs hR1 hz hk hS => ?_)
        obtain ⟨hL, hE, h9⟩ := hR1
        have hO := h9.at hO hqa hqe
        have hR : xRX G A (xBarS S material length) (xAd ad (xN1 26 (S.1 3 0) q)) z H := xg_bar hR hfq hA9 hO hL hE (fun c _ h1 h2 => h9.2 c h1 h2)
        clear hz hk
        refine lv_pop hx hb dX1_deliver_62 rfl ?_
        refine lv_aload_n hx hb dX1_deliver_63 rfl (lv_at hl 0 rfl) ?_
        refine g_X1_39 F hK (xw_0 (ad := (xAd ad (xN1 26 (S.1 3 0) q))) hR) (v := .ref (ad (6, 0))) rfl dX1_deliver_64 ?_
        refine xc_P (va_runV (As := []) (rest := []) F (xJ2_size_26 g1 (A := A) (S := (xBarS S material length)) (ad := (xAd ad (xN1 26 (S.1 3 0) q))) (z := z) ) (cwV 0 hts (lw_V q510 q511 q512 q60 q513) rfl rfl rfl hdV_J2_size ⟨Nat.le_of_ble_eq_true rfl, Nat.le_of_ble_eq_true rfl⟩) (xpreV (xrecv hK (xw_6 (ad := (xAd ad (xN1 26 (S.1 3 0) q))) hR) rfl) hWK hS hR) rfl rfl hl.1 rfl (lv_room (Nat.le_of_ble_eq_true rfl)) dX1_deliver_67 ⟨Nat.le_of_ble_eq_true rfl, Nat.le_of_ble_eq_true rfl⟩) ?_
        refine lv_iconst (v := 1) hx hb dX1_deliver_70 (by decide) ?_
        refine lv_isub hx hb dX1_deliver_71 ?_
        have e9 : xDeliver S material length = (0, (nI ((xBarS S material length).1 3 0)) - 1, (xBarS S material length)) := by simp [xDeliver, c_4, c_15, c_35, n_35, show (xBarS S material length).1 3 0 = S.1 3 0 + 1 from rfl]
        exact vx_ret (xr_Ci hx hb hr hlocks ((congrArg (fun q => q.2.1) e9).symm) (⟨congrArg Prod.fst e9, (xAd ad (xN1 26 (S.1 3 0) q)), z, by rw [show (xDeliver S material length).2.2 = (xBarS S material length) from congrArg (fun q => q.2.2) e9]; exact hR, rfl⟩) hS (by first | omega | decide) (by first | omega | decide) dX1_deliver_72)

set_option maxHeartbeats 4000000 in
theorem xX1_addMember {l : Launch} {G : xG} {s0 : State} {b0 : Nat} (g1 : xG1 l G s0 b0) {A : Nat → Prop} {S : xS} {ad : Nat × Nat → Nat} {z : xZ} (hW : xW S) : vx_Met l yX1_addMember (ws_ yX1_addMember cX1_addMember 1 (some .int)) ({ frames := 7, cells := 3, slots := 16, locals := 101 } : Room) (xP s0 A [.ref (ad (0, 0))] (fun H => xRX G A S ad z H)) (xQc (some (.int ((xAddMember S).2.1))) (fun _ H => (xAddMember S).1 = 0 ∧ ∃ ad9 z9, xRX G A (xAddMember S).2.2 ad9 z9 H ∧ ad9 (0, 0) = ad (0, 0)) A) (xXc (fun E _ H => E = xExn (xAddMember S).1 ∧ ¬ (xAddMember S).1 = 0 ∧ ∃ z9, xRX G A S ad z9 H) A) 3 16 A := by
  refine vx_ofW (cc := cX1_addMember) (maxL := 1) (ret := (some .int)) (by decide) rfl ?_
  intro p e s m args below meth c s₁ B hml hnt hv
  obtain ⟨rfl, hWK, hR⟩ := hv
  have g := g1.1
  have hx := B.exec
  have hb := B.bytes
  have hr := B.returns
  have hts := atoms_spec (ws := ws_ yX1_addMember cX1_addMember 1 (some .int)) B.pre
  have hts : ∀ w ∈ lw_all, w.before _ s = true := fun w h => hts w (List.mem_cons_of_mem _ h)
  have hown : s.vm.findClass "Lendlathe" = some m.cls := findClass_of_methodNamed B.named
  have hlocks := B.notSynchronized
  have hK := hWK.K g
  have F : CallFix p m c cX1_addMember 1 s _ lw_all "Lendlathe" := ⟨hx, hb, hml, hown, hts⟩
  have hS : va_S A s.heap s.heap [] := va_S.rf
  have hl := lv_entry ([.ref (ad (0, 0))]) (n := 1) (Nat.le_of_ble_eq_true rfl)
  rw [lg_entry_eq]
  generalize (lg_sl ([.ref (ad (0, 0))]) ++ List.replicate (1 - (lg_sl ([.ref (ad (0, 0))])).length) Slot.unset).toArray = ls at hl ⊢
  have hl : lv_has ls 1 [(0, .ref (ad (0, 0)))] := hl
  have hn0 := hW.1.1
  have hn1 := hW.1.2.1
  have hn2 := hW.1.2.2.1
  have hn3 := hW.1.2.2.2.1
  have hn4 := hW.1.2.2.2.2
  refine lv_aload_n hx hb dX1_addMember_0 rfl (lv_at hl 0 rfl) ?_
  refine g_X1_33 F hK (xw_0 hR) (v := .ref (ad (4, 0))) rfl dX1_addMember_1 ?_
  refine xc_P (va_runV (As := []) (rest := []) F (xJ2_size_21 g1 (A := A) (S := S) (ad := ad) (z := z) ) (cwV 0 hts (lw_V q510 q511 q512 q60 q513) rfl rfl rfl hdV_J2_size ⟨Nat.le_of_ble_eq_true rfl, Nat.le_of_ble_eq_true rfl⟩) (xpreV (xrecv hK (xw_4 hR) rfl) hWK hS hR) rfl rfl hl.1 rfl (lv_room (Nat.le_of_ble_eq_true rfl)) dX1_addMember_4 ⟨Nat.le_of_ble_eq_true rfl, Nat.le_of_ble_eq_true rfl⟩) ?_
  refine lv_bipush (v := 10) hx hb dX1_addMember_7 (by decide) ?_
  refine xn_ge (tgt := 16) (S.1 1 0) 10 rfl (by decide) (by omega) (by omega) hx hb dX1_addMember_9 (by decide) (fun c_9 => ?_) (fun c_9 => ?_)
  · have n_9 := Nat.not_lt.mpr c_9
    refine lv_iconst (v := 0) hx hb dX1_addMember_16 (by decide) ?_
    have e9 : (xAddMember S).1 = 2 := by simp [xAddMember, c_9, n_9]
    exact xc_T (vx_runS (As := [.int 0]) (rest := []) F (xX1_ready_no g1 (A := A) false rfl) (va_cwS 1 hts (lw_S q769 q770 q56 q771) rfl rfl rfl hdS_X1_ready ⟨Nat.le_of_ble_eq_true rfl, Nat.le_of_ble_eq_true rfl⟩) (xpre hWK hS trivial) rfl rfl hl.1 rfl (lv_room (Nat.le_of_ble_eq_true rfl)) dX1_addMember_17 ⟨Nat.le_of_ble_eq_true rfl, Nat.le_of_ble_eq_true rfl⟩) hS (fun E ce q9 H locs hX hz hk hS hq9 hv9 hc9 => vx_out (fun x hx => (hnt x hx).elim) hlocks hq9 hv9 hc9 (fun t ht _ => ⟨by rw [ht]; exact ⟨hX.1.trans (congrArg xExn e9).symm, (by rw [e9]; decide), z, hR.grow hX.2⟩, hS.F ht⟩) hS.2.2 (Nat.le_of_ble_eq_true rfl) (Nat.le_of_ble_eq_true rfl))
  · have n_9 := Nat.not_le.mpr c_9
    refine lv_iconst (v := 1) hx hb dX1_addMember_12 (by decide) ?_
    refine lv_goto (tgt := 17) hx hb dX1_addMember_13 (by decide) ?_
    refine xc_P0 (va_runS (As := [.int 1]) (rest := []) F (xX1_ready_ok g1 (A := A) true rfl) (va_cwS 1 hts (lw_S q769 q770 q56 q771) rfl rfl rfl hdS_X1_ready ⟨Nat.le_of_ble_eq_true rfl, Nat.le_of_ble_eq_true rfl⟩) (xpre hWK hS trivial) rfl rfl hl.1 rfl (lv_room (Nat.le_of_ble_eq_true rfl)) dX1_addMember_17 ⟨Nat.le_of_ble_eq_true rfl, Nat.le_of_ble_eq_true rfl⟩) ?_
    refine lv_aload_n hx hb dX1_addMember_20 rfl (lv_at hl 0 rfl) ?_
    refine g_X1_33 F hK (xw_0 hR) (v := .ref (ad (4, 0))) rfl dX1_addMember_21 ?_
    refine x_new (ci := 6) F hK in_X6 tyX6 tyX6_ok rfl (hts _ q500) (hts _ q860) (hts _ q83) df6 (Nat.le_of_ble_eq_true rfl) (Nat.le_of_ble_eq_true rfl) dX1_addMember_24 (fun H1 hO hz hg => ?_)
    have hfq := hR.fresh
    have hA9 : A (Array.size s.heap) := hWK.2.2.2.1 _ hS.1
    have hR := hR.grow hg
    have hS := hg.S hS
    clear hz hg
    generalize Array.size s.heap = q at hO hA9 hfq ⊢
    generalize H1 = H at hO hR hS ⊢
    refine lv_dup hx hb dX1_addMember_27 rfl ?_
    refine lv_aload_n hx hb dX1_addMember_28 rfl (lv_at hl 0 rfl) ?_
    have hql := hO.lt
    have hSz := hS.1
    refine xc_C0 (va_runI (As := [.ref (ad (0, 0))]) (rest := [.ref q, .ref (ad (4, 0))]) F (xX6_init g1 (A := A) q (ad (0, 0))) (xcI 1 hts q861 q862 q83 q863 rfl (by decide +kernel) ⟨Nat.le_of_ble_eq_true rfl, Nat.le_of_ble_eq_true rfl⟩) (xpre hWK hS ⟨hO, hA9⟩) rfl rfl hl.1 rfl (lv_room (Nat.le_of_ble_eq_true rfl)) dX1_addMember_29 ⟨Nat.le_of_ble_eq_true rfl, Nat.le_of_ble_eq_true rfl⟩) hS (fun H locs hR1 hz hk hS => ?_)
    obtain ⟨t, ht9, hat_t, hO, h9⟩ := hR1
    have hft : xFree G S ad z t := fun k i b e hb hi he z9 => by have := (hR.1 k i b e hb hi he).1.lt; omega
    have hAt : A t := hWK.2.2.2.1 _ (Nat.le_trans hSz ht9)
    have hqt : q ≠ t := by omega
    have hR := hR.og hfq h9
    clear h9 hz hk
    have hqa : q ≠ ad (4, 0) := fun z9 => hfq 4 0 1 _ rfl (Nat.zero_lt_one) rfl z9.symm
    have hqe : q ≠ ad (16, 0) := fun z9 => hfq 16 0 1 _ rfl (Nat.zero_lt_one) rfl z9.symm
    have hne : ad (4, 0) ≠ ad (16, 0) := fun z9 => absurd (hR.2 4 0 1 16 0 1 rfl (Nat.zero_lt_one) rfl (Nat.zero_lt_one) z9).1 (by decide)
    refine xc_C (va_runV (As := [.ref q]) (rest := []) F (xJ2_add g1 (A := A) (ad (4, 0)) q (ad (16, 0)) (S.1 1 0) 10 _ _ (ci := 6) rfl q1863 ⟨by omega, by omega⟩ hqa) (cwV 1 hts (lw_V q802 q803 q804 q60 q805) rfl rfl rfl hdV_J2_add ⟨Nat.le_of_ble_eq_true rfl, Nat.le_of_ble_eq_true rfl⟩) (xpreV (xrecv hK (xw_4 hR) rfl) hWK hS ⟨xw_4 hR, xa_4 hR, xw_16 hR, xa_16 hR, hne, hO⟩) rfl rfl hl.1 rfl (lv_room (Nat.le_of_ble_eq_true rfl)) dX1_addMember_32 ⟨Nat.le_of_ble_eq_true rfl, Nat.le_of_ble_eq_true rfl⟩) hS (fun H locs hR1 hz hk hS => ?_)
    obtain ⟨hL, hE, h9⟩ := hR1
    have hO := h9.at hO hqa hqe
    have hat_t := h9.at hat_t (fun z9 => hft 4 0 1 _ rfl (Nat.zero_lt_one) rfl z9.symm) (fun z9 => hft 16 0 1 _ rfl (Nat.zero_lt_one) rfl z9.symm)
    have hR : xRX G A (xMembS S) (xAd ad (xN2 21 (S.1 1 0) q (xN1 22 (S.1 1 0) t))) z H := xg_memb hR hfq hA9 hO hft hAt hat_t hqt hL hE (fun c _ h1 h2 => h9.2 c h1 h2)
    clear hz hk
    refine lv_pop hx hb dX1_addMember_35 rfl ?_
    refine lv_aload_n hx hb dX1_addMember_36 rfl (lv_at hl 0 rfl) ?_
    refine g_X1_33 F hK (xw_0 (ad := (xAd ad (xN2 21 (S.1 1 0) q (xN1 22 (S.1 1 0) t)))) hR) (v := .ref (ad (4, 0))) rfl dX1_addMember_37 ?_
    refine xc_P (va_runV (As := []) (rest := []) F (xJ2_size_21 g1 (A := A) (S := (xMembS S)) (ad := (xAd ad (xN2 21 (S.1 1 0) q (xN1 22 (S.1 1 0) t)))) (z := z) ) (cwV 0 hts (lw_V q510 q511 q512 q60 q513) rfl rfl rfl hdV_J2_size ⟨Nat.le_of_ble_eq_true rfl, Nat.le_of_ble_eq_true rfl⟩) (xpreV (xrecv hK (xw_4 (ad := (xAd ad (xN2 21 (S.1 1 0) q (xN1 22 (S.1 1 0) t)))) hR) rfl) hWK hS hR) rfl rfl hl.1 rfl (lv_room (Nat.le_of_ble_eq_true rfl)) dX1_addMember_40 ⟨Nat.le_of_ble_eq_true rfl, Nat.le_of_ble_eq_true rfl⟩) ?_
    refine lv_iconst (v := 1) hx hb dX1_addMember_43 (by decide) ?_
    refine lv_isub hx hb dX1_addMember_44 ?_
    have e9 : xAddMember S = (0, (nI ((xMembS S).1 1 0)) - 1, (xMembS S)) := by simp [xAddMember, c_9, n_9, show (xMembS S).1 1 0 = S.1 1 0 + 1 from rfl]
    exact vx_ret (xr_Ci hx hb hr hlocks ((congrArg (fun q => q.2.1) e9).symm) (⟨congrArg Prod.fst e9, (xAd ad (xN2 21 (S.1 1 0) q (xN1 22 (S.1 1 0) t))), z, by rw [show (xAddMember S).2.2 = (xMembS S) from congrArg (fun q => q.2.2) e9]; exact hR, rfl⟩) hS (by first | omega | decide) (by first | omega | decide) dX1_addMember_45)

set_option maxHeartbeats 4000000 in
theorem xX1_enters {l : Launch} {G : xG} {s0 : State} {b0 : Nat} (g1 : xG1 l G s0 b0) {A : Nat → Prop} {S : xS} {ad : Nat × Nat → Nat} {z : xZ} (member machine on start minutes work state : Int32) (hW : xW S) (hA : ∃ rk, rkOK S.2.1 rk ∧ ∀ i, rk i < 4) (hmb : vp_in member (S.1 1 0)) (hmc : vp_in machine (S.1 0 0)) (hlt : S.1 2 0 < 150) (hnw : narrow .char (.int work) = .int work) (hns : narrow .char (.int state) = .int state) : Met l yX1_enters (ws_ yX1_enters cX1_enters 8 (some .int)) ({ frames := 11, cells := 3, slots := 22, locals := 300 } : Room) (xP s0 A [.ref (ad (0, 0)), .int member, .int machine, .int on, .int start, .int minutes, .int work, .int state] (fun H => xRX G A S ad z H)) (xQc (some (.int (nI (S.1 2 0 + 1) - 1))) (fun _ H => ∃ ad9 z9, xRX G A (xEnters S member machine on start minutes work state) ad9 z9 H ∧ ad9 (0, 0) = ad (0, 0)) A) 3 22 A := by
  refine Met.ofW (cc := cX1_enters) (maxL := 8) (ret := (some .int)) (by decide) rfl ?_
  intro p e s m args below meth c s₁ B hml hv
  obtain ⟨rfl, hWK, hR⟩ := hv
  have g := g1.1
  have hx := B.exec
  have hb := B.bytes
  have hr := B.returns
  have hts := atoms_spec (ws := ws_ yX1_enters cX1_enters 8 (some .int)) B.pre
  have hts : ∀ w ∈ lw_all, w.before _ s = true := fun w h => hts w (List.mem_cons_of_mem _ h)
  have hown : s.vm.findClass "Lendlathe" = some m.cls := findClass_of_methodNamed B.named
  have hlocks := B.notSynchronized
  have hK := hWK.K g
  have F : CallFix p m c cX1_enters 8 s _ lw_all "Lendlathe" := ⟨hx, hb, hml, hown, hts⟩
  have hS : va_S A s.heap s.heap [] := va_S.rf
  have hl := lv_entry ([.ref (ad (0, 0)), .int member, .int machine, .int on, .int start, .int minutes, .int work, .int state]) (n := 8) (Nat.le_of_ble_eq_true rfl)
  rw [lg_entry_eq]
  generalize (lg_sl ([.ref (ad (0, 0)), .int member, .int machine, .int on, .int start, .int minutes, .int work, .int state]) ++ List.replicate (8 - (lg_sl ([.ref (ad (0, 0)), .int member, .int machine, .int on, .int start, .int minutes, .int work, .int state])).length) Slot.unset).toArray = ls at hl ⊢
  have hl : lv_has ls 8 [(0, .ref (ad (0, 0))), (1, .int member), (2, .int machine), (3, .int on), (4, .int start), (5, .int minutes), (6, .int work), (7, .int state)] := hl
  have hn0 := hW.1.1
  have hn1 := hW.1.2.1
  have hn2 := hW.1.2.2.1
  have hn3 := hW.1.2.2.2.1
  have hn4 := hW.1.2.2.2.2
  refine lv_aload_n hx hb dX1_enters_0 rfl (lv_at hl 0 rfl) ?_
  refine g_X1_36 F hK (xw_0 hR) (v := .ref (ad (5, 0))) rfl dX1_enters_1 ?_
  refine x_new (ci := 7) F hK in_X8 tyX8 tyX8_ok rfl (hts _ q514) (hts _ q1026) (hts _ q89) df8 (Nat.le_of_ble_eq_true rfl) (Nat.le_of_ble_eq_true rfl) dX1_enters_4 (fun H1 hO hz hg => ?_)
  have hfq := hR.fresh
  have hA9 : A (Array.size s.heap) := hWK.2.2.2.1 _ hS.1
  have hR := hR.grow hg
  have hS := hg.S hS
  clear hz hg
  generalize Array.size s.heap = q at hO hA9 hfq ⊢
  generalize H1 = H at hO hR hS ⊢
  refine lv_dup hx hb dX1_enters_7 rfl ?_
  refine lv_aload_n hx hb dX1_enters_8 rfl (lv_at hl 0 rfl) ?_
  refine lv_iload_n hx hb dX1_enters_9 rfl (lv_at hl 1 rfl) ?_
  refine lv_iload_n hx hb dX1_enters_10 rfl (lv_at hl 2 rfl) ?_
  refine lv_iload_n hx hb dX1_enters_11 rfl (lv_at hl 3 rfl) ?_
  refine lv_iload hx hb dX1_enters_12 (lv_at hl 4 rfl) ?_
  refine lv_iload hx hb dX1_enters_14 (lv_at hl 5 rfl) ?_
  refine lv_iload hx hb dX1_enters_16 (lv_at hl 6 rfl) ?_
  refine lv_iload hx hb dX1_enters_18 (lv_at hl 7 rfl) ?_
  have hql := hO.lt
  have hSz := hS.1
  refine xc_C0 (va_runI (As := [.ref (ad (0, 0)), .int member, .int machine, .int on, .int start, .int minutes, .int work, .int state]) (rest := [.ref q, .ref (ad (5, 0))]) F (xX8_init g1 (A := A) q (ad (0, 0)) member machine on start minutes work state hnw hns) (xcI 8 hts q1027 q1028 q89 q1029 rfl (by decide +kernel) ⟨Nat.le_of_ble_eq_true rfl, Nat.le_of_ble_eq_true rfl⟩) (xpre hWK hS ⟨hO, hA9⟩) rfl rfl hl.1 rfl (lv_room (Nat.le_of_ble_eq_true rfl)) dX1_enters_20 ⟨Nat.le_of_ble_eq_true rfl, Nat.le_of_ble_eq_true rfl⟩) hS (fun H locs hR1 hz hk hS => ?_)
  obtain ⟨t, u, htu, ht9, hu9, hat_t, hat_u, hO, h9⟩ := hR1
  have hft : xFree G S ad z t := fun k i b e hb hi he z9 => by have := (hR.1 k i b e hb hi he).1.lt; omega
  have hfu : xFree G S ad z u := fun k i b e hb hi he z9 => by have := (hR.1 k i b e hb hi he).1.lt; omega
  have hAt : A t := hWK.2.2.2.1 _ (Nat.le_trans hSz ht9)
  have hAu : A u := hWK.2.2.2.1 _ (Nat.le_trans hSz hu9)
  have hqt : q ≠ t := by omega
  have hqu : q ≠ u := by omega
  have hR := hR.og hfq h9
  clear h9 hz hk
  have hqa : q ≠ ad (5, 0) := fun z9 => hfq 5 0 1 _ rfl (Nat.zero_lt_one) rfl z9.symm
  have hqe : q ≠ ad (17, 0) := fun z9 => hfq 17 0 1 _ rfl (Nat.zero_lt_one) rfl z9.symm
  have hne : ad (5, 0) ≠ ad (17, 0) := fun z9 => absurd (hR.2 5 0 1 17 0 1 rfl (Nat.zero_lt_one) rfl (Nat.zero_lt_one) z9).1 (by decide)
  refine xc_C (va_runV (As := [.ref q]) (rest := []) F (xJ2_add g1 (A := A) (ad (5, 0)) q (ad (17, 0)) (S.1 2 0) 150 _ _ (ci := 7) rfl q1849 ⟨by omega, by omega⟩ hqa) (cwV 1 hts (lw_V q802 q803 q804 q60 q805) rfl rfl rfl hdV_J2_add ⟨Nat.le_of_ble_eq_true rfl, Nat.le_of_ble_eq_true rfl⟩) (xpreV (xrecv hK (xw_5 hR) rfl) hWK hS ⟨xw_5 hR, xa_5 hR, xw_17 hR, xa_17 hR, hne, hO⟩) rfl rfl hl.1 rfl (lv_room (Nat.le_of_ble_eq_true rfl)) dX1_enters_23 ⟨Nat.le_of_ble_eq_true rfl, Nat.le_of_ble_eq_true rfl⟩) hS (fun H locs hR1 hz hk hS => ?_)
  obtain ⟨hL, hE, h9⟩ := hR1
  have hO := h9.at hO hqa hqe
  have hat_t := h9.at hat_t (fun z9 => hft 5 0 1 _ rfl (Nat.zero_lt_one) rfl z9.symm) (fun z9 => hft 17 0 1 _ rfl (Nat.zero_lt_one) rfl z9.symm)
  have hat_u := h9.at hat_u (fun z9 => hfu 5 0 1 _ rfl (Nat.zero_lt_one) rfl z9.symm) (fun z9 => hfu 17 0 1 _ rfl (Nat.zero_lt_one) rfl z9.symm)
  have hR : xRX G A (xEntrS S member machine on start minutes work state) (xAd ad (xN2 23 (S.1 2 0) q (xN2 24 (S.1 2 0) t (xN1 25 (S.1 2 0) u)))) z H := xg_entr hR hfq hA9 hO hft hAt hat_t hfu hAu hat_u hqt hqu htu hL hE (fun c _ h1 h2 => h9.2 c h1 h2)
  have hWe := xW_entr (on := on) (start := start) (minutes := minutes) hW hmb hmc hlt hnw hns
  clear hz hk
  refine lv_pop hx hb dX1_enters_26 rfl ?_
  refine lv_aload_n hx hb dX1_enters_27 rfl (lv_at hl 0 rfl) ?_
  refine xc_C0 (va_runV (As := []) (rest := []) F (xX1_fills g1 (A := A) (S := (xEntrS S member machine on start minutes work state)) (ad := (xAd ad (xN2 23 (S.1 2 0) q (xN2 24 (S.1 2 0) t (xN1 25 (S.1 2 0) u))))) (z := z) (by first | exact hWe | exact hW) (rk_c (S := S) rfl hA)) (cwV 0 hts (lw_V q898 q900 qs18 q56 q901) rfl rfl rfl hdV_X1_fills ⟨Nat.le_of_ble_eq_true rfl, Nat.le_of_ble_eq_true rfl⟩) (xpreV (xrecv hK (xw_0 (ad := (xAd ad (xN2 23 (S.1 2 0) q (xN2 24 (S.1 2 0) t (xN1 25 (S.1 2 0) u))))) hR) rfl) hWK hS hR) rfl rfl hl.1 rfl (lv_room (Nat.le_of_ble_eq_true rfl)) dX1_enters_28 ⟨Nat.le_of_ble_eq_true rfl, Nat.le_of_ble_eq_true rfl⟩) hS (fun H locs hR1 hz hk hS => ?_)
  obtain ⟨z_28, hR⟩ := hR1
  refine lv_aload_n hx hb dX1_enters_31 rfl (lv_at hl 0 rfl) ?_
  refine g_X1_36 F hK (xw_0 (ad := (xAd ad (xN2 23 (S.1 2 0) q (xN2 24 (S.1 2 0) t (xN1 25 (S.1 2 0) u))))) hR) (v := .ref (ad (5, 0))) rfl dX1_enters_32 ?_
  refine xc_P (va_runV (As := []) (rest := []) F (xJ2_size_23 g1 (A := A) (S := (xFills (xEntrS S member machine on start minutes work state))) (ad := (xAd ad (xN2 23 (S.1 2 0) q (xN2 24 (S.1 2 0) t (xN1 25 (S.1 2 0) u))))) (z := z_28) ) (cwV 0 hts (lw_V q510 q511 q512 q60 q513) rfl rfl rfl hdV_J2_size ⟨Nat.le_of_ble_eq_true rfl, Nat.le_of_ble_eq_true rfl⟩) (xpreV (xrecv hK (xw_5 (ad := (xAd ad (xN2 23 (S.1 2 0) q (xN2 24 (S.1 2 0) t (xN1 25 (S.1 2 0) u))))) hR) rfl) hWK hS hR) rfl rfl hl.1 rfl (lv_room (Nat.le_of_ble_eq_true rfl)) dX1_enters_35 ⟨Nat.le_of_ble_eq_true rfl, Nat.le_of_ble_eq_true rfl⟩) ?_
  refine lv_iconst (v := 1) hx hb dX1_enters_38 (by decide) ?_
  refine lv_isub hx hb dX1_enters_39 ?_
  exact xr_Ci hx hb hr hlocks ((by show nI ((xEnters S member machine on start minutes work state).1 2 0) - 1 = _; rw [xEnters_n])) (⟨_, _, hR, rfl⟩) hS (by first | omega | decide) (by first | omega | decide) dX1_enters_40

set_option maxHeartbeats 4000000 in
theorem xX1_book {l : Launch} {G : xG} {s0 : State} {b0 : Nat} (g1 : xG1 l G s0 b0) {A : Nat → Prop} {S : xS} {ad : Nat × Nat → Nat} {z : xZ} (member machine on start minutes work : Int32) (hW : xW S) (hA : ∃ rk, rkOK S.2.1 rk ∧ ∀ i, rk i < 4) : vx_Met l yX1_book (ws_ yX1_book cX1_book 7 (some .int)) ({ frames := 12, cells := 3, slots := 22, locals := 327 } : Room) (xP s0 A [.ref (ad (0, 0)), .int member, .int machine, .int on, .int start, .int minutes, .int work] (fun H => xRX G A S ad z H)) (xQc (some (.int ((xBook S member machine on start minutes work).2.1))) (fun _ H => (xBook S member machine on start minutes work).1 = 0 ∧ ∃ ad9 z9, xRX G A (xBook S member machine on start minutes work).2.2 ad9 z9 H ∧ ad9 (0, 0) = ad (0, 0)) A) (xXc (fun E _ H => E = xExn (xBook S member machine on start minutes work).1 ∧ ¬ (xBook S member machine on start minutes work).1 = 0 ∧ ∃ z9, xRX G A S ad z9 H) A) 3 22 A := by
  refine vx_ofW (cc := cX1_book) (maxL := 7) (ret := (some .int)) (by decide) rfl ?_
  intro p e s m args below meth c s₁ B hml hnt hv
  obtain ⟨rfl, hWK, hR⟩ := hv
  have g := g1.1
  have hx := B.exec
  have hb := B.bytes
  have hr := B.returns
  have hts := atoms_spec (ws := ws_ yX1_book cX1_book 7 (some .int)) B.pre
  have hts : ∀ w ∈ lw_all, w.before _ s = true := fun w h => hts w (List.mem_cons_of_mem _ h)
  have hown : s.vm.findClass "Lendlathe" = some m.cls := findClass_of_methodNamed B.named
  have hlocks := B.notSynchronized
  have hK := hWK.K g
  have F : CallFix p m c cX1_book 7 s _ lw_all "Lendlathe" := ⟨hx, hb, hml, hown, hts⟩
  have hS : va_S A s.heap s.heap [] := va_S.rf
  have hl := lv_entry ([.ref (ad (0, 0)), .int member, .int machine, .int on, .int start, .int minutes, .int work]) (n := 7) (Nat.le_of_ble_eq_true rfl)
  rw [lg_entry_eq]
  generalize (lg_sl ([.ref (ad (0, 0)), .int member, .int machine, .int on, .int start, .int minutes, .int work]) ++ List.replicate (7 - (lg_sl ([.ref (ad (0, 0)), .int member, .int machine, .int on, .int start, .int minutes, .int work])).length) Slot.unset).toArray = ls at hl ⊢
  have hl : lv_has ls 7 [(0, .ref (ad (0, 0))), (1, .int member), (2, .int machine), (3, .int on), (4, .int start), (5, .int minutes), (6, .int work)] := hl
  have hn0 := hW.1.1
  have hn1 := hW.1.2.1
  have hn2 := hW.1.2.2.1
  have hn3 := hW.1.2.2.2.1
  have hn4 := hW.1.2.2.2.2
  refine lv_aload_n hx hb dX1_book_0 rfl (lv_at hl 0 rfl) ?_
  refine lv_iload_n hx hb dX1_book_1 rfl (lv_at hl 1 rfl) ?_
  refine lv_iload_n hx hb dX1_book_2 rfl (lv_at hl 2 rfl) ?_
  refine lv_iload_n hx hb dX1_book_3 rfl (lv_at hl 3 rfl) ?_
  refine lv_iload hx hb dX1_book_4 (lv_at hl 4 rfl) ?_
  refine lv_iload hx hb dX1_book_6 (lv_at hl 5 rfl) ?_
  refine lv_iload hx hb dX1_book_8 (lv_at hl 6 rfl) ?_
  rcases Decidable.em (xMayAsk S member machine on start minutes work = 0) with c_10 | c_10
  · refine xc_P0 (va_runV (As := [.int member, .int machine, .int on, .int start, .int minutes, .int work]) (rest := []) F (xX1_mayAsk_ok g1 (A := A) (S := S) (ad := ad) (z := z) member machine on start minutes work c_10) (cwV 6 hts (lw_V q999 q1001 qs21 q56 q1002) rfl rfl rfl hdV_X1_mayAsk ⟨Nat.le_of_ble_eq_true rfl, Nat.le_of_ble_eq_true rfl⟩) (xpreV (xrecv hK (xw_0 hR) rfl) hWK hS hR) rfl rfl hl.1 rfl (lv_room (Nat.le_of_ble_eq_true rfl)) dX1_book_10 ⟨Nat.le_of_ble_eq_true rfl, Nat.le_of_ble_eq_true rfl⟩) ?_
    obtain ⟨mj, hmj, rfl⟩ := inI_of' (n := S.1 1 0) (by first | rfl | decide) (by first | decide | omega) (xMayAsk_in c_10).1
    obtain ⟨qj, hqj, rfl⟩ := inI_of' (n := S.1 0 0) (by first | rfl | decide) (by first | decide | omega) (xMayAsk_in c_10).2
    have hwk := work_nar (xMayAsk_work c_10)
    refine lv_aload_n hx hb dX1_book_13 rfl (lv_at hl 0 rfl) ?_
    refine lv_iload_n hx hb dX1_book_14 rfl (lv_at hl 1 rfl) ?_
    refine lv_iload_n hx hb dX1_book_15 rfl (lv_at hl 2 rfl) ?_
    refine lv_iload_n hx hb dX1_book_16 rfl (lv_at hl 3 rfl) ?_
    refine lv_iload hx hb dX1_book_17 (lv_at hl 4 rfl) ?_
    refine lv_iload hx hb dX1_book_19 (lv_at hl 5 rfl) ?_
    refine lv_iload hx hb dX1_book_21 (lv_at hl 6 rfl) ?_
    refine xc_C (va_runV (As := [.int (nI mj), .int (nI qj), .int on, .int start, .int minutes, .int work]) (rest := []) F (xX1_checks g1 (A := A) (S := S) (ad := ad) (z := z) on start minutes work (xi_nI (n := (S.1 1 0)) (by omega) (by omega)) (xi_nI (n := (S.1 0 0)) (by omega) (by omega)) hW hA) (cwV 6 hts (lw_V q1014 q680 qs8 q56 q681) rfl rfl rfl hdV_X1_checks ⟨Nat.le_of_ble_eq_true rfl, Nat.le_of_ble_eq_true rfl⟩) (xpreV (xrecv hK (xw_0 hR) rfl) hWK hS hR) rfl rfl hl.1 rfl (lv_room (Nat.le_of_ble_eq_true rfl)) dX1_book_23 ⟨Nat.le_of_ble_eq_true rfl, Nat.le_of_ble_eq_true rfl⟩) hS (fun H locs hR1 hz hk hS => ?_)
    obtain ⟨z_23, hR⟩ := hR1
    rcases xLet_or S (nI mj) (nI qj) on start minutes work with hl9 | hl9 | hl9 | hl9
    · refine x_topi hl9 ?_
      refine lv_lookup (off := 34) (tgt := 60) hx hb dX1_book_26 (by decide) (by decide) rfl ?_
      have e9 : (xBook S (nI mj) (nI qj) on start minutes work).1 = 5 := by simp [xBook, c_10, hl9, nI_clamp (show mj < 2 ^ 31 by omega), nI_clamp (show qj < 2 ^ 31 by omega)]
      exact x_throw5 g1 hWK F hS hl.1 dX1_book_60 dX1_book_63 dX1_book_64 dX1_book_67 hnt hlocks (Nat.le_of_ble_eq_true rfl) (Nat.le_of_ble_eq_true rfl) (Nat.le_of_ble_eq_true rfl) (Nat.le_of_ble_eq_true rfl) (fun t9 _ hz9 hg9 => ⟨⟨(⟨rfl, hz9, hg9⟩ : xExn 5 = xExn 5 ∧ xGrow H t9.heap).1.trans (congrArg xExn e9).symm, (by rw [e9]; decide), z_23, hR.grow (⟨rfl, hz9, hg9⟩ : xExn 5 = xExn 5 ∧ xGrow H t9.heap).2⟩, (xGrow.S (⟨hz9, hg9⟩ : xGrow H t9.heap) hS).F rfl⟩) (Nat.le_of_ble_eq_true rfl) (Nat.le_of_ble_eq_true rfl)
    · refine x_topi hl9 ?_
      refine lv_lookup (off := 42) (tgt := 68) hx hb dX1_book_26 (by decide) (by decide) rfl ?_
      have e9 : (xBook S (nI mj) (nI qj) on start minutes work).1 = 6 := by simp [xBook, c_10, hl9, nI_clamp (show mj < 2 ^ 31 by omega), nI_clamp (show qj < 2 ^ 31 by omega)]
      exact x_throw6 g1 hWK F hS hl.1 dX1_book_68 dX1_book_71 dX1_book_72 dX1_book_75 hnt hlocks (Nat.le_of_ble_eq_true rfl) (Nat.le_of_ble_eq_true rfl) (Nat.le_of_ble_eq_true rfl) (Nat.le_of_ble_eq_true rfl) (fun t9 _ hz9 hg9 => ⟨⟨(⟨rfl, hz9, hg9⟩ : xExn 6 = xExn 6 ∧ xGrow H t9.heap).1.trans (congrArg xExn e9).symm, (by rw [e9]; decide), z_23, hR.grow (⟨rfl, hz9, hg9⟩ : xExn 6 = xExn 6 ∧ xGrow H t9.heap).2⟩, (xGrow.S (⟨hz9, hg9⟩ : xGrow H t9.heap) hS).F rfl⟩) (Nat.le_of_ble_eq_true rfl) (Nat.le_of_ble_eq_true rfl)
    · refine x_topi hl9 ?_
      refine lv_lookup (off := 50) (tgt := 76) hx hb dX1_book_26 (by decide) (by decide) rfl ?_
      have e9 : (xBook S (nI mj) (nI qj) on start minutes work).1 = 3 := by simp [xBook, c_10, hl9, nI_clamp (show mj < 2 ^ 31 by omega), nI_clamp (show qj < 2 ^ 31 by omega)]
      exact x_throw3 g1 hWK F hS hl.1 dX1_book_76 dX1_book_79 dX1_book_80 dX1_book_83 hnt hlocks (Nat.le_of_ble_eq_true rfl) (Nat.le_of_ble_eq_true rfl) (Nat.le_of_ble_eq_true rfl) (Nat.le_of_ble_eq_true rfl) (fun t9 _ hz9 hg9 => ⟨⟨(⟨rfl, hz9, hg9⟩ : xExn 3 = xExn 3 ∧ xGrow H t9.heap).1.trans (congrArg xExn e9).symm, (by rw [e9]; decide), z_23, hR.grow (⟨rfl, hz9, hg9⟩ : xExn 3 = xExn 3 ∧ xGrow H t9.heap).2⟩, (xGrow.S (⟨hz9, hg9⟩ : xGrow H t9.heap) hS).F rfl⟩) (Nat.le_of_ble_eq_true rfl) (Nat.le_of_ble_eq_true rfl)
    · refine x_topi hl9 ?_
      refine lv_lookup (off := 58) (tgt := 84) hx hb dX1_book_26 (by decide) (by decide) rfl ?_
      refine lv_aload_n hx hb dX1_book_84 rfl (lv_at hl 0 rfl) ?_
      refine g_X1_36 F hK (xw_0 hR) (v := .ref (ad (5, 0))) rfl dX1_book_85 ?_
      refine xc_P (va_runV (As := []) (rest := []) F (xJ2_size_23 g1 (A := A) (S := S) (ad := ad) (z := z_23) ) (cwV 0 hts (lw_V q510 q511 q512 q60 q513) rfl rfl rfl hdV_J2_size ⟨Nat.le_of_ble_eq_true rfl, Nat.le_of_ble_eq_true rfl⟩) (xpreV (xrecv hK (xw_5 hR) rfl) hWK hS hR) rfl rfl hl.1 rfl (lv_room (Nat.le_of_ble_eq_true rfl)) dX1_book_88 ⟨Nat.le_of_ble_eq_true rfl, Nat.le_of_ble_eq_true rfl⟩) ?_
      refine lv_sipush (v := 150) hx hb dX1_book_91 (by decide) ?_
      refine xn_ge (tgt := 101) (S.1 2 0) 150 rfl (by decide) (by omega) (by omega) hx hb dX1_book_94 (by decide) (fun c_94 => ?_) (fun c_94 => ?_)
      · have n_94 := Nat.not_lt.mpr c_94
        refine lv_iconst (v := 0) hx hb dX1_book_101 (by decide) ?_
        have e9 : (xBook S (nI mj) (nI qj) on start minutes work).1 = 2 := by simp [xBook, c_10, c_94, n_94, hl9, nI_clamp (show mj < 2 ^ 31 by omega), nI_clamp (show qj < 2 ^ 31 by omega)]
        exact xc_T (vx_runS (As := [.int 0]) (rest := []) F (xX1_ready_no g1 (A := A) false rfl) (va_cwS 1 hts (lw_S q769 q770 q56 q771) rfl rfl rfl hdS_X1_ready ⟨Nat.le_of_ble_eq_true rfl, Nat.le_of_ble_eq_true rfl⟩) (xpre hWK hS trivial) rfl rfl hl.1 rfl (lv_room (Nat.le_of_ble_eq_true rfl)) dX1_book_102 ⟨Nat.le_of_ble_eq_true rfl, Nat.le_of_ble_eq_true rfl⟩) hS (fun E ce q9 H locs hX hz hk hS hq9 hv9 hc9 => vx_out (fun x hx => (hnt x hx).elim) hlocks hq9 hv9 hc9 (fun t ht _ => ⟨by rw [ht]; exact ⟨hX.1.trans (congrArg xExn e9).symm, (by rw [e9]; decide), z_23, hR.grow hX.2⟩, hS.F ht⟩) hS.2.2 (Nat.le_of_ble_eq_true rfl) (Nat.le_of_ble_eq_true rfl))
      · have n_94 := Nat.not_le.mpr c_94
        refine lv_iconst (v := 1) hx hb dX1_book_97 (by decide) ?_
        refine lv_goto (tgt := 102) hx hb dX1_book_98 (by decide) ?_
        refine xc_P0 (va_runS (As := [.int 1]) (rest := []) F (xX1_ready_ok g1 (A := A) true rfl) (va_cwS 1 hts (lw_S q769 q770 q56 q771) rfl rfl rfl hdS_X1_ready ⟨Nat.le_of_ble_eq_true rfl, Nat.le_of_ble_eq_true rfl⟩) (xpre hWK hS trivial) rfl rfl hl.1 rfl (lv_room (Nat.le_of_ble_eq_true rfl)) dX1_book_102 ⟨Nat.le_of_ble_eq_true rfl, Nat.le_of_ble_eq_true rfl⟩) ?_
        refine lv_aload_n hx hb dX1_book_105 rfl (lv_at hl 0 rfl) ?_
        refine lv_iload_n hx hb dX1_book_106 rfl (lv_at hl 1 rfl) ?_
        refine lv_iload_n hx hb dX1_book_107 rfl (lv_at hl 2 rfl) ?_
        refine lv_iload_n hx hb dX1_book_108 rfl (lv_at hl 3 rfl) ?_
        refine lv_iload hx hb dX1_book_109 (lv_at hl 4 rfl) ?_
        refine lv_iload hx hb dX1_book_111 (lv_at hl 5 rfl) ?_
        refine lv_iload hx hb dX1_book_113 (lv_at hl 6 rfl) ?_
        refine lv_bipush (v := 98) hx hb dX1_book_115 (by decide) ?_
        refine xc_C (va_runV (As := [.int (nI mj), .int (nI qj), .int on, .int start, .int minutes, .int work, .int 98]) (rest := []) F (xX1_enters g1 (A := A) (S := S) (ad := ad) (z := z_23) (nI mj) (nI qj) on start minutes work 98 hW hA (vp_in_nI hmj (by omega)) (vp_in_nI hqj (by omega)) (by omega) hwk rfl) (cwV 7 hts (lw_V q1022 q1024 qs24 q56 q1025) rfl rfl rfl hdV_X1_enters ⟨Nat.le_of_ble_eq_true rfl, Nat.le_of_ble_eq_true rfl⟩) (xpreV (xrecv hK (xw_0 hR) rfl) hWK hS hR) rfl rfl hl.1 rfl (lv_room (Nat.le_of_ble_eq_true rfl)) dX1_book_117 ⟨Nat.le_of_ble_eq_true rfl, Nat.le_of_ble_eq_true rfl⟩) hS (fun H locs hR1 hz hk hS => ?_)
        obtain ⟨ad9, z_9, hR, e00⟩ := hR1
        have e9 : xBook S (nI mj) (nI qj) on start minutes work = (0, nI (S.1 2 0 + 1) - 1, (xEnters S (nI mj) (nI qj) on start minutes work 98)) := by simp [xBook, c_10, c_94, n_94, hl9, nI_clamp (show mj < 2 ^ 31 by omega), nI_clamp (show qj < 2 ^ 31 by omega)]
        exact vx_ret (xr_Ci hx hb hr hlocks ((congrArg (fun q => q.2.1) e9).symm) (⟨congrArg Prod.fst e9, ad9, z_9, by rw [show (xBook S (nI mj) (nI qj) on start minutes work).2.2 = (xEnters S (nI mj) (nI qj) on start minutes work 98) from congrArg (fun q => q.2.2) e9]; exact hR, e00⟩) hS (by first | omega | decide) (by first | omega | decide) dX1_book_120)
  · have e9 : (xBook S member machine on start minutes work).1 = xMayAsk S member machine on start minutes work := by simp [xBook, c_10]
    exact xc_T (vx_runV (As := [.int member, .int machine, .int on, .int start, .int minutes, .int work]) (rest := []) F (xX1_mayAsk_no g1 (A := A) (S := S) (ad := ad) (z := z) member machine on start minutes work c_10) (cwV 6 hts (lw_V q999 q1001 qs21 q56 q1002) rfl rfl rfl hdV_X1_mayAsk ⟨Nat.le_of_ble_eq_true rfl, Nat.le_of_ble_eq_true rfl⟩) (xpreV (xrecv hK (xw_0 hR) rfl) hWK hS hR) rfl rfl hl.1 rfl (lv_room (Nat.le_of_ble_eq_true rfl)) dX1_book_10 ⟨Nat.le_of_ble_eq_true rfl, Nat.le_of_ble_eq_true rfl⟩) hS (fun E ce q9 H locs hX hz hk hS hq9 hv9 hc9 => vx_out (fun x hx => (hnt x hx).elim) hlocks hq9 hv9 hc9 (fun t ht _ => ⟨by rw [ht]; exact ⟨hX.1.trans (congrArg xExn e9).symm, (by rw [e9]; exact c_10), z, hR.grow hX.2⟩, hS.F ht⟩) hS.2.2 (Nat.le_of_ble_eq_true rfl) (Nat.le_of_ble_eq_true rfl))

set_option maxHeartbeats 4000000 in
theorem xX1_await {l : Launch} {G : xG} {s0 : State} {b0 : Nat} (g1 : xG1 l G s0 b0) {A : Nat → Prop} {S : xS} {ad : Nat × Nat → Nat} {z : xZ} (member machine on start minutes work : Int32) (hW : xW S) (hA : ∃ rk, rkOK S.2.1 rk ∧ ∀ i, rk i < 4) : vx_Met l yX1_await (ws_ yX1_await cX1_await 8 (some .int)) ({ frames := 12, cells := 3, slots := 22, locals := 327 } : Room) (xP s0 A [.ref (ad (0, 0)), .int member, .int machine, .int on, .int start, .int minutes, .int work] (fun H => xRX G A S ad z H)) (xQc (some (.int ((xAwait S member machine on start minutes work).2.1))) (fun _ H => (xAwait S member machine on start minutes work).1 = 0 ∧ ∃ ad9 z9, xRX G A (xAwait S member machine on start minutes work).2.2 ad9 z9 H ∧ ad9 (0, 0) = ad (0, 0)) A) (xXc (fun E _ H => E = xExn (xAwait S member machine on start minutes work).1 ∧ ¬ (xAwait S member machine on start minutes work).1 = 0 ∧ ∃ z9, xRX G A S ad z9 H) A) 3 22 A := by
  refine vx_ofW (cc := cX1_await) (maxL := 8) (ret := (some .int)) (by decide) rfl ?_
  intro p e s m args below meth c s₁ B hml hnt hv
  obtain ⟨rfl, hWK, hR⟩ := hv
  have g := g1.1
  have hx := B.exec
  have hb := B.bytes
  have hr := B.returns
  have hts := atoms_spec (ws := ws_ yX1_await cX1_await 8 (some .int)) B.pre
  have hts : ∀ w ∈ lw_all, w.before _ s = true := fun w h => hts w (List.mem_cons_of_mem _ h)
  have hown : s.vm.findClass "Lendlathe" = some m.cls := findClass_of_methodNamed B.named
  have hlocks := B.notSynchronized
  have hK := hWK.K g
  have F : CallFix p m c cX1_await 8 s _ lw_all "Lendlathe" := ⟨hx, hb, hml, hown, hts⟩
  have hS : va_S A s.heap s.heap [] := va_S.rf
  have hl := lv_entry ([.ref (ad (0, 0)), .int member, .int machine, .int on, .int start, .int minutes, .int work]) (n := 8) (Nat.le_of_ble_eq_true rfl)
  rw [lg_entry_eq]
  generalize (lg_sl ([.ref (ad (0, 0)), .int member, .int machine, .int on, .int start, .int minutes, .int work]) ++ List.replicate (8 - (lg_sl ([.ref (ad (0, 0)), .int member, .int machine, .int on, .int start, .int minutes, .int work])).length) Slot.unset).toArray = ls at hl ⊢
  have hl : lv_has ls 8 [(0, .ref (ad (0, 0))), (1, .int member), (2, .int machine), (3, .int on), (4, .int start), (5, .int minutes), (6, .int work)] := hl
  have hn0 := hW.1.1
  have hn1 := hW.1.2.1
  have hn2 := hW.1.2.2.1
  have hn3 := hW.1.2.2.2.1
  have hn4 := hW.1.2.2.2.2
  refine lv_aload_n hx hb dX1_await_0 rfl (lv_at hl 0 rfl) ?_
  refine lv_iload_n hx hb dX1_await_1 rfl (lv_at hl 1 rfl) ?_
  refine lv_iload_n hx hb dX1_await_2 rfl (lv_at hl 2 rfl) ?_
  refine lv_iload_n hx hb dX1_await_3 rfl (lv_at hl 3 rfl) ?_
  refine lv_iload hx hb dX1_await_4 (lv_at hl 4 rfl) ?_
  refine lv_iload hx hb dX1_await_6 (lv_at hl 5 rfl) ?_
  refine lv_iload hx hb dX1_await_8 (lv_at hl 6 rfl) ?_
  rcases Decidable.em (xMayAsk S member machine on start minutes work = 0) with c_10 | c_10
  · refine xc_P0 (va_runV (As := [.int member, .int machine, .int on, .int start, .int minutes, .int work]) (rest := []) F (xX1_mayAsk_ok g1 (A := A) (S := S) (ad := ad) (z := z) member machine on start minutes work c_10) (cwV 6 hts (lw_V q999 q1001 qs21 q56 q1002) rfl rfl rfl hdV_X1_mayAsk ⟨Nat.le_of_ble_eq_true rfl, Nat.le_of_ble_eq_true rfl⟩) (xpreV (xrecv hK (xw_0 hR) rfl) hWK hS hR) rfl rfl hl.1 rfl (lv_room (Nat.le_of_ble_eq_true rfl)) dX1_await_10 ⟨Nat.le_of_ble_eq_true rfl, Nat.le_of_ble_eq_true rfl⟩) ?_
    obtain ⟨mj, hmj, rfl⟩ := inI_of' (n := S.1 1 0) (by first | rfl | decide) (by first | decide | omega) (xMayAsk_in c_10).1
    obtain ⟨qj, hqj, rfl⟩ := inI_of' (n := S.1 0 0) (by first | rfl | decide) (by first | decide | omega) (xMayAsk_in c_10).2
    have hwk := work_nar (xMayAsk_work c_10)
    refine lv_aload_n hx hb dX1_await_13 rfl (lv_at hl 0 rfl) ?_
    refine lv_iload_n hx hb dX1_await_14 rfl (lv_at hl 1 rfl) ?_
    refine lv_iload_n hx hb dX1_await_15 rfl (lv_at hl 2 rfl) ?_
    refine lv_iload_n hx hb dX1_await_16 rfl (lv_at hl 3 rfl) ?_
    refine lv_iload hx hb dX1_await_17 (lv_at hl 4 rfl) ?_
    refine lv_iload hx hb dX1_await_19 (lv_at hl 5 rfl) ?_
    refine lv_iload hx hb dX1_await_21 (lv_at hl 6 rfl) ?_
    refine xc_C (va_runV (As := [.int (nI mj), .int (nI qj), .int on, .int start, .int minutes, .int work]) (rest := []) F (xX1_checks g1 (A := A) (S := S) (ad := ad) (z := z) on start minutes work (xi_nI (n := (S.1 1 0)) (by omega) (by omega)) (xi_nI (n := (S.1 0 0)) (by omega) (by omega)) hW hA) (cwV 6 hts (lw_V q1014 q680 qs8 q56 q681) rfl rfl rfl hdV_X1_checks ⟨Nat.le_of_ble_eq_true rfl, Nat.le_of_ble_eq_true rfl⟩) (xpreV (xrecv hK (xw_0 hR) rfl) hWK hS hR) rfl rfl hl.1 rfl (lv_room (Nat.le_of_ble_eq_true rfl)) dX1_await_23 ⟨Nat.le_of_ble_eq_true rfl, Nat.le_of_ble_eq_true rfl⟩) hS (fun H locs hR1 hz hk hS => ?_)
    obtain ⟨z_23, hR⟩ := hR1
    rcases xLet_or S (nI mj) (nI qj) on start minutes work with hl9 | hl9 | hl9 | hl9
    · refine x_topi hl9 ?_
      refine lv_istore (lv' := [(7, .int 105), (0, .ref (ad (0, 0))), (1, .int (nI mj)), (2, .int (nI qj)), (3, .int on), (4, .int start), (5, .int minutes), (6, .int work)]) hx hb dX1_await_26 hl (by decide) rfl (fun ls hl => ?_)
      refine lv_iload hx hb dX1_await_28 (lv_at hl 0 rfl) ?_
      refine lv_bipush (v := 105) hx hb dX1_await_30 (by decide) ?_
      refine lv_icmp_ne (tgt := 43) hx hb dX1_await_32 (by decide) (fun c_32 => (by first | exact absurd c_32 (by decide) | exact absurd (by decide) c_32)) (fun c_32 => ?_)
      have e9 : (xAwait S (nI mj) (nI qj) on start minutes work).1 = 5 := by simp [xAwait, c_10, hl9, nI_clamp (show mj < 2 ^ 31 by omega), nI_clamp (show qj < 2 ^ 31 by omega)]
      exact x_throw5 g1 hWK F hS hl.1 dX1_await_35 dX1_await_38 dX1_await_39 dX1_await_42 hnt hlocks (Nat.le_of_ble_eq_true rfl) (Nat.le_of_ble_eq_true rfl) (Nat.le_of_ble_eq_true rfl) (Nat.le_of_ble_eq_true rfl) (fun t9 _ hz9 hg9 => ⟨⟨(⟨rfl, hz9, hg9⟩ : xExn 5 = xExn 5 ∧ xGrow H t9.heap).1.trans (congrArg xExn e9).symm, (by rw [e9]; decide), z_23, hR.grow (⟨rfl, hz9, hg9⟩ : xExn 5 = xExn 5 ∧ xGrow H t9.heap).2⟩, (xGrow.S (⟨hz9, hg9⟩ : xGrow H t9.heap) hS).F rfl⟩) (Nat.le_of_ble_eq_true rfl) (Nat.le_of_ble_eq_true rfl)
    · refine x_topi hl9 ?_
      refine lv_istore (lv' := [(7, .int 109), (0, .ref (ad (0, 0))), (1, .int (nI mj)), (2, .int (nI qj)), (3, .int on), (4, .int start), (5, .int minutes), (6, .int work)]) hx hb dX1_await_26 hl (by decide) rfl (fun ls hl => ?_)
      refine lv_iload hx hb dX1_await_28 (lv_at hl 0 rfl) ?_
      refine lv_bipush (v := 105) hx hb dX1_await_30 (by decide) ?_
      refine lv_icmp_ne (tgt := 43) hx hb dX1_await_32 (by decide) (fun c_32 => ?_) (fun c_32 => (by first | exact absurd c_32 (by decide) | exact absurd (by decide) c_32))
      refine lv_iload hx hb dX1_await_43 (lv_at hl 0 rfl) ?_
      refine lv_bipush (v := 111) hx hb dX1_await_45 (by decide) ?_
      refine lv_icmp_eq (tgt := 67) hx hb dX1_await_47 (by decide) (fun c_47 => (by first | exact absurd c_47 (by decide) | exact absurd (by decide) c_47)) (fun c_47 => ?_)
      refine lv_aload_n hx hb dX1_await_50 rfl (lv_at hl 1 rfl) ?_
      refine g_X1_36 F hK (xw_0 hR) (v := .ref (ad (5, 0))) rfl dX1_await_51 ?_
      refine xc_P (va_runV (As := []) (rest := []) F (xJ2_size_23 g1 (A := A) (S := S) (ad := ad) (z := z_23) ) (cwV 0 hts (lw_V q510 q511 q512 q60 q513) rfl rfl rfl hdV_J2_size ⟨Nat.le_of_ble_eq_true rfl, Nat.le_of_ble_eq_true rfl⟩) (xpreV (xrecv hK (xw_5 hR) rfl) hWK hS hR) rfl rfl hl.1 rfl (lv_room (Nat.le_of_ble_eq_true rfl)) dX1_await_54 ⟨Nat.le_of_ble_eq_true rfl, Nat.le_of_ble_eq_true rfl⟩) ?_
      refine lv_sipush (v := 150) hx hb dX1_await_57 (by decide) ?_
      refine xn_ge (tgt := 67) (S.1 2 0) 150 rfl (by decide) (by omega) (by omega) hx hb dX1_await_60 (by decide) (fun c_60 => ?_) (fun c_60 => ?_)
      · have n_60 := Nat.not_lt.mpr c_60
        refine lv_iconst (v := 0) hx hb dX1_await_67 (by decide) ?_
        have e9 : (xAwait S (nI mj) (nI qj) on start minutes work).1 = 2 := by simp [xAwait, c_10, c_60, n_60, hl9, nI_clamp (show mj < 2 ^ 31 by omega), nI_clamp (show qj < 2 ^ 31 by omega)]
        exact xc_T (vx_runS (As := [.int 0]) (rest := []) F (xX1_ready_no g1 (A := A) false rfl) (va_cwS 1 hts (lw_S q769 q770 q56 q771) rfl rfl rfl hdS_X1_ready ⟨Nat.le_of_ble_eq_true rfl, Nat.le_of_ble_eq_true rfl⟩) (xpre hWK hS trivial) rfl rfl hl.1 rfl (lv_room (Nat.le_of_ble_eq_true rfl)) dX1_await_68 ⟨Nat.le_of_ble_eq_true rfl, Nat.le_of_ble_eq_true rfl⟩) hS (fun E ce q9 H locs hX hz hk hS hq9 hv9 hc9 => vx_out (fun x hx => (hnt x hx).elim) hlocks hq9 hv9 hc9 (fun t ht _ => ⟨by rw [ht]; exact ⟨hX.1.trans (congrArg xExn e9).symm, (by rw [e9]; decide), z_23, hR.grow hX.2⟩, hS.F ht⟩) hS.2.2 (Nat.le_of_ble_eq_true rfl) (Nat.le_of_ble_eq_true rfl))
      · have n_60 := Nat.not_le.mpr c_60
        refine lv_iconst (v := 1) hx hb dX1_await_63 (by decide) ?_
        refine lv_goto (tgt := 68) hx hb dX1_await_64 (by decide) ?_
        refine xc_P0 (va_runS (As := [.int 1]) (rest := []) F (xX1_ready_ok g1 (A := A) true rfl) (va_cwS 1 hts (lw_S q769 q770 q56 q771) rfl rfl rfl hdS_X1_ready ⟨Nat.le_of_ble_eq_true rfl, Nat.le_of_ble_eq_true rfl⟩) (xpre hWK hS trivial) rfl rfl hl.1 rfl (lv_room (Nat.le_of_ble_eq_true rfl)) dX1_await_68 ⟨Nat.le_of_ble_eq_true rfl, Nat.le_of_ble_eq_true rfl⟩) ?_
        refine lv_aload_n hx hb dX1_await_71 rfl (lv_at hl 1 rfl) ?_
        refine lv_iload_n hx hb dX1_await_72 rfl (lv_at hl 2 rfl) ?_
        refine lv_iload_n hx hb dX1_await_73 rfl (lv_at hl 3 rfl) ?_
        refine lv_iload_n hx hb dX1_await_74 rfl (lv_at hl 4 rfl) ?_
        refine lv_iload hx hb dX1_await_75 (lv_at hl 5 rfl) ?_
        refine lv_iload hx hb dX1_await_77 (lv_at hl 6 rfl) ?_
        refine lv_iload hx hb dX1_await_79 (lv_at hl 7 rfl) ?_
        refine lv_bipush (v := 119) hx hb dX1_await_81 (by decide) ?_
        refine xc_C (va_runV (As := [.int (nI mj), .int (nI qj), .int on, .int start, .int minutes, .int work, .int 119]) (rest := []) F (xX1_enters g1 (A := A) (S := S) (ad := ad) (z := z_23) (nI mj) (nI qj) on start minutes work 119 hW hA (vp_in_nI hmj (by omega)) (vp_in_nI hqj (by omega)) (by omega) hwk rfl) (cwV 7 hts (lw_V q1022 q1024 qs24 q56 q1025) rfl rfl rfl hdV_X1_enters ⟨Nat.le_of_ble_eq_true rfl, Nat.le_of_ble_eq_true rfl⟩) (xpreV (xrecv hK (xw_0 hR) rfl) hWK hS hR) rfl rfl hl.1 rfl (lv_room (Nat.le_of_ble_eq_true rfl)) dX1_await_83 ⟨Nat.le_of_ble_eq_true rfl, Nat.le_of_ble_eq_true rfl⟩) hS (fun H locs hR1 hz hk hS => ?_)
        obtain ⟨ad9, z_9, hR, e00⟩ := hR1
        have e9 : xAwait S (nI mj) (nI qj) on start minutes work = (0, nI (S.1 2 0 + 1) - 1, (xEnters S (nI mj) (nI qj) on start minutes work 119)) := by simp [xAwait, c_10, c_60, n_60, hl9, nI_clamp (show mj < 2 ^ 31 by omega), nI_clamp (show qj < 2 ^ 31 by omega)]
        exact vx_ret (xr_Ci hx hb hr hlocks ((congrArg (fun q => q.2.1) e9).symm) (⟨congrArg Prod.fst e9, ad9, z_9, by rw [show (xAwait S (nI mj) (nI qj) on start minutes work).2.2 = (xEnters S (nI mj) (nI qj) on start minutes work 119) from congrArg (fun q => q.2.2) e9]; exact hR, e00⟩) hS (by first | omega | decide) (by first | omega | decide) dX1_await_86)
    · refine x_topi hl9 ?_
      refine lv_istore (lv' := [(7, .int 116), (0, .ref (ad (0, 0))), (1, .int (nI mj)), (2, .int (nI qj)), (3, .int on), (4, .int start), (5, .int minutes), (6, .int work)]) hx hb dX1_await_26 hl (by decide) rfl (fun ls hl => ?_)
      refine lv_iload hx hb dX1_await_28 (lv_at hl 0 rfl) ?_
      refine lv_bipush (v := 105) hx hb dX1_await_30 (by decide) ?_
      refine lv_icmp_ne (tgt := 43) hx hb dX1_await_32 (by decide) (fun c_32 => ?_) (fun c_32 => (by first | exact absurd c_32 (by decide) | exact absurd (by decide) c_32))
      refine lv_iload hx hb dX1_await_43 (lv_at hl 0 rfl) ?_
      refine lv_bipush (v := 111) hx hb dX1_await_45 (by decide) ?_
      refine lv_icmp_eq (tgt := 67) hx hb dX1_await_47 (by decide) (fun c_47 => (by first | exact absurd c_47 (by decide) | exact absurd (by decide) c_47)) (fun c_47 => ?_)
      refine lv_aload_n hx hb dX1_await_50 rfl (lv_at hl 1 rfl) ?_
      refine g_X1_36 F hK (xw_0 hR) (v := .ref (ad (5, 0))) rfl dX1_await_51 ?_
      refine xc_P (va_runV (As := []) (rest := []) F (xJ2_size_23 g1 (A := A) (S := S) (ad := ad) (z := z_23) ) (cwV 0 hts (lw_V q510 q511 q512 q60 q513) rfl rfl rfl hdV_J2_size ⟨Nat.le_of_ble_eq_true rfl, Nat.le_of_ble_eq_true rfl⟩) (xpreV (xrecv hK (xw_5 hR) rfl) hWK hS hR) rfl rfl hl.1 rfl (lv_room (Nat.le_of_ble_eq_true rfl)) dX1_await_54 ⟨Nat.le_of_ble_eq_true rfl, Nat.le_of_ble_eq_true rfl⟩) ?_
      refine lv_sipush (v := 150) hx hb dX1_await_57 (by decide) ?_
      refine xn_ge (tgt := 67) (S.1 2 0) 150 rfl (by decide) (by omega) (by omega) hx hb dX1_await_60 (by decide) (fun c_60 => ?_) (fun c_60 => ?_)
      · have n_60 := Nat.not_lt.mpr c_60
        refine lv_iconst (v := 0) hx hb dX1_await_67 (by decide) ?_
        have e9 : (xAwait S (nI mj) (nI qj) on start minutes work).1 = 2 := by simp [xAwait, c_10, c_60, n_60, hl9, nI_clamp (show mj < 2 ^ 31 by omega), nI_clamp (show qj < 2 ^ 31 by omega)]
        exact xc_T (vx_runS (As := [.int 0]) (rest := []) F (xX1_ready_no g1 (A := A) false rfl) (va_cwS 1 hts (lw_S q769 q770 q56 q771) rfl rfl rfl hdS_X1_ready ⟨Nat.le_of_ble_eq_true rfl, Nat.le_of_ble_eq_true rfl⟩) (xpre hWK hS trivial) rfl rfl hl.1 rfl (lv_room (Nat.le_of_ble_eq_true rfl)) dX1_await_68 ⟨Nat.le_of_ble_eq_true rfl, Nat.le_of_ble_eq_true rfl⟩) hS (fun E ce q9 H locs hX hz hk hS hq9 hv9 hc9 => vx_out (fun x hx => (hnt x hx).elim) hlocks hq9 hv9 hc9 (fun t ht _ => ⟨by rw [ht]; exact ⟨hX.1.trans (congrArg xExn e9).symm, (by rw [e9]; decide), z_23, hR.grow hX.2⟩, hS.F ht⟩) hS.2.2 (Nat.le_of_ble_eq_true rfl) (Nat.le_of_ble_eq_true rfl))
      · have n_60 := Nat.not_le.mpr c_60
        refine lv_iconst (v := 1) hx hb dX1_await_63 (by decide) ?_
        refine lv_goto (tgt := 68) hx hb dX1_await_64 (by decide) ?_
        refine xc_P0 (va_runS (As := [.int 1]) (rest := []) F (xX1_ready_ok g1 (A := A) true rfl) (va_cwS 1 hts (lw_S q769 q770 q56 q771) rfl rfl rfl hdS_X1_ready ⟨Nat.le_of_ble_eq_true rfl, Nat.le_of_ble_eq_true rfl⟩) (xpre hWK hS trivial) rfl rfl hl.1 rfl (lv_room (Nat.le_of_ble_eq_true rfl)) dX1_await_68 ⟨Nat.le_of_ble_eq_true rfl, Nat.le_of_ble_eq_true rfl⟩) ?_
        refine lv_aload_n hx hb dX1_await_71 rfl (lv_at hl 1 rfl) ?_
        refine lv_iload_n hx hb dX1_await_72 rfl (lv_at hl 2 rfl) ?_
        refine lv_iload_n hx hb dX1_await_73 rfl (lv_at hl 3 rfl) ?_
        refine lv_iload_n hx hb dX1_await_74 rfl (lv_at hl 4 rfl) ?_
        refine lv_iload hx hb dX1_await_75 (lv_at hl 5 rfl) ?_
        refine lv_iload hx hb dX1_await_77 (lv_at hl 6 rfl) ?_
        refine lv_iload hx hb dX1_await_79 (lv_at hl 7 rfl) ?_
        refine lv_bipush (v := 119) hx hb dX1_await_81 (by decide) ?_
        refine xc_C (va_runV (As := [.int (nI mj), .int (nI qj), .int on, .int start, .int minutes, .int work, .int 119]) (rest := []) F (xX1_enters g1 (A := A) (S := S) (ad := ad) (z := z_23) (nI mj) (nI qj) on start minutes work 119 hW hA (vp_in_nI hmj (by omega)) (vp_in_nI hqj (by omega)) (by omega) hwk rfl) (cwV 7 hts (lw_V q1022 q1024 qs24 q56 q1025) rfl rfl rfl hdV_X1_enters ⟨Nat.le_of_ble_eq_true rfl, Nat.le_of_ble_eq_true rfl⟩) (xpreV (xrecv hK (xw_0 hR) rfl) hWK hS hR) rfl rfl hl.1 rfl (lv_room (Nat.le_of_ble_eq_true rfl)) dX1_await_83 ⟨Nat.le_of_ble_eq_true rfl, Nat.le_of_ble_eq_true rfl⟩) hS (fun H locs hR1 hz hk hS => ?_)
        obtain ⟨ad9, z_9, hR, e00⟩ := hR1
        have e9 : xAwait S (nI mj) (nI qj) on start minutes work = (0, nI (S.1 2 0 + 1) - 1, (xEnters S (nI mj) (nI qj) on start minutes work 119)) := by simp [xAwait, c_10, c_60, n_60, hl9, nI_clamp (show mj < 2 ^ 31 by omega), nI_clamp (show qj < 2 ^ 31 by omega)]
        exact vx_ret (xr_Ci hx hb hr hlocks ((congrArg (fun q => q.2.1) e9).symm) (⟨congrArg Prod.fst e9, ad9, z_9, by rw [show (xAwait S (nI mj) (nI qj) on start minutes work).2.2 = (xEnters S (nI mj) (nI qj) on start minutes work 119) from congrArg (fun q => q.2.2) e9]; exact hR, e00⟩) hS (by first | omega | decide) (by first | omega | decide) dX1_await_86)
    · refine x_topi hl9 ?_
      refine lv_istore (lv' := [(7, .int 111), (0, .ref (ad (0, 0))), (1, .int (nI mj)), (2, .int (nI qj)), (3, .int on), (4, .int start), (5, .int minutes), (6, .int work)]) hx hb dX1_await_26 hl (by decide) rfl (fun ls hl => ?_)
      refine lv_iload hx hb dX1_await_28 (lv_at hl 0 rfl) ?_
      refine lv_bipush (v := 105) hx hb dX1_await_30 (by decide) ?_
      refine lv_icmp_ne (tgt := 43) hx hb dX1_await_32 (by decide) (fun c_32 => ?_) (fun c_32 => (by first | exact absurd c_32 (by decide) | exact absurd (by decide) c_32))
      refine lv_iload hx hb dX1_await_43 (lv_at hl 0 rfl) ?_
      refine lv_bipush (v := 111) hx hb dX1_await_45 (by decide) ?_
      refine lv_icmp_eq (tgt := 67) hx hb dX1_await_47 (by decide) (fun c_47 => ?_) (fun c_47 => (by first | exact absurd c_47 (by decide) | exact absurd (by decide) c_47))
      refine lv_iconst (v := 0) hx hb dX1_await_67 (by decide) ?_
      have e9 : (xAwait S (nI mj) (nI qj) on start minutes work).1 = 2 := by simp [xAwait, c_10, hl9, nI_clamp (show mj < 2 ^ 31 by omega), nI_clamp (show qj < 2 ^ 31 by omega)]
      exact xc_T (vx_runS (As := [.int 0]) (rest := []) F (xX1_ready_no g1 (A := A) false rfl) (va_cwS 1 hts (lw_S q769 q770 q56 q771) rfl rfl rfl hdS_X1_ready ⟨Nat.le_of_ble_eq_true rfl, Nat.le_of_ble_eq_true rfl⟩) (xpre hWK hS trivial) rfl rfl hl.1 rfl (lv_room (Nat.le_of_ble_eq_true rfl)) dX1_await_68 ⟨Nat.le_of_ble_eq_true rfl, Nat.le_of_ble_eq_true rfl⟩) hS (fun E ce q9 H locs hX hz hk hS hq9 hv9 hc9 => vx_out (fun x hx => (hnt x hx).elim) hlocks hq9 hv9 hc9 (fun t ht _ => ⟨by rw [ht]; exact ⟨hX.1.trans (congrArg xExn e9).symm, (by rw [e9]; decide), z_23, hR.grow hX.2⟩, hS.F ht⟩) hS.2.2 (Nat.le_of_ble_eq_true rfl) (Nat.le_of_ble_eq_true rfl))
  · have e9 : (xAwait S member machine on start minutes work).1 = xMayAsk S member machine on start minutes work := by simp [xAwait, c_10]
    exact xc_T (vx_runV (As := [.int member, .int machine, .int on, .int start, .int minutes, .int work]) (rest := []) F (xX1_mayAsk_no g1 (A := A) (S := S) (ad := ad) (z := z) member machine on start minutes work c_10) (cwV 6 hts (lw_V q999 q1001 qs21 q56 q1002) rfl rfl rfl hdV_X1_mayAsk ⟨Nat.le_of_ble_eq_true rfl, Nat.le_of_ble_eq_true rfl⟩) (xpreV (xrecv hK (xw_0 hR) rfl) hWK hS hR) rfl rfl hl.1 rfl (lv_room (Nat.le_of_ble_eq_true rfl)) dX1_await_10 ⟨Nat.le_of_ble_eq_true rfl, Nat.le_of_ble_eq_true rfl⟩) hS (fun E ce q9 H locs hX hz hk hS hq9 hv9 hc9 => vx_out (fun x hx => (hnt x hx).elim) hlocks hq9 hv9 hc9 (fun t ht _ => ⟨by rw [ht]; exact ⟨hX.1.trans (congrArg xExn e9).symm, (by rw [e9]; exact c_10), z, hR.grow hX.2⟩, hS.F ht⟩) hS.2.2 (Nat.le_of_ble_eq_true rfl) (Nat.le_of_ble_eq_true rfl))

