/-! contracts (printed by gen/mx8.py) -/
set_option maxRecDepth 100000
set_option maxHeartbeats 4000000 in
theorem xX11_extra {l : Launch} {G : xG} {s0 : State} {b0 : Nat} (g1 : xG1 l G s0 b0) {A : Nat → Prop} {S : xS} {ad : Nat × Nat → Nat} {z : xZ} (en : Nat) (he : en < S.1 2 0) : Met l yX11_extra (ws_ yX11_extra cX11_extra 1 (some .int)) ({ frames := 0, cells := 0, slots := 0, locals := 0 } : Room) (xP s0 A [.ref (ad (23, en))] (fun H => xRX G A S ad z H)) (xQp (some (.int 0))) 0 0 (fun _ => False) := by
  refine Met.ofW (cc := cX11_extra) (maxL := 1) (ret := (some .int)) (by decide) rfl ?_
  intro p e s m args below meth c s₁ B hml hv
  obtain ⟨rfl, hWK, hR⟩ := hv
  have g := g1.1
  have hx := B.exec
  have hb := B.bytes
  have hr := B.returns
  have hts := atoms_spec (ws := ws_ yX11_extra cX11_extra 1 (some .int)) B.pre
  have hts : ∀ w ∈ lw_all, w.before _ s = true := fun w h => hts w (List.mem_cons_of_mem _ h)
  have hown : s.vm.findClass "Lendlathe$Costing" = some m.cls := findClass_of_methodNamed B.named
  have hlocks := B.notSynchronized
  have hK := hWK.K g
  have F : CallFix p m c cX11_extra 1 s _ lw_all "Lendlathe$Costing" := ⟨hx, hb, hml, hown, hts⟩
  have hS : va_S A s.heap s.heap [] := va_S.rf
  have hl := lv_entry ([.ref (ad (23, en))]) (n := 1) (Nat.le_of_ble_eq_true rfl)
  rw [lg_entry_eq]
  generalize (lg_sl ([.ref (ad (23, en))]) ++ List.replicate (1 - (lg_sl ([.ref (ad (23, en))])).length) Slot.unset).toArray = ls at hl ⊢
  have hl : lv_has ls 1 [(0, .ref (ad (23, en)))] := hl
  refine lv_iconst (v := 0) hx hb dX11_extra_0 (by decide) ?_
  exact xr_Pi hx hb hr hlocks (rfl) dX11_extra_1

set_option maxHeartbeats 4000000 in
theorem xX8_extra {l : Launch} {G : xG} {s0 : State} {b0 : Nat} (g1 : xG1 l G s0 b0) {A : Nat → Prop} {S : xS} {ad : Nat × Nat → Nat} {z : xZ} (en : Nat) (he : en < S.1 2 0) (hW : xW S) : Met l yX8_extra (ws_ yX8_extra cX8_extra 3 (some .int)) ({ frames := 3, cells := 0, slots := 0, locals := 64 } : Room) (xP s0 A [.ref (ad (23, en))] (fun H => xRX G A S ad z H)) (xQp (some (.int (xExtra S en (S.1 6 en))))) 0 0 (fun _ => False) := by
  refine Met.ofW (cc := cX8_extra) (maxL := 3) (ret := (some .int)) (by decide) rfl ?_
  intro p e s m args below meth c s₁ B hml hv
  obtain ⟨rfl, hWK, hR⟩ := hv
  have g := g1.1
  have hx := B.exec
  have hb := B.bytes
  have hr := B.returns
  have hts := atoms_spec (ws := ws_ yX8_extra cX8_extra 3 (some .int)) B.pre
  have hts : ∀ w ∈ lw_all, w.before _ s = true := fun w h => hts w (List.mem_cons_of_mem _ h)
  have hown : s.vm.findClass "Lendlathe$Entry" = some m.cls := findClass_of_methodNamed B.named
  have hlocks := B.notSynchronized
  have hK := hWK.K g
  have F : CallFix p m c cX8_extra 3 s _ lw_all "Lendlathe$Entry" := ⟨hx, hb, hml, hown, hts⟩
  have hS : va_S A s.heap s.heap [] := va_S.rf
  have hl := lv_entry ([.ref (ad (23, en))]) (n := 3) (Nat.le_of_ble_eq_true rfl)
  rw [lg_entry_eq]
  generalize (lg_sl ([.ref (ad (23, en))]) ++ List.replicate (3 - (lg_sl ([.ref (ad (23, en))])).length) Slot.unset).toArray = ls at hl ⊢
  have hl : lv_has ls 3 [(0, .ref (ad (23, en)))] := hl
  have hn0 := hW.1.1
  have hn1 := hW.1.2.1
  have hn2 := hW.1.2.2.1
  have hn3 := hW.1.2.2.2.1
  have hn4 := hW.1.2.2.2.2
  have hc5 := hW.cut en
  refine lv_aload_n hx hb dX8_extra_0 rfl (lv_at hl 0 rfl) ?_
  refine xc_P (x_runSD g hWK F hS hR he (xX11_extra g1 (A := A) (S := S) (ad := ad) (z := z) en he) rfl rfl ⟨Nat.le_of_ble_eq_true rfl, Nat.le_of_ble_eq_true rfl⟩ hl.1 (by decide) ⟨Nat.le_of_ble_eq_true rfl, Nat.le_of_ble_eq_true rfl⟩ dX8_extra_1) ?_
  refine lv_istore_n (lv' := [(1, .int 0), (0, .ref (ad (23, en)))]) hx hb dX8_extra_4 rfl hl (by decide) rfl (fun ls hl => ?_)
  refine lv_iconst (v := 0) hx hb dX8_extra_5 (by decide) ?_
  refine lv_istore_n (lv' := [(2, .int 0), (1, .int 0), (0, .ref (ad (23, en)))]) hx hb dX8_extra_6 rfl hl (by decide) rfl (fun ls hl => ?_)
  have L7 : ∀ (n : Nat) (k : Nat) (acc : Int32), S.1 6 en - k < n → (k ≤ S.1 6 en) → (acc = xExtra S en k) → ∀ (ls : Array Slot), lv_has ls 3 [(2, .int (nI k)), (1, .int acc), (0, .ref (ad (23, en)))] → W p l e (headSpec (ws_ yX8_extra cX8_extra 3 (some .int)) ({ frames := 3, cells := 0, slots := 0, locals := 64 } : Room)).room s m ([.ref (ad (23, en))] : List Value).toArray below meth c s.heap [] 0 0 (MQ below (xQp (some (.int (xExtra S en (S.1 6 en))))) ([.ref (ad (23, en))] : List Value).toArray s 0 0 (fun _ => False)) (F0 m 7 ls []) := by
    intro n7
    induction n7 with
    | zero =>
      intro k acc hn7
      exact absurd hn7 (Nat.not_lt_zero _)
    | succ n7 ih7 =>
      intro k acc hn7 hk ea ls hl
      refine lv_iload_n hx hb dX8_extra_7 rfl (lv_at hl 0 rfl) ?_
      refine lv_aload_n hx hb dX8_extra_8 rfl (lv_at hl 2 rfl) ?_
      refine g_X8_33 F hK (xw_23 hR he) (v := .int (nI (S.1 6 en))) rfl dX8_extra_9 ?_
      refine xn_ge (tgt := 67) k (S.1 6 en) rfl rfl (by omega) (by omega) hx hb dX8_extra_12 (by decide) (fun c_12 => ?_) (fun c_12 => ?_)
      · have n_12 := Nat.not_lt.mpr c_12
        refine lv_iload_n hx hb dX8_extra_67 rfl (lv_at hl 1 rfl) ?_
        exact xr_Pi hx hb hr hlocks ((by have hk9 : k = S.1 6 en := (by omega); subst hk9; exact ea)) dX8_extra_68
      · have n_12 := Nat.not_le.mpr c_12
        refine lv_iload_n hx hb dX8_extra_15 rfl (lv_at hl 1 rfl) ?_
        refine lv_aload_n hx hb dX8_extra_16 rfl (lv_at hl 2 rfl) ?_
        refine g_X8_19 F hK (xw_23 hR he) (v := .ref (ad (25, en))) rfl dX8_extra_17 ?_
        refine lv_iload_n hx hb dX8_extra_20 rfl (lv_at hl 0 rfl) ?_
        refine x_iald hx hb hK (xw_25 hR he) (v := .int (S.2.1 19 en k)) (xi_nI (n := 5) (by omega) (by omega)) (rfl) dX8_extra_21 ?_
        refine lv_aload_n hx hb dX8_extra_22 rfl (lv_at hl 2 rfl) ?_
        refine g_X8_3 F hK (xw_23 hR he) (v := .ref (ad (0, 0))) rfl dX8_extra_23 ?_
        refine g_X8_37 F hWK g hK (xw_0 hR) (v := .ref (ad (9, 0))) rfl dX8_extra_26 ?_
        refine lv_aload_n hx hb dX8_extra_29 rfl (lv_at hl 2 rfl) ?_
        refine g_X8_3 F hK (xw_23 hR he) (v := .ref (ad (0, 0))) rfl dX8_extra_30 ?_
        refine g_X8_40 F hWK g hK (xw_0 hR) (v := .ref (ad (6, 0))) rfl dX8_extra_33 ?_
        refine lv_aload_n hx hb dX8_extra_36 rfl (lv_at hl 2 rfl) ?_
        refine g_X8_15 F hK (xw_23 hR he) (v := .ref (ad (24, en))) rfl dX8_extra_37 ?_
        refine lv_iload_n hx hb dX8_extra_40 rfl (lv_at hl 0 rfl) ?_
        refine x_iald hx hb hK (xw_24 hR he) (v := .int (S.2.1 18 en k)) (xi_nI (n := 5) (by omega) (by omega)) (rfl) dX8_extra_41 ?_
        refine xc_P (va_runV (As := [.int (S.2.1 18 en k)]) (rest := [.ref (ad (9, 0)), .int (S.2.1 19 en k), .int acc]) F (xJ2_get_26 g1 (A := A) (S := S) (ad := ad) (z := z) (xi.up (xi_of (hW.bar (e := en) (k := k) (by first | assumption | omega) (by first | assumption | omega))) (by first | omega | exact Nat.le_refl _)) (by first | assumption | omega)) (cwV 1 hts (lw_V q713 q487 q488 q60 q489) rfl rfl rfl hdV_J2_get ⟨Nat.le_of_ble_eq_true rfl, Nat.le_of_ble_eq_true rfl⟩) (xpreV (xrecv hK (xw_6 hR) rfl) hWK hS hR) rfl rfl hl.1 rfl (lv_room (Nat.le_of_ble_eq_true rfl)) dX8_extra_42 ⟨Nat.le_of_ble_eq_true rfl, Nat.le_of_ble_eq_true rfl⟩) ?_
        refine x_castO F hK rfl (xw_26 hR (xi.up (xi_of (hW.bar (e := en) (k := k) (by first | assumption | omega) (by first | assumption | omega))) (by first | omega | exact Nat.le_refl _)).lt) (hts _ q897) dX8_extra_45 ?_
        refine g_X8_52 F hWK g hK (xw_26 hR (xi.up (xi_of (hW.bar (e := en) (k := k) (by first | assumption | omega) (by first | assumption | omega))) (by first | omega | exact Nat.le_refl _)).lt) (v := .int (S.2.1 20 ((S.2.1 18 en k).toNatClampNeg) 0)) rfl dX8_extra_48 ?_
        refine x_iald hx hb hK (xw_9 hR) (v := .int (S.2.1 6 ((S.2.1 20 ((S.2.1 18 en k).toNatClampNeg) 0).toNatClampNeg) 0)) (xi.up (xi_of (hW.mat ((S.2.1 18 en k).toNatClampNeg))) (by first | omega | exact Nat.le_refl _)) (rfl) dX8_extra_51 ?_
        refine lv_imul hx hb dX8_extra_52 ?_
        refine lv_bipush (v := 99) hx hb dX8_extra_53 (by decide) ?_
        refine lv_iadd hx hb dX8_extra_55 ?_
        refine lv_bipush (v := 100) hx hb dX8_extra_56 (by decide) ?_
        refine lv_idiv hx hb dX8_extra_58 (by decide) ?_
        refine lv_iadd hx hb dX8_extra_59 ?_
        refine lv_istore_n (lv' := [(1, .int (acc + ((((S.2.1 19 en k) * (S.2.1 6 ((S.2.1 20 ((S.2.1 18 en k).toNatClampNeg) 0).toNatClampNeg) 0)) + 99) / 100))), (2, .int (nI k)), (0, .ref (ad (23, en)))]) hx hb dX8_extra_60 rfl hl (by decide) rfl (fun ls hl => ?_)
        refine lv_iinc (v := nI (k + 1)) (lv' := [(2, .int (nI (k + 1))), (1, .int (acc + ((((S.2.1 19 en k) * (S.2.1 6 ((S.2.1 20 ((S.2.1 18 en k).toNatClampNeg) 0).toNatClampNeg) 0)) + 99) / 100))), (0, .ref (ad (23, en)))]) hx hb dX8_extra_61 hl (k := 1) rfl (nI_1 _) (by decide) rfl (fun ls hl => ?_)
        refine lv_goto (tgt := 7) hx hb dX8_extra_64 (by decide) ?_
        exact ih7 (k + 1) (acc + ((((S.2.1 19 en k) * (S.2.1 6 ((S.2.1 20 ((S.2.1 18 en k).toNatClampNeg) 0).toNatClampNeg) 0)) + 99) / 100)) (by omega) (by omega) (by rw [ea]; rfl) ls (lv_sub hl [0, 1, 2] rfl)
  exact L7 (S.1 6 en + 1) 0 0 (by omega) (by omega) rfl ls (lv_sub hl [0, 1, 2] rfl)

set_option maxHeartbeats 4000000 in
theorem xX1_endDay {l : Launch} {G : xG} {s0 : State} {b0 : Nat} (g1 : xG1 l G s0 b0) {A : Nat → Prop} {S : xS} {ad : Nat × Nat → Nat} {z : xZ} (hW : xW S) (hA : ∃ rk, rkOK S.2.1 rk ∧ ∀ i, rk i < 4) (hT : xTd S) : vx_Met l yX1_endDay (ws_ yX1_endDay cX1_endDay 4 (some .int)) ({ frames := 14, cells := 1, slots := 6, locals := 396 } : Room) (xP s0 A [.ref (ad (0, 0))] (fun H => xRX G A S ad z H)) (xQc (some (.int ((xEndDay S).2.1))) (fun _ H => (xEndDay S).1 = 0 ∧ ∃ ad9 z9, xRX G A (xEndDay S).2.2 ad9 z9 H ∧ ad9 (0, 0) = ad (0, 0)) A) (xXc (fun E _ H => E = xExn (xEndDay S).1 ∧ ¬ (xEndDay S).1 = 0 ∧ ∃ z9, xRX G A S ad z9 H) A) 1 6 A := by
  refine vx_ofW (cc := cX1_endDay) (maxL := 4) (ret := (some .int)) (by decide) rfl ?_
  intro p e s m args below meth c s₁ B hml hnt hv
  obtain ⟨rfl, hWK, hR⟩ := hv
  have g := g1.1
  have hx := B.exec
  have hb := B.bytes
  have hr := B.returns
  have hts := atoms_spec (ws := ws_ yX1_endDay cX1_endDay 4 (some .int)) B.pre
  have hts : ∀ w ∈ lw_all, w.before _ s = true := fun w h => hts w (List.mem_cons_of_mem _ h)
  have hown : s.vm.findClass "Lendlathe" = some m.cls := findClass_of_methodNamed B.named
  have hlocks := B.notSynchronized
  have hK := hWK.K g
  have F : CallFix p m c cX1_endDay 4 s _ lw_all "Lendlathe" := ⟨hx, hb, hml, hown, hts⟩
  have hS : va_S A s.heap s.heap [] := va_S.rf
  have hl := lv_entry ([.ref (ad (0, 0))]) (n := 4) (Nat.le_of_ble_eq_true rfl)
  rw [lg_entry_eq]
  generalize (lg_sl ([.ref (ad (0, 0))]) ++ List.replicate (4 - (lg_sl ([.ref (ad (0, 0))])).length) Slot.unset).toArray = ls at hl ⊢
  have hl : lv_has ls 4 [(0, .ref (ad (0, 0)))] := hl
  have hn0 := hW.1.1
  have hn1 := hW.1.2.1
  have hn2 := hW.1.2.2.1
  have hn3 := hW.1.2.2.2.1
  have hn4 := hW.1.2.2.2.2
  refine lv_aload_n hx hb dX1_endDay_0 rfl (lv_at hl 0 rfl) ?_
  refine g_X1_215 F hK (xw_0 hR) (v := .int (S.2.1 7 0 0)) rfl dX1_endDay_1 ?_
  refine lv_sipush (v := 900) hx hb dX1_endDay_4 (by decide) ?_
  refine lv_icmp_ge (tgt := 14) hx hb dX1_endDay_7 (by decide) (fun c_7 => ?_) (fun c_7 => ?_)
  · have n_7 := Int32.not_lt.mpr c_7
    refine lv_iconst (v := 0) hx hb dX1_endDay_14 (by decide) ?_
    have e9 : (xEndDay S).1 = 2 := by simp [xEndDay, c_7, n_7]
    exact xc_T (vx_runS (As := [.int 0]) (rest := []) F (xX1_ready_no g1 (A := A) false rfl) (va_cwS 1 hts (lw_S q769 q770 q56 q771) rfl rfl rfl hdS_X1_ready ⟨Nat.le_of_ble_eq_true rfl, Nat.le_of_ble_eq_true rfl⟩) (xpre hWK hS trivial) rfl rfl hl.1 rfl (lv_room (Nat.le_of_ble_eq_true rfl)) dX1_endDay_15 ⟨Nat.le_of_ble_eq_true rfl, Nat.le_of_ble_eq_true rfl⟩) hS (fun E ce q9 H locs hX hz hk hS hq9 hv9 hc9 => vx_out (fun x hx => (hnt x hx).elim) hlocks hq9 hv9 hc9 (fun t ht _ => ⟨by rw [ht]; exact ⟨hX.1.trans (congrArg xExn e9).symm, (by rw [e9]; decide), z, hR.grow hX.2⟩, hS.F ht⟩) hS.2.2 (Nat.le_of_ble_eq_true rfl) (Nat.le_of_ble_eq_true rfl))
  · have n_7 := Int32.not_le.mp c_7
    refine lv_iconst (v := 1) hx hb dX1_endDay_10 (by decide) ?_
    refine lv_goto (tgt := 15) hx hb dX1_endDay_11 (by decide) ?_
    refine xc_P0 (va_runS (As := [.int 1]) (rest := []) F (xX1_ready_ok g1 (A := A) true rfl) (va_cwS 1 hts (lw_S q769 q770 q56 q771) rfl rfl rfl hdS_X1_ready ⟨Nat.le_of_ble_eq_true rfl, Nat.le_of_ble_eq_true rfl⟩) (xpre hWK hS trivial) rfl rfl hl.1 rfl (lv_room (Nat.le_of_ble_eq_true rfl)) dX1_endDay_15 ⟨Nat.le_of_ble_eq_true rfl, Nat.le_of_ble_eq_true rfl⟩) ?_
    refine lv_iconst (v := 0) hx hb dX1_endDay_18 (by decide) ?_
    refine lv_istore_n (lv' := [(1, .int 0), (0, .ref (ad (0, 0)))]) hx hb dX1_endDay_19 rfl hl (by decide) rfl (fun ls hl => ?_)
    refine lv_iconst (v := 0) hx hb dX1_endDay_20 (by decide) ?_
    refine lv_istore_n (lv' := [(2, .int 0), (1, .int 0), (0, .ref (ad (0, 0)))]) hx hb dX1_endDay_21 rfl hl (by decide) rfl (fun ls hl => ?_)
    have L22 : ∀ (n : Nat) (k : Nat) (acc : Int32) (S1 : xS), S.1 2 0 - k < n → (k ≤ S.1 2 0) → (S1.1 = S.1) → (xW S1) → (∃ rk, rkOK S1.2.1 rk ∧ ∀ i, rk i < 4) → (xTd S1) → (S1.2.1 7 0 0 = S.2.1 7 0 0) → (acc = xDayMany S k) → (S1 = xDay S k) → ∀ (H : Heap) (locs : List Loc), xRX G A S1 ad z H → va_S A s.heap H locs → ∀ (ls : Array Slot), lv_has ls 4 [(2, .int (nI k)), (1, .int acc), (0, .ref (ad (0, 0)))] → W p l e (headSpec (ws_ yX1_endDay cX1_endDay 4 (some .int)) ({ frames := 14, cells := 1, slots := 6, locals := 396 } : Room)).room s m ([.ref (ad (0, 0))] : List Value).toArray below meth c H locs 0 0 (vx_MQ below (xQc (some (.int ((xEndDay S).2.1))) (fun _ H => (xEndDay S).1 = 0 ∧ ∃ ad9 z9, xRX G A (xEndDay S).2.2 ad9 z9 H ∧ ad9 (0, 0) = ad (0, 0)) A) (xXc (fun E _ H => E = xExn (xEndDay S).1 ∧ ¬ (xEndDay S).1 = 0 ∧ ∃ z9, xRX G A S ad z9 H) A) ([.ref (ad (0, 0))] : List Value).toArray s 1 6 A) (F0 m 22 ls []) := by
      intro n22
      induction n22 with
      | zero =>
        intro k acc S1 hn22
        exact absurd hn22 (Nat.not_lt_zero _)
      | succ n22 ih22 =>
        intro k acc S1 hn22 hk0 hN hWs hA1 hT1 h7 ea eS H locs hR hS ls hl
        have hN2 : S1.1 2 0 = S.1 2 0 := (by rw [hN])
        have hs0 := hWs.1.1
        have hs1 := hWs.1.2.1
        have hs2 := hWs.1.2.2.1
        have hs3 := hWs.1.2.2.2.1
        refine lv_iload_n hx hb dX1_endDay_22 rfl (lv_at hl 0 rfl) ?_
        refine lv_aload_n hx hb dX1_endDay_23 rfl (lv_at hl 2 rfl) ?_
        refine g_X1_36 F hK (xw_0 hR) (v := .ref (ad (5, 0))) rfl dX1_endDay_24 ?_
        refine xc_P (va_runV (As := []) (rest := [.int (nI k)]) F (xJ2_size_23 g1 (A := A) (S := S1) (ad := ad) (z := z) ) (cwV 0 hts (lw_V q510 q511 q512 q60 q513) rfl rfl rfl hdV_J2_size ⟨Nat.le_of_ble_eq_true rfl, Nat.le_of_ble_eq_true rfl⟩) (xpreV (xrecv hK (xw_5 hR) rfl) hWK hS hR) rfl rfl hl.1 rfl (lv_room (Nat.le_of_ble_eq_true rfl)) dX1_endDay_27 ⟨Nat.le_of_ble_eq_true rfl, Nat.le_of_ble_eq_true rfl⟩) ?_
        refine xn_ge (tgt := 114) k (S1.1 2 0) rfl rfl (by omega) (by omega) hx hb dX1_endDay_30 (by decide) (fun c_30 => ?_) (fun c_30 => ?_)
        · have n_30 := Nat.not_lt.mpr c_30
          refine lv_aload_n hx hb dX1_endDay_114 rfl (lv_at hl 2 rfl) ?_
          refine lv_dup hx hb dX1_endDay_115 rfl ?_
          refine g_X1_215 F hK (xw_0 hR) (v := .int (S1.2.1 7 0 0)) rfl dX1_endDay_116 ?_
          refine lv_iconst (v := 1) hx hb dX1_endDay_119 (by decide) ?_
          refine lv_iadd hx hb dX1_endDay_120 ?_
          refine p_X1_215 F hK hS (xw_0 hR) (xa_0 hR) (v := .int ((S1.2.1 7 0 0) + 1)) rfl rfl (Nat.le_of_ble_eq_true rfl) dX1_endDay_121 (fun H locs hat hof hS => ?_)
          have hR := xs_0_8 hR hof hat
          refine lv_aload_n hx hb dX1_endDay_124 rfl (lv_at hl 2 rfl) ?_
          refine xc_C0 (va_runV (As := []) (rest := []) F (xX1_fills g1 (A := A) (S := (sF S1 7 0 0 ((S1.2.1 7 0 0) + 1))) (ad := ad) (z := z) (by first | exact hWs | exact xW_16 hWs _ rfl | exact xOwe_W (xW_16 hWs _ rfl) _ _ | exact xW_F hWs 7 _ _ _ (by decide) | exact hW) (by first | exact hA1 | exact rk_owe _ _ hA1 | exact hA | exact rk_c rfl hA1)) (cwV 0 hts (lw_V q898 q900 qs18 q56 q901) rfl rfl rfl hdV_X1_fills ⟨Nat.le_of_ble_eq_true rfl, Nat.le_of_ble_eq_true rfl⟩) (xpreV (xrecv hK (xw_0 hR) rfl) hWK hS hR) rfl rfl hl.1 rfl (lv_room (Nat.le_of_ble_eq_true rfl)) dX1_endDay_125 ⟨Nat.le_of_ble_eq_true rfl, Nat.le_of_ble_eq_true rfl⟩) hS (fun H locs hR1 hz hk hS => ?_)
          obtain ⟨z_125, hR⟩ := hR1
          refine lv_iload_n hx hb dX1_endDay_128 rfl (lv_at hl 1 rfl) ?_
          have hk9 : k = S.1 2 0 := (by omega)
          subst hk9
          have e9 : xEndDay S = (0, acc, (xFills (sF S1 7 0 0 ((S1.2.1 7 0 0) + 1)))) := by simp [xEndDay, c_7, c_30, n_7, n_30, ← ea, ← eS, h7]
          exact vx_ret (xr_Ci hx hb hr hlocks ((congrArg (fun q => q.2.1) e9).symm) (⟨congrArg Prod.fst e9, ad, z_125, by rw [show (xEndDay S).2.2 = (xFills (sF S1 7 0 0 ((S1.2.1 7 0 0) + 1))) from congrArg (fun q => q.2.2) e9]; exact hR, rfl⟩) hS (by first | omega | decide) (by first | omega | decide) dX1_endDay_129)
        · have n_30 := Nat.not_le.mpr c_30
          refine lv_aload_n hx hb dX1_endDay_33 rfl (lv_at hl 2 rfl) ?_
          refine g_X1_36 F hK (xw_0 hR) (v := .ref (ad (5, 0))) rfl dX1_endDay_34 ?_
          refine lv_iload_n hx hb dX1_endDay_37 rfl (lv_at hl 0 rfl) ?_
          refine xc_P (va_runV (As := [.int (nI k)]) (rest := []) F (xJ2_get_23 g1 (A := A) (S := S1) (ad := ad) (z := z) (xi_nI (n := (S1.1 2 0)) (by omega) (by omega)) (by first | assumption | omega)) (cwV 1 hts (lw_V q486 q487 q488 q60 q489) rfl rfl rfl hdV_J2_get ⟨Nat.le_of_ble_eq_true rfl, Nat.le_of_ble_eq_true rfl⟩) (xpreV (xrecv hK (xw_5 hR) rfl) hWK hS hR) rfl rfl hl.1 rfl (lv_room (Nat.le_of_ble_eq_true rfl)) dX1_endDay_38 ⟨Nat.le_of_ble_eq_true rfl, Nat.le_of_ble_eq_true rfl⟩) ?_
          refine x_castO F hK rfl (xw_23 hR (xi_nI (n := (S1.1 2 0)) (by omega) (by omega)).lt) (hts _ q514) dX1_endDay_41 ?_
          refine lv_astore_n (lv' := [(3, .ref (ad (23, k))), (2, .int (nI k)), (1, .int acc), (0, .ref (ad (0, 0)))]) hx hb dX1_endDay_44 rfl hl (by decide) rfl (fun ls hl => ?_)
          refine lv_aload_n hx hb dX1_endDay_45 rfl (lv_at hl 0 rfl) ?_
          refine g_X1_154 F hK (xw_23 hR (xi_nI (n := (S1.1 2 0)) (by omega) (by omega)).lt) (v := .int (S1.2.1 12 k 0)) rfl dX1_endDay_46 ?_
          refine lv_aload_n hx hb dX1_endDay_49 rfl (lv_at hl 3 rfl) ?_
          refine g_X1_215 F hK (xw_0 hR) (v := .int (S1.2.1 7 0 0)) rfl dX1_endDay_50 ?_
          refine lv_icmp_eq (tgt := 59) hx hb dX1_endDay_53 (by decide) (fun c_53 => ?_) (fun c_53 => ?_)
          · refine lv_aload_n hx hb dX1_endDay_59 rfl (lv_at hl 0 rfl) ?_
            refine g_X1_150 F hWK g hK (xw_23 hR (xi_nI (n := (S1.1 2 0)) (by omega) (by omega)).lt) (v := .int (S1.2.1 16 k 0)) rfl dX1_endDay_60 ?_
            refine lv_bipush (v := 119) hx hb dX1_endDay_63 (by decide) ?_
            refine lv_icmp_ne (tgt := 74) hx hb dX1_endDay_65 (by decide) (fun c_65 => ?_) (fun c_65 => ?_)
            · refine lv_aload_n hx hb dX1_endDay_74 rfl (lv_at hl 0 rfl) ?_
              refine g_X1_150 F hWK g hK (xw_23 hR (xi_nI (n := (S1.1 2 0)) (by omega) (by omega)).lt) (v := .int (S1.2.1 16 k 0)) rfl dX1_endDay_75 ?_
              refine lv_bipush (v := 98) hx hb dX1_endDay_78 (by decide) ?_
              refine lv_icmp_eq (tgt := 86) hx hb dX1_endDay_80 (by decide) (fun c_80 => ?_) (fun c_80 => ?_)
              · refine lv_aload_n hx hb dX1_endDay_86 rfl (lv_at hl 0 rfl) ?_
                refine lv_bipush (v := 100) hx hb dX1_endDay_87 (by decide) ?_
                refine p_X1_150 F hWK g hK hS (xw_23 hR (xi_nI (n := (S1.1 2 0)) (by omega) (by omega)).lt) (xa_23 hR (xi_nI (n := (S1.1 2 0)) (by omega) (by omega)).lt) (v := .int 100) rfl rfl (Nat.le_of_ble_eq_true rfl) dX1_endDay_89 (fun H locs hat hof hS => ?_)
                have hR := xs_23_6 hR (xi_nI (n := (S1.1 2 0)) (by omega) (by omega)).lt hof hat
                refine lv_aload_n hx hb dX1_endDay_92 rfl (lv_at hl 0 rfl) ?_
                refine lv_aload_n hx hb dX1_endDay_93 rfl (lv_at hl 0 rfl) ?_
                refine xc_P (va_runV (As := []) (rest := [.ref (ad (23, k))]) F (xX8_forMinutes g1 (A := A) (S := (sF S1 16 k 0 100)) (ad := ad) (z := z) k ((xi_nI (n := (S1.1 2 0)) (by omega) (by omega)).lt) (by first | exact hWs | exact xW_16 hWs _ rfl | exact xOwe_W (xW_16 hWs _ rfl) _ _ | exact xW_F hWs 7 _ _ _ (by decide) | exact hW) (by first | exact hT1 | exact xTd_c hT1 rfl | exact hT)) (cwV 0 hts (lw_V q1128 q1129 q1130 q89 q1131) rfl rfl rfl hdV_X8_forMinutes ⟨Nat.le_of_ble_eq_true rfl, Nat.le_of_ble_eq_true rfl⟩) (xpreV (xrecv hK (xw_23 hR (xi_nI (n := (S1.1 2 0)) (by omega) (by omega)).lt) rfl) hWK hS hR) rfl rfl hl.1 rfl (lv_room (Nat.le_of_ble_eq_true rfl)) dX1_endDay_94 ⟨Nat.le_of_ble_eq_true rfl, Nat.le_of_ble_eq_true rfl⟩) ?_
                refine lv_aload_n hx hb dX1_endDay_97 rfl (lv_at hl 0 rfl) ?_
                refine xc_P (va_runV (As := []) (rest := [.int (xCostE (sF S1 16 k 0 100) k), .ref (ad (23, k))]) F (xX8_extra g1 (A := A) (S := (sF S1 16 k 0 100)) (ad := ad) (z := z) k ((xi_nI (n := (S1.1 2 0)) (by omega) (by omega)).lt) (by first | exact hWs | exact xW_16 hWs _ rfl | exact xOwe_W (xW_16 hWs _ rfl) _ _ | exact xW_F hWs 7 _ _ _ (by decide) | exact hW)) (cwV 0 hts (lw_V q1160 q1161 q1162 q89 q1163) rfl rfl rfl hdV_X8_extra ⟨Nat.le_of_ble_eq_true rfl, Nat.le_of_ble_eq_true rfl⟩) (xpreV (xrecv hK (xw_23 hR (xi_nI (n := (S1.1 2 0)) (by omega) (by omega)).lt) rfl) hWK hS hR) rfl rfl hl.1 rfl (lv_room (Nat.le_of_ble_eq_true rfl)) dX1_endDay_98 ⟨Nat.le_of_ble_eq_true rfl, Nat.le_of_ble_eq_true rfl⟩) ?_
                refine lv_iadd hx hb dX1_endDay_101 ?_
                refine xc_C0 (va_runV (As := [.int ((xCostE (sF S1 16 k 0 100) k) + (xExtra (sF S1 16 k 0 100) k ((sF S1 16 k 0 100).1 6 k)))]) (rest := []) F (xX8_owes g1 (A := A) (S := (sF S1 16 k 0 100)) (ad := ad) (z := z) k ((xCostE (sF S1 16 k 0 100) k) + (xExtra (sF S1 16 k 0 100) k ((sF S1 16 k 0 100).1 6 k))) ((xi_nI (n := (S1.1 2 0)) (by omega) (by omega)).lt) (by first | exact hWs | exact xW_16 hWs _ rfl | exact xOwe_W (xW_16 hWs _ rfl) _ _ | exact xW_F hWs 7 _ _ _ (by decide) | exact hW)) (cwV 1 hts (lw_V q1142 q1143 q1144 q89 q1145) rfl rfl rfl hdV_X8_owes ⟨Nat.le_of_ble_eq_true rfl, Nat.le_of_ble_eq_true rfl⟩) (xpreV (xrecv hK (xw_23 hR (xi_nI (n := (S1.1 2 0)) (by omega) (by omega)).lt) rfl) hWK hS hR) rfl rfl hl.1 rfl (lv_room (Nat.le_of_ble_eq_true rfl)) dX1_endDay_102 ⟨Nat.le_of_ble_eq_true rfl, Nat.le_of_ble_eq_true rfl⟩) hS (fun H locs hR1 hz hk hS => ?_)
                have hR := hR1
                refine lv_iinc (v := acc + 1) (lv' := [(1, .int (acc + 1)), (3, .ref (ad (23, k))), (2, .int (nI k)), (0, .ref (ad (0, 0)))]) hx hb dX1_endDay_105 hl (k := 2) rfl (rfl) (by decide) rfl (fun ls hl => ?_)
                refine lv_iinc (v := nI (k + 1)) (lv' := [(2, .int (nI (k + 1))), (1, .int (acc + 1)), (3, .ref (ad (23, k))), (0, .ref (ad (0, 0)))]) hx hb dX1_endDay_108 hl (k := 2) rfl (nI_1 _) (by decide) rfl (fun ls hl => ?_)
                refine lv_goto (tgt := 22) hx hb dX1_endDay_111 (by decide) ?_
                exact ih22 (k + 1) (acc + 1) (xOwe (sF S1 16 k 0 100) k ((xCostE (sF S1 16 k 0 100) k) + (xExtra (sF S1 16 k 0 100) k ((sF S1 16 k 0 100).1 6 k)))) (by omega) (by omega) hN (by first | exact hWs | exact xW_16 hWs _ rfl | exact xOwe_W (xW_16 hWs _ rfl) _ _ | exact xW_F hWs 7 _ _ _ (by decide) | exact hW) (by first | exact hA1 | exact rk_owe _ _ hA1 | exact hA | exact rk_c rfl hA1) (by first | exact hT1 | exact xTd_c hT1 rfl | exact hT) h7 (by rw [ea]; simp [xDayMany, sumI, ← eS, c_7, c_53, c_65, c_80, n_7]) (by rw [xDay, ← eS]; simp [xDayStep, c_7, c_53, c_65, c_80, n_7]) _ _ hR hS ls (lv_sub hl [0, 1, 3] rfl)
              · refine lv_goto (tgt := 108) hx hb dX1_endDay_83 (by decide) ?_
                refine lv_iinc (v := nI (k + 1)) (lv' := [(2, .int (nI (k + 1))), (3, .ref (ad (23, k))), (1, .int acc), (0, .ref (ad (0, 0)))]) hx hb dX1_endDay_108 hl (k := 1) rfl (nI_1 _) (by decide) rfl (fun ls hl => ?_)
                refine lv_goto (tgt := 22) hx hb dX1_endDay_111 (by decide) ?_
                exact ih22 (k + 1) acc S1 (by omega) (by omega) hN (by first | exact hWs | exact xW_16 hWs _ rfl | exact xOwe_W (xW_16 hWs _ rfl) _ _ | exact xW_F hWs 7 _ _ _ (by decide) | exact hW) (by first | exact hA1 | exact rk_owe _ _ hA1 | exact hA | exact rk_c rfl hA1) (by first | exact hT1 | exact xTd_c hT1 rfl | exact hT) h7 (by rw [ea]; simp [xDayMany, sumI, ← eS, c_7, c_53, c_65, c_80, n_7]) (by rw [xDay, ← eS]; simp [xDayStep, c_7, c_53, c_65, c_80, n_7]) _ _ hR hS ls (lv_sub hl [0, 2, 3] rfl)
            · refine lv_aload_n hx hb dX1_endDay_68 rfl (lv_at hl 0 rfl) ?_
              refine lv_bipush (v := 120) hx hb dX1_endDay_69 (by decide) ?_
              refine p_X1_150 F hWK g hK hS (xw_23 hR (xi_nI (n := (S1.1 2 0)) (by omega) (by omega)).lt) (xa_23 hR (xi_nI (n := (S1.1 2 0)) (by omega) (by omega)).lt) (v := .int 120) rfl rfl (Nat.le_of_ble_eq_true rfl) dX1_endDay_71 (fun H locs hat hof hS => ?_)
              have hR := xs_23_6 hR (xi_nI (n := (S1.1 2 0)) (by omega) (by omega)).lt hof hat
              refine lv_aload_n hx hb dX1_endDay_74 rfl (lv_at hl 0 rfl) ?_
              refine g_X1_150 F hWK g hK (xw_23 hR (xi_nI (n := (S1.1 2 0)) (by omega) (by omega)).lt) (v := .int 120) (by simp [fset, nset, lset]) dX1_endDay_75 ?_
              refine lv_bipush (v := 98) hx hb dX1_endDay_78 (by decide) ?_
              refine lv_icmp_eq (tgt := 86) hx hb dX1_endDay_80 (by decide) (fun c_80 => (by first | exact absurd c_80 (by decide) | exact absurd (by decide) c_80)) (fun c_80 => ?_)
              refine lv_goto (tgt := 108) hx hb dX1_endDay_83 (by decide) ?_
              refine lv_iinc (v := nI (k + 1)) (lv' := [(2, .int (nI (k + 1))), (3, .ref (ad (23, k))), (1, .int acc), (0, .ref (ad (0, 0)))]) hx hb dX1_endDay_108 hl (k := 1) rfl (nI_1 _) (by decide) rfl (fun ls hl => ?_)
              refine lv_goto (tgt := 22) hx hb dX1_endDay_111 (by decide) ?_
              exact ih22 (k + 1) acc (sF S1 16 k 0 120) (by omega) (by omega) hN (by first | exact hWs | exact xW_16 hWs _ rfl | exact xOwe_W (xW_16 hWs _ rfl) _ _ | exact xW_F hWs 7 _ _ _ (by decide) | exact hW) (by first | exact hA1 | exact rk_owe _ _ hA1 | exact hA | exact rk_c rfl hA1) (by first | exact hT1 | exact xTd_c hT1 rfl | exact hT) h7 (by rw [ea]; simp [xDayMany, sumI, ← eS, c_7, c_53, c_65, n_7]) (by rw [xDay, ← eS]; simp [xDayStep, c_7, c_53, c_65, n_7]) _ _ hR hS ls (lv_sub hl [0, 2, 3] rfl)
          · refine lv_goto (tgt := 108) hx hb dX1_endDay_56 (by decide) ?_
            refine lv_iinc (v := nI (k + 1)) (lv' := [(2, .int (nI (k + 1))), (3, .ref (ad (23, k))), (1, .int acc), (0, .ref (ad (0, 0)))]) hx hb dX1_endDay_108 hl (k := 1) rfl (nI_1 _) (by decide) rfl (fun ls hl => ?_)
            refine lv_goto (tgt := 22) hx hb dX1_endDay_111 (by decide) ?_
            exact ih22 (k + 1) acc S1 (by omega) (by omega) hN (by first | exact hWs | exact xW_16 hWs _ rfl | exact xOwe_W (xW_16 hWs _ rfl) _ _ | exact xW_F hWs 7 _ _ _ (by decide) | exact hW) (by first | exact hA1 | exact rk_owe _ _ hA1 | exact hA | exact rk_c rfl hA1) (by first | exact hT1 | exact xTd_c hT1 rfl | exact hT) h7 (by rw [ea]; simp [xDayMany, sumI, ← eS, c_7, c_53, n_7]) (by rw [xDay, ← eS]; simp [xDayStep, c_7, c_53, n_7]) _ _ hR hS ls (lv_sub hl [0, 2, 3] rfl)
    exact L22 (S.1 2 0 + 1) 0 0 S (by omega) (Nat.zero_le _) rfl hW hA hT rfl rfl rfl _ _ hR hS ls (lv_sub hl [0, 1, 2] rfl)

