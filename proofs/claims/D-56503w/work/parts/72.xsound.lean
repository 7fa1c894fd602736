/-! contracts (printed by gen/mx7.py) -/
set_option maxRecDepth 100000
set_option maxHeartbeats 4000000 in
theorem xX1_check {l : Launch} {G : xG} {s0 : State} {b0 : Nat} (g1 : xG1 l G s0 b0) {A : Nat → Prop} {S : xS} {ad : Nat × Nat → Nat} {z : xZ} (member machine on start minutes work : Int32) (hW : xW S) (hA : ∃ rk, rkOK S.2.1 rk ∧ ∀ i, rk i < 4) : vx_Met l yX1_check (ws_ yX1_check cX1_check 7 (some .char)) ({ frames := 8, cells := 1, slots := 6, locals := 238 } : Room) (xP s0 A [.ref (ad (0, 0)), .int member, .int machine, .int on, .int start, .int minutes, .int work] (fun H => xRX G A S ad z H)) (xQc (some (.int ((xCheck S member machine on start minutes work).2.1))) (fun _ H => (xCheck S member machine on start minutes work).1 = 0 ∧ ∃ ad9 z9, xRX G A (xCheck S member machine on start minutes work).2.2 ad9 z9 H ∧ ad9 (0, 0) = ad (0, 0)) A) (xXc (fun E _ H => E = xExn (xCheck S member machine on start minutes work).1 ∧ ¬ (xCheck S member machine on start minutes work).1 = 0 ∧ ∃ z9, xRX G A S ad z9 H) A) 1 6 A := by
  refine vx_ofW (cc := cX1_check) (maxL := 7) (ret := (some .char)) (by decide) rfl ?_
  intro p e s m args below meth c s₁ B hml hnt hv
  obtain ⟨rfl, hWK, hR⟩ := hv
  have g := g1.1
  have hx := B.exec
  have hb := B.bytes
  have hr := B.returns
  have hts := atoms_spec (ws := ws_ yX1_check cX1_check 7 (some .char)) B.pre
  have hts : ∀ w ∈ lw_all, w.before _ s = true := fun w h => hts w (List.mem_cons_of_mem _ h)
  have hown : s.vm.findClass "Lendlathe" = some m.cls := findClass_of_methodNamed B.named
  have hlocks := B.notSynchronized
  have hK := hWK.K g
  have F : CallFix p m c cX1_check 7 s _ lw_all "Lendlathe" := ⟨hx, hb, hml, hown, hts⟩
  have hS : va_S A s.heap s.heap [] := va_S.rf
  have hl := lv_entry ([.ref (ad (0, 0)), .int member, .int machine, .int on, .int start, .int minutes, .int work]) (n := 7) (Nat.le_of_ble_eq_true rfl)
  rw [lg_entry_eq]
  generalize (lg_sl ([.ref (ad (0, 0)), .int member, .int machine, .int on, .int start, .int minutes, .int work]) ++ List.replicate (7 - (lg_sl ([.ref (ad (0, 0)), .int member, .int machine, .int on, .int start, .int minutes, .int work])).length) Slot.unset).toArray = ls at hl ⊢
  have hl : lv_has ls 7 [(0, .ref (ad (0, 0))), (1, .int member), (2, .int machine), (3, .int on), (4, .int start), (5, .int minutes), (6, .int work)] := hl
  have hn0 := hW.1.1
  have hn1 := hW.1.2.1
  have hn2 := hW.1.2.2.1
  have hn3 := hW.1.2.2.2.1
  have hn4 := hW.1.2.2.2.2
  refine lv_aload_n hx hb dX1_check_0 rfl (lv_at hl 0 rfl) ?_
  refine lv_iload_n hx hb dX1_check_1 rfl (lv_at hl 1 rfl) ?_
  refine lv_iload_n hx hb dX1_check_2 rfl (lv_at hl 2 rfl) ?_
  refine lv_iload_n hx hb dX1_check_3 rfl (lv_at hl 3 rfl) ?_
  refine lv_iload hx hb dX1_check_4 (lv_at hl 4 rfl) ?_
  refine lv_iload hx hb dX1_check_6 (lv_at hl 5 rfl) ?_
  refine lv_iload hx hb dX1_check_8 (lv_at hl 6 rfl) ?_
  rcases Decidable.em (xMayAsk S member machine on start minutes work = 0) with c_10 | c_10
  · refine xc_P0 (va_runV (As := [.int member, .int machine, .int on, .int start, .int minutes, .int work]) (rest := []) F (xX1_mayAsk_ok g1 (A := A) (S := S) (ad := ad) (z := z) member machine on start minutes work c_10) (cwV 6 hts (lw_V q999 q1001 qs21 q56 q1002) rfl rfl rfl hdV_X1_mayAsk ⟨Nat.le_of_ble_eq_true rfl, Nat.le_of_ble_eq_true rfl⟩) (xpreV (xrecv hK (xw_0 hR) rfl) hWK hS hR) rfl rfl hl.1 rfl (lv_room (Nat.le_of_ble_eq_true rfl)) dX1_check_10 ⟨Nat.le_of_ble_eq_true rfl, Nat.le_of_ble_eq_true rfl⟩) ?_
    obtain ⟨mj, hmj, rfl⟩ := inI_of' (n := S.1 1 0) (by first | rfl | decide) (by first | decide | omega) (xMayAsk_in c_10).1
    obtain ⟨qj, hqj, rfl⟩ := inI_of' (n := S.1 0 0) (by first | rfl | decide) (by first | decide | omega) (xMayAsk_in c_10).2
    refine lv_aload_n hx hb dX1_check_13 rfl (lv_at hl 0 rfl) ?_
    refine lv_iload_n hx hb dX1_check_14 rfl (lv_at hl 1 rfl) ?_
    refine lv_iload_n hx hb dX1_check_15 rfl (lv_at hl 2 rfl) ?_
    refine lv_iload_n hx hb dX1_check_16 rfl (lv_at hl 3 rfl) ?_
    refine lv_iload hx hb dX1_check_17 (lv_at hl 4 rfl) ?_
    refine lv_iload hx hb dX1_check_19 (lv_at hl 5 rfl) ?_
    refine lv_iload hx hb dX1_check_21 (lv_at hl 6 rfl) ?_
    refine xc_C (va_runV (As := [.int (nI mj), .int (nI qj), .int on, .int start, .int minutes, .int work]) (rest := []) F (xX1_checks g1 (A := A) (S := S) (ad := ad) (z := z) on start minutes work (xi_nI (n := (S.1 1 0)) (by omega) (by omega)) (xi_nI (n := (S.1 0 0)) (by omega) (by omega)) hW hA) (cwV 6 hts (lw_V q1014 q680 qs8 q56 q681) rfl rfl rfl hdV_X1_checks ⟨Nat.le_of_ble_eq_true rfl, Nat.le_of_ble_eq_true rfl⟩) (xpreV (xrecv hK (xw_0 hR) rfl) hWK hS hR) rfl rfl hl.1 rfl (lv_room (Nat.le_of_ble_eq_true rfl)) dX1_check_23 ⟨Nat.le_of_ble_eq_true rfl, Nat.le_of_ble_eq_true rfl⟩) hS (fun H locs hR1 hz hk hS => ?_)
    obtain ⟨z_23, hR⟩ := hR1
    have e9 : xCheck S (nI mj) (nI qj) on start minutes work = (0, xLet S (nI mj) (nI qj) on start minutes work, S) := by simp [xCheck, c_10, nI_clamp (show mj < 2 ^ 31 by omega), nI_clamp (show qj < 2 ^ 31 by omega)]
    exact vx_ret (xr_Cc hx hb hr hlocks ((congrArg (fun q => q.2.1) e9).symm) (⟨congrArg Prod.fst e9, ad, z_23, by rw [show (xCheck S (nI mj) (nI qj) on start minutes work).2.2 = S from congrArg (fun q => q.2.2) e9]; exact hR, rfl⟩) hS (by first | omega | decide) (by first | omega | decide) xCheck_nar dX1_check_26)
  · have e9 : (xCheck S member machine on start minutes work).1 = xMayAsk S member machine on start minutes work := by simp [xCheck, c_10]
    exact xc_T (vx_runV (As := [.int member, .int machine, .int on, .int start, .int minutes, .int work]) (rest := []) F (xX1_mayAsk_no g1 (A := A) (S := S) (ad := ad) (z := z) member machine on start minutes work c_10) (cwV 6 hts (lw_V q999 q1001 qs21 q56 q1002) rfl rfl rfl hdV_X1_mayAsk ⟨Nat.le_of_ble_eq_true rfl, Nat.le_of_ble_eq_true rfl⟩) (xpreV (xrecv hK (xw_0 hR) rfl) hWK hS hR) rfl rfl hl.1 rfl (lv_room (Nat.le_of_ble_eq_true rfl)) dX1_check_10 ⟨Nat.le_of_ble_eq_true rfl, Nat.le_of_ble_eq_true rfl⟩) hS (fun E ce q9 H locs hX hz hk hS hq9 hv9 hc9 => vx_out (fun x hx => (hnt x hx).elim) hlocks hq9 hv9 hc9 (fun t ht _ => ⟨by rw [ht]; exact ⟨hX.1.trans (congrArg xExn e9).symm, (by rw [e9]; exact c_10), z, hR.grow hX.2⟩, hS.F ht⟩) hS.2.2 (Nat.le_of_ble_eq_true rfl) (Nat.le_of_ble_eq_true rfl))

set_option maxHeartbeats 4000000 in
theorem xX1_cancel {l : Launch} {G : xG} {s0 : State} {b0 : Nat} (g1 : xG1 l G s0 b0) {A : Nat → Prop} {S : xS} {ad : Nat × Nat → Nat} {z : xZ} (entry : Int32) (hW : xW S) (hA : ∃ rk, rkOK S.2.1 rk ∧ ∀ i, rk i < 4) (hT : xTd S) : vx_Met l yX1_cancel (ws_ yX1_cancel cX1_cancel 4 (some .char)) ({ frames := 14, cells := 1, slots := 6, locals := 396 } : Room) (xP s0 A [.ref (ad (0, 0)), .int entry] (fun H => xRX G A S ad z H)) (xQc (some (.int ((xCancel S entry).2.1))) (fun _ H => (xCancel S entry).1 = 0 ∧ ∃ ad9 z9, xRX G A (xCancel S entry).2.2 ad9 z9 H ∧ ad9 (0, 0) = ad (0, 0)) A) (xXc (fun E _ H => E = xExn (xCancel S entry).1 ∧ ¬ (xCancel S entry).1 = 0 ∧ ∃ z9, xRX G A S ad z9 H) A) 1 6 A := by
  refine vx_ofW (cc := cX1_cancel) (maxL := 4) (ret := (some .char)) (by decide) rfl ?_
  intro p e s m args below meth c s₁ B hml hnt hv
  obtain ⟨rfl, hWK, hR⟩ := hv
  have g := g1.1
  have hx := B.exec
  have hb := B.bytes
  have hr := B.returns
  have hts := atoms_spec (ws := ws_ yX1_cancel cX1_cancel 4 (some .char)) B.pre
  have hts : ∀ w ∈ lw_all, w.before _ s = true := fun w h => hts w (List.mem_cons_of_mem _ h)
  have hown : s.vm.findClass "Lendlathe" = some m.cls := findClass_of_methodNamed B.named
  have hlocks := B.notSynchronized
  have hK := hWK.K g
  have F : CallFix p m c cX1_cancel 4 s _ lw_all "Lendlathe" := ⟨hx, hb, hml, hown, hts⟩
  have hS : va_S A s.heap s.heap [] := va_S.rf
  have hl := lv_entry ([.ref (ad (0, 0)), .int entry]) (n := 4) (Nat.le_of_ble_eq_true rfl)
  rw [lg_entry_eq]
  generalize (lg_sl ([.ref (ad (0, 0)), .int entry]) ++ List.replicate (4 - (lg_sl ([.ref (ad (0, 0)), .int entry])).length) Slot.unset).toArray = ls at hl ⊢
  have hl : lv_has ls 4 [(0, .ref (ad (0, 0))), (1, .int entry)] := hl
  have hn0 := hW.1.1
  have hn1 := hW.1.2.1
  have hn2 := hW.1.2.2.1
  have hn3 := hW.1.2.2.2.1
  have hn4 := hW.1.2.2.2.2
  refine lv_aload_n hx hb dX1_cancel_0 rfl (lv_at hl 0 rfl) ?_
  refine lv_iload_n hx hb dX1_cancel_1 rfl (lv_at hl 1 rfl) ?_
  rcases xbtf (inI entry 0 (nI (S.1 2 0) - 1)) with c_2 | c_2
  · obtain ⟨ej, hej, rfl⟩ := inI_of' (n := S.1 2 0) (by first | rfl | decide) (by first | decide | omega) c_2
    refine xc_P (va_runV (As := [.int (nI ej)]) (rest := []) F (xX1_entryAt_ok g1 (A := A) (S := S) (ad := ad) (z := z) (xi_nI (n := (S.1 2 0)) (by omega) (by omega)) (by first | exact hW | exact hWs | exact xOwe_W hW _ _ | exact xEnds_W hW _ | exact xEnds_W (xOwe_W hW _ _) _)) (cwV 1 hts (lw_V q1121 q1123 qs25 q56 q1124) rfl rfl rfl hdV_X1_entryAt ⟨Nat.le_of_ble_eq_true rfl, Nat.le_of_ble_eq_true rfl⟩) (xpreV (xrecv hK (xw_0 hR) rfl) hWK hS hR) rfl rfl hl.1 rfl (lv_room (Nat.le_of_ble_eq_true rfl)) dX1_cancel_2 ⟨Nat.le_of_ble_eq_true rfl, Nat.le_of_ble_eq_true rfl⟩) ?_
    refine lv_astore_n (lv' := [(2, .ref (ad (23, ej))), (0, .ref (ad (0, 0))), (1, .int (nI ej))]) hx hb dX1_cancel_5 rfl hl (by decide) rfl (fun ls hl => ?_)
    refine lv_aload_n hx hb dX1_cancel_6 rfl (lv_at hl 0 rfl) ?_
    refine g_X1_150 F hWK g hK (xw_23 hR (xi_nI (n := (S.1 2 0)) (by omega) (by omega)).lt) (v := .int (S.2.1 16 ej 0)) rfl dX1_cancel_7 ?_
    refine lv_bipush (v := 119) hx hb dX1_cancel_10 (by decide) ?_
    refine lv_icmp_eq (tgt := 24) hx hb dX1_cancel_12 (by decide) (fun c_12 => ?_) (fun c_12 => ?_)
    · refine lv_iconst (v := 1) hx hb dX1_cancel_24 (by decide) ?_
      refine lv_goto (tgt := 29) hx hb dX1_cancel_25 (by decide) ?_
      refine xc_P0 (va_runS (As := [.int 1]) (rest := []) F (xX1_ready_ok g1 (A := A) true rfl) (va_cwS 1 hts (lw_S q769 q770 q56 q771) rfl rfl rfl hdS_X1_ready ⟨Nat.le_of_ble_eq_true rfl, Nat.le_of_ble_eq_true rfl⟩) (xpre hWK hS trivial) rfl rfl hl.1 rfl (lv_room (Nat.le_of_ble_eq_true rfl)) dX1_cancel_29 ⟨Nat.le_of_ble_eq_true rfl, Nat.le_of_ble_eq_true rfl⟩) ?_
      refine lv_aload_n hx hb dX1_cancel_32 rfl (lv_at hl 0 rfl) ?_
      refine g_X1_150 F hWK g hK (xw_23 hR (xi_nI (n := (S.1 2 0)) (by omega) (by omega)).lt) (v := .int (S.2.1 16 ej 0)) rfl dX1_cancel_33 ?_
      refine lv_bipush (v := 119) hx hb dX1_cancel_36 (by decide) ?_
      refine lv_icmp_ne (tgt := 46) hx hb dX1_cancel_38 (by decide) (fun c_38 => ?_) (fun c_38 => ?_)
      · exact absurd c_12 c_38
      · refine lv_bipush (v := 119) hx hb dX1_cancel_41 (by decide) ?_
        refine lv_goto (tgt := 64) hx hb dX1_cancel_43 (by decide) ?_
        refine lv_istore_n (lv' := [(3, .int 119), (2, .ref (ad (23, ej))), (0, .ref (ad (0, 0))), (1, .int (nI ej))]) hx hb dX1_cancel_64 rfl hl (by decide) rfl (fun ls hl => ?_)
        refine lv_iload_n hx hb dX1_cancel_65 rfl (lv_at hl 0 rfl) ?_
        refine lv_bipush (v := 104) hx hb dX1_cancel_66 (by decide) ?_
        refine lv_icmp_ne (tgt := 81) hx hb dX1_cancel_68 (by decide) (fun c_68 => ?_) (fun c_68 => (by first | exact absurd c_68 (by decide) | exact absurd (by decide) c_68))
        refine lv_aload_n hx hb dX1_cancel_81 rfl (lv_at hl 1 rfl) ?_
        refine xc_C0 (va_runV (As := []) (rest := []) F (xX8_ends g1 (A := A) (S := S) (ad := ad) (z := z) ej ((xi_nI (n := (S.1 2 0)) (by omega) (by omega)).lt) (by first | exact hW | exact hWs | exact xOwe_W hW _ _ | exact xEnds_W hW _ | exact xEnds_W (xOwe_W hW _ _) _)) (cwV 0 hts (lw_V q893 q894 q895 q89 q896) rfl rfl rfl hdV_X8_ends ⟨Nat.le_of_ble_eq_true rfl, Nat.le_of_ble_eq_true rfl⟩) (xpreV (xrecv hK (xw_23 hR (xi_nI (n := (S.1 2 0)) (by omega) (by omega)).lt) rfl) hWK hS hR) rfl rfl hl.1 rfl (lv_room (Nat.le_of_ble_eq_true rfl)) dX1_cancel_82 ⟨Nat.le_of_ble_eq_true rfl, Nat.le_of_ble_eq_true rfl⟩) hS (fun H locs hR1 hz hk hS => ?_)
        have hR := hR1
        refine lv_aload_n hx hb dX1_cancel_85 rfl (lv_at hl 2 rfl) ?_
        refine xc_C0 (va_runV (As := []) (rest := []) F (xX1_fills g1 (A := A) (S := (xEnds S ej)) (ad := ad) (z := z) (by first | exact hW | exact hWs | exact xOwe_W hW _ _ | exact xEnds_W hW _ | exact xEnds_W (xOwe_W hW _ _) _) (by first | exact hA | exact hA1 | exact rk_owe _ _ hA | exact rk_ends _ hA | exact rk_ends _ (rk_owe _ _ hA))) (cwV 0 hts (lw_V q898 q900 qs18 q56 q901) rfl rfl rfl hdV_X1_fills ⟨Nat.le_of_ble_eq_true rfl, Nat.le_of_ble_eq_true rfl⟩) (xpreV (xrecv hK (xw_0 hR) rfl) hWK hS hR) rfl rfl hl.1 rfl (lv_room (Nat.le_of_ble_eq_true rfl)) dX1_cancel_86 ⟨Nat.le_of_ble_eq_true rfl, Nat.le_of_ble_eq_true rfl⟩) hS (fun H locs hR1 hz hk hS => ?_)
        obtain ⟨z_86, hR⟩ := hR1
        refine lv_iload_n hx hb dX1_cancel_89 rfl (lv_at hl 0 rfl) ?_
        have e9 : xCancel S (nI ej) = (0, 119, (xFills (xEnds S ej))) := by simp [xCancel, c_2, c_12, c_38, nI_clamp (show ej < 2 ^ 31 by omega)]
        exact vx_ret (xr_Cc hx hb hr hlocks ((congrArg (fun q => q.2.1) e9).symm) (⟨congrArg Prod.fst e9, ad, z_86, by rw [show (xCancel S (nI ej)).2.2 = (xFills (xEnds S ej)) from congrArg (fun q => q.2.2) e9]; exact hR, rfl⟩) hS (by first | omega | decide) (by first | omega | decide) xCancel_nar dX1_cancel_90)
    · refine lv_aload_n hx hb dX1_cancel_15 rfl (lv_at hl 0 rfl) ?_
      refine g_X1_150 F hWK g hK (xw_23 hR (xi_nI (n := (S.1 2 0)) (by omega) (by omega)).lt) (v := .int (S.2.1 16 ej 0)) rfl dX1_cancel_16 ?_
      refine lv_bipush (v := 98) hx hb dX1_cancel_19 (by decide) ?_
      refine lv_icmp_ne (tgt := 28) hx hb dX1_cancel_21 (by decide) (fun c_21 => ?_) (fun c_21 => ?_)
      · refine lv_iconst (v := 0) hx hb dX1_cancel_28 (by decide) ?_
        have e9 : (xCancel S (nI ej)).1 = 2 := by simp [xCancel, c_2, c_12, c_21, nI_clamp (show ej < 2 ^ 31 by omega)]
        exact xc_T (vx_runS (As := [.int 0]) (rest := []) F (xX1_ready_no g1 (A := A) false rfl) (va_cwS 1 hts (lw_S q769 q770 q56 q771) rfl rfl rfl hdS_X1_ready ⟨Nat.le_of_ble_eq_true rfl, Nat.le_of_ble_eq_true rfl⟩) (xpre hWK hS trivial) rfl rfl hl.1 rfl (lv_room (Nat.le_of_ble_eq_true rfl)) dX1_cancel_29 ⟨Nat.le_of_ble_eq_true rfl, Nat.le_of_ble_eq_true rfl⟩) hS (fun E ce q9 H locs hX hz hk hS hq9 hv9 hc9 => vx_out (fun x hx => (hnt x hx).elim) hlocks hq9 hv9 hc9 (fun t ht _ => ⟨by rw [ht]; exact ⟨hX.1.trans (congrArg xExn e9).symm, (by rw [e9]; decide), z, hR.grow hX.2⟩, hS.F ht⟩) hS.2.2 (Nat.le_of_ble_eq_true rfl) (Nat.le_of_ble_eq_true rfl))
      · refine lv_iconst (v := 1) hx hb dX1_cancel_24 (by decide) ?_
        refine lv_goto (tgt := 29) hx hb dX1_cancel_25 (by decide) ?_
        refine xc_P0 (va_runS (As := [.int 1]) (rest := []) F (xX1_ready_ok g1 (A := A) true rfl) (va_cwS 1 hts (lw_S q769 q770 q56 q771) rfl rfl rfl hdS_X1_ready ⟨Nat.le_of_ble_eq_true rfl, Nat.le_of_ble_eq_true rfl⟩) (xpre hWK hS trivial) rfl rfl hl.1 rfl (lv_room (Nat.le_of_ble_eq_true rfl)) dX1_cancel_29 ⟨Nat.le_of_ble_eq_true rfl, Nat.le_of_ble_eq_true rfl⟩) ?_
        refine lv_aload_n hx hb dX1_cancel_32 rfl (lv_at hl 0 rfl) ?_
        refine g_X1_150 F hWK g hK (xw_23 hR (xi_nI (n := (S.1 2 0)) (by omega) (by omega)).lt) (v := .int (S.2.1 16 ej 0)) rfl dX1_cancel_33 ?_
        refine lv_bipush (v := 119) hx hb dX1_cancel_36 (by decide) ?_
        refine lv_icmp_ne (tgt := 46) hx hb dX1_cancel_38 (by decide) (fun c_38 => ?_) (fun c_38 => ?_)
        · refine lv_aload_n hx hb dX1_cancel_46 rfl (lv_at hl 0 rfl) ?_
          refine g_X1_154 F hK (xw_23 hR (xi_nI (n := (S.1 2 0)) (by omega) (by omega)).lt) (v := .int (S.2.1 12 ej 0)) rfl dX1_cancel_47 ?_
          refine lv_aload_n hx hb dX1_cancel_50 rfl (lv_at hl 1 rfl) ?_
          refine g_X1_215 F hK (xw_0 hR) (v := .int (S.2.1 7 0 0)) rfl dX1_cancel_51 ?_
          refine lv_icmp_ne (tgt := 62) hx hb dX1_cancel_54 (by decide) (fun c_54 => ?_) (fun c_54 => ?_)
          · refine lv_bipush (v := 102) hx hb dX1_cancel_62 (by decide) ?_
            refine lv_istore_n (lv' := [(3, .int 102), (2, .ref (ad (23, ej))), (0, .ref (ad (0, 0))), (1, .int (nI ej))]) hx hb dX1_cancel_64 rfl hl (by decide) rfl (fun ls hl => ?_)
            refine lv_iload_n hx hb dX1_cancel_65 rfl (lv_at hl 0 rfl) ?_
            refine lv_bipush (v := 104) hx hb dX1_cancel_66 (by decide) ?_
            refine lv_icmp_ne (tgt := 81) hx hb dX1_cancel_68 (by decide) (fun c_68 => ?_) (fun c_68 => (by first | exact absurd c_68 (by decide) | exact absurd (by decide) c_68))
            refine lv_aload_n hx hb dX1_cancel_81 rfl (lv_at hl 1 rfl) ?_
            refine xc_C0 (va_runV (As := []) (rest := []) F (xX8_ends g1 (A := A) (S := S) (ad := ad) (z := z) ej ((xi_nI (n := (S.1 2 0)) (by omega) (by omega)).lt) (by first | exact hW | exact hWs | exact xOwe_W hW _ _ | exact xEnds_W hW _ | exact xEnds_W (xOwe_W hW _ _) _)) (cwV 0 hts (lw_V q893 q894 q895 q89 q896) rfl rfl rfl hdV_X8_ends ⟨Nat.le_of_ble_eq_true rfl, Nat.le_of_ble_eq_true rfl⟩) (xpreV (xrecv hK (xw_23 hR (xi_nI (n := (S.1 2 0)) (by omega) (by omega)).lt) rfl) hWK hS hR) rfl rfl hl.1 rfl (lv_room (Nat.le_of_ble_eq_true rfl)) dX1_cancel_82 ⟨Nat.le_of_ble_eq_true rfl, Nat.le_of_ble_eq_true rfl⟩) hS (fun H locs hR1 hz hk hS => ?_)
            have hR := hR1
            refine lv_aload_n hx hb dX1_cancel_85 rfl (lv_at hl 2 rfl) ?_
            refine xc_C0 (va_runV (As := []) (rest := []) F (xX1_fills g1 (A := A) (S := (xEnds S ej)) (ad := ad) (z := z) (by first | exact hW | exact hWs | exact xOwe_W hW _ _ | exact xEnds_W hW _ | exact xEnds_W (xOwe_W hW _ _) _) (by first | exact hA | exact hA1 | exact rk_owe _ _ hA | exact rk_ends _ hA | exact rk_ends _ (rk_owe _ _ hA))) (cwV 0 hts (lw_V q898 q900 qs18 q56 q901) rfl rfl rfl hdV_X1_fills ⟨Nat.le_of_ble_eq_true rfl, Nat.le_of_ble_eq_true rfl⟩) (xpreV (xrecv hK (xw_0 hR) rfl) hWK hS hR) rfl rfl hl.1 rfl (lv_room (Nat.le_of_ble_eq_true rfl)) dX1_cancel_86 ⟨Nat.le_of_ble_eq_true rfl, Nat.le_of_ble_eq_true rfl⟩) hS (fun H locs hR1 hz hk hS => ?_)
            obtain ⟨z_86, hR⟩ := hR1
            refine lv_iload_n hx hb dX1_cancel_89 rfl (lv_at hl 0 rfl) ?_
            have e9 : xCancel S (nI ej) = (0, 102, (xFills (xEnds S ej))) := by simp [xCancel, c_2, c_12, c_21, c_38, c_54, nI_clamp (show ej < 2 ^ 31 by omega)]
            exact vx_ret (xr_Cc hx hb hr hlocks ((congrArg (fun q => q.2.1) e9).symm) (⟨congrArg Prod.fst e9, ad, z_86, by rw [show (xCancel S (nI ej)).2.2 = (xFills (xEnds S ej)) from congrArg (fun q => q.2.2) e9]; exact hR, rfl⟩) hS (by first | omega | decide) (by first | omega | decide) xCancel_nar dX1_cancel_90)
          · refine lv_bipush (v := 104) hx hb dX1_cancel_57 (by decide) ?_
            refine lv_goto (tgt := 64) hx hb dX1_cancel_59 (by decide) ?_
            refine lv_istore_n (lv' := [(3, .int 104), (2, .ref (ad (23, ej))), (0, .ref (ad (0, 0))), (1, .int (nI ej))]) hx hb dX1_cancel_64 rfl hl (by decide) rfl (fun ls hl => ?_)
            refine lv_iload_n hx hb dX1_cancel_65 rfl (lv_at hl 0 rfl) ?_
            refine lv_bipush (v := 104) hx hb dX1_cancel_66 (by decide) ?_
            refine lv_icmp_ne (tgt := 81) hx hb dX1_cancel_68 (by decide) (fun c_68 => (by first | exact absurd c_68 (by decide) | exact absurd (by decide) c_68)) (fun c_68 => ?_)
            refine lv_aload_n hx hb dX1_cancel_71 rfl (lv_at hl 1 rfl) ?_
            refine lv_aload_n hx hb dX1_cancel_72 rfl (lv_at hl 1 rfl) ?_
            refine xc_P (va_runV (As := []) (rest := [.ref (ad (23, ej))]) F (xX8_forMinutes g1 (A := A) (S := S) (ad := ad) (z := z) ej ((xi_nI (n := (S.1 2 0)) (by omega) (by omega)).lt) (by first | exact hW | exact hWs | exact xOwe_W hW _ _ | exact xEnds_W hW _ | exact xEnds_W (xOwe_W hW _ _) _) hT) (cwV 0 hts (lw_V q1128 q1129 q1130 q89 q1131) rfl rfl rfl hdV_X8_forMinutes ⟨Nat.le_of_ble_eq_true rfl, Nat.le_of_ble_eq_true rfl⟩) (xpreV (xrecv hK (xw_23 hR (xi_nI (n := (S.1 2 0)) (by omega) (by omega)).lt) rfl) hWK hS hR) rfl rfl hl.1 rfl (lv_room (Nat.le_of_ble_eq_true rfl)) dX1_cancel_73 ⟨Nat.le_of_ble_eq_true rfl, Nat.le_of_ble_eq_true rfl⟩) ?_
            refine lv_iconst (v := 2) hx hb dX1_cancel_76 (by decide) ?_
            refine lv_idiv hx hb dX1_cancel_77 (by decide) ?_
            refine xc_C0 (va_runV (As := [.int ((xCostE S ej) / 2)]) (rest := []) F (xX8_owes g1 (A := A) (S := S) (ad := ad) (z := z) ej ((xCostE S ej) / 2) ((xi_nI (n := (S.1 2 0)) (by omega) (by omega)).lt) (by first | exact hW | exact hWs | exact xOwe_W hW _ _ | exact xEnds_W hW _ | exact xEnds_W (xOwe_W hW _ _) _)) (cwV 1 hts (lw_V q1142 q1143 q1144 q89 q1145) rfl rfl rfl hdV_X8_owes ⟨Nat.le_of_ble_eq_true rfl, Nat.le_of_ble_eq_true rfl⟩) (xpreV (xrecv hK (xw_23 hR (xi_nI (n := (S.1 2 0)) (by omega) (by omega)).lt) rfl) hWK hS hR) rfl rfl hl.1 rfl (lv_room (Nat.le_of_ble_eq_true rfl)) dX1_cancel_78 ⟨Nat.le_of_ble_eq_true rfl, Nat.le_of_ble_eq_true rfl⟩) hS (fun H locs hR1 hz hk hS => ?_)
            have hR := hR1
            refine lv_aload_n hx hb dX1_cancel_81 rfl (lv_at hl 1 rfl) ?_
            refine xc_C0 (va_runV (As := []) (rest := []) F (xX8_ends g1 (A := A) (S := (xOwe S ej ((xCostE S ej) / 2))) (ad := ad) (z := z) ej ((xi_nI (n := (S.1 2 0)) (by omega) (by omega)).lt) (by first | exact hW | exact hWs | exact xOwe_W hW _ _ | exact xEnds_W hW _ | exact xEnds_W (xOwe_W hW _ _) _)) (cwV 0 hts (lw_V q893 q894 q895 q89 q896) rfl rfl rfl hdV_X8_ends ⟨Nat.le_of_ble_eq_true rfl, Nat.le_of_ble_eq_true rfl⟩) (xpreV (xrecv hK (xw_23 hR (xi_nI (n := (S.1 2 0)) (by omega) (by omega)).lt) rfl) hWK hS hR) rfl rfl hl.1 rfl (lv_room (Nat.le_of_ble_eq_true rfl)) dX1_cancel_82 ⟨Nat.le_of_ble_eq_true rfl, Nat.le_of_ble_eq_true rfl⟩) hS (fun H locs hR1 hz hk hS => ?_)
            have hR := hR1
            refine lv_aload_n hx hb dX1_cancel_85 rfl (lv_at hl 2 rfl) ?_
            refine xc_C0 (va_runV (As := []) (rest := []) F (xX1_fills g1 (A := A) (S := (xEnds (xOwe S ej ((xCostE S ej) / 2)) ej)) (ad := ad) (z := z) (by first | exact hW | exact hWs | exact xOwe_W hW _ _ | exact xEnds_W hW _ | exact xEnds_W (xOwe_W hW _ _) _) (by first | exact hA | exact hA1 | exact rk_owe _ _ hA | exact rk_ends _ hA | exact rk_ends _ (rk_owe _ _ hA))) (cwV 0 hts (lw_V q898 q900 qs18 q56 q901) rfl rfl rfl hdV_X1_fills ⟨Nat.le_of_ble_eq_true rfl, Nat.le_of_ble_eq_true rfl⟩) (xpreV (xrecv hK (xw_0 hR) rfl) hWK hS hR) rfl rfl hl.1 rfl (lv_room (Nat.le_of_ble_eq_true rfl)) dX1_cancel_86 ⟨Nat.le_of_ble_eq_true rfl, Nat.le_of_ble_eq_true rfl⟩) hS (fun H locs hR1 hz hk hS => ?_)
            obtain ⟨z_86, hR⟩ := hR1
            refine lv_iload_n hx hb dX1_cancel_89 rfl (lv_at hl 0 rfl) ?_
            have e9 : xCancel S (nI ej) = (0, 104, (xFills (xEnds (xOwe S ej ((xCostE S ej) / 2)) ej))) := by simp [xCancel, c_2, c_12, c_21, c_38, c_54, nI_clamp (show ej < 2 ^ 31 by omega)]
            exact vx_ret (xr_Cc hx hb hr hlocks ((congrArg (fun q => q.2.1) e9).symm) (⟨congrArg Prod.fst e9, ad, z_86, by rw [show (xCancel S (nI ej)).2.2 = (xFills (xEnds (xOwe S ej ((xCostE S ej) / 2)) ej)) from congrArg (fun q => q.2.2) e9]; exact hR, rfl⟩) hS (by first | omega | decide) (by first | omega | decide) xCancel_nar dX1_cancel_90)
        · exact absurd c_38 c_12
  · have e9 : (xCancel S entry).1 = 3 := by simp [xCancel, c_2]
    exact xc_T (vx_runV (As := [.int entry]) (rest := []) F (xX1_entryAt_no g1 (A := A) (S := S) (ad := ad) (z := z) entry (by first | exact hW | exact hWs | exact xOwe_W hW _ _ | exact xEnds_W hW _ | exact xEnds_W (xOwe_W hW _ _) _) c_2) (cwV 1 hts (lw_V q1121 q1123 qs25 q56 q1124) rfl rfl rfl hdV_X1_entryAt ⟨Nat.le_of_ble_eq_true rfl, Nat.le_of_ble_eq_true rfl⟩) (xpreV (xrecv hK (xw_0 hR) rfl) hWK hS hR) rfl rfl hl.1 rfl (lv_room (Nat.le_of_ble_eq_true rfl)) dX1_cancel_2 ⟨Nat.le_of_ble_eq_true rfl, Nat.le_of_ble_eq_true rfl⟩) hS (fun E ce q9 H locs hX hz hk hS hq9 hv9 hc9 => vx_out (fun x hx => (hnt x hx).elim) hlocks hq9 hv9 hc9 (fun t ht _ => ⟨by rw [ht]; exact ⟨hX.1.trans (congrArg xExn e9).symm, (by rw [e9]; decide), z, hR.grow hX.2⟩, hS.F ht⟩) hS.2.2 (Nat.le_of_ble_eq_true rfl) (Nat.le_of_ble_eq_true rfl))

set_option maxHeartbeats 4000000 in
theorem xX1_addNeed {l : Launch} {G : xG} {s0 : State} {b0 : Nat} (g1 : xG1 l G s0 b0) {A : Nat → Prop} {S : xS} {ad : Nat × Nat → Nat} {z : xZ} (kind other : Int32) (hW : xW S) (hA : ∃ rk, rkOK S.2.1 rk ∧ ∀ i, rk i < 4) : vx_Met l yX1_addNeed (ws_ yX1_addNeed cX1_addNeed 6 (some .boolean)) ({ frames := 11, cells := 1, slots := 6, locals := 300 } : Room) (xP s0 A [.ref (ad (0, 0)), .int kind, .int other] (fun H => xRX G A S ad z H)) (xQc (some (.int (bI ((xAddNeed S kind other).2.1)))) (fun _ H => (xAddNeed S kind other).1 = 0 ∧ ∃ ad9 z9, xRX G A (xAddNeed S kind other).2.2 ad9 z9 H ∧ ad9 (0, 0) = ad (0, 0)) A) (xXc (fun E _ H => E = xExn (xAddNeed S kind other).1 ∧ ¬ (xAddNeed S kind other).1 = 0 ∧ ∃ z9, xRX G A S ad z9 H) A) 1 6 A := by
  refine vx_ofW (cc := cX1_addNeed) (maxL := 6) (ret := (some .boolean)) (by decide) rfl ?_
  intro p e s m args below meth c s₁ B hml hnt hv
  obtain ⟨rfl, hWK, hR⟩ := hv
  have g := g1.1
  have hx := B.exec
  have hb := B.bytes
  have hr := B.returns
  have hts := atoms_spec (ws := ws_ yX1_addNeed cX1_addNeed 6 (some .boolean)) B.pre
  have hts : ∀ w ∈ lw_all, w.before _ s = true := fun w h => hts w (List.mem_cons_of_mem _ h)
  have hown : s.vm.findClass "Lendlathe" = some m.cls := findClass_of_methodNamed B.named
  have hlocks := B.notSynchronized
  have hK := hWK.K g
  have F : CallFix p m c cX1_addNeed 6 s _ lw_all "Lendlathe" := ⟨hx, hb, hml, hown, hts⟩
  have hS : va_S A s.heap s.heap [] := va_S.rf
  have hl := lv_entry ([.ref (ad (0, 0)), .int kind, .int other]) (n := 6) (Nat.le_of_ble_eq_true rfl)
  rw [lg_entry_eq]
  generalize (lg_sl ([.ref (ad (0, 0)), .int kind, .int other]) ++ List.replicate (6 - (lg_sl ([.ref (ad (0, 0)), .int kind, .int other])).length) Slot.unset).toArray = ls at hl ⊢
  have hl : lv_has ls 6 [(0, .ref (ad (0, 0))), (1, .int kind), (2, .int other)] := hl
  have hn0 := hW.1.1
  have hn1 := hW.1.2.1
  have hn2 := hW.1.2.2.1
  have hn3 := hW.1.2.2.2.1
  have hn4 := hW.1.2.2.2.2
  obtain ⟨rk, hrk, hr4⟩ := id hA
  refine lv_iload_n hx hb dX1_addNeed_0 rfl (lv_at hl 1 rfl) ?_
  refine xc_P (va_runS (As := [.int kind]) (rest := []) F (xX1_isKind g1 (A := A) kind) (va_cwS 1 hts (lw_S q755 q756 q56 q757) rfl rfl rfl hdS_X1_isKind ⟨Nat.le_of_ble_eq_true rfl, Nat.le_of_ble_eq_true rfl⟩) (xpre hWK hS trivial) rfl rfl hl.1 rfl (lv_room (Nat.le_of_ble_eq_true rfl)) dX1_addNeed_1 ⟨Nat.le_of_ble_eq_true rfl, Nat.le_of_ble_eq_true rfl⟩) ?_
  refine x_ifeq (tgt := 23) hx hb dX1_addNeed_4 (by decide) (fun c_4 => ?_) (fun c_4 => ?_)
  · refine lv_iconst (v := 0) hx hb dX1_addNeed_23 (by decide) ?_
    have e9 : (xAddNeed S kind other).1 = 1 := by simp [xAddNeed, c_4]
    exact xc_T (vx_runS (As := [.int 0]) (rest := []) F (xX1_want_no g1 (A := A) false rfl) (va_cwS 1 hts (lw_S q761 q762 q56 q763) rfl rfl rfl hdS_X1_want ⟨Nat.le_of_ble_eq_true rfl, Nat.le_of_ble_eq_true rfl⟩) (xpre hWK hS trivial) rfl rfl hl.1 rfl (lv_room (Nat.le_of_ble_eq_true rfl)) dX1_addNeed_24 ⟨Nat.le_of_ble_eq_true rfl, Nat.le_of_ble_eq_true rfl⟩) hS (fun E ce q9 H locs hX hz hk hS hq9 hv9 hc9 => vx_out (fun x hx => (hnt x hx).elim) hlocks hq9 hv9 hc9 (fun t ht _ => ⟨by rw [ht]; exact ⟨hX.1.trans (congrArg xExn e9).symm, (by rw [e9]; decide), z, hR.grow hX.2⟩, hS.F ht⟩) hS.2.2 (Nat.le_of_ble_eq_true rfl) (Nat.le_of_ble_eq_true rfl))
  · refine lv_iload_n hx hb dX1_addNeed_7 rfl (lv_at hl 2 rfl) ?_
    refine xc_P (va_runS (As := [.int other]) (rest := []) F (xX1_isKind g1 (A := A) other) (va_cwS 1 hts (lw_S q755 q756 q56 q757) rfl rfl rfl hdS_X1_isKind ⟨Nat.le_of_ble_eq_true rfl, Nat.le_of_ble_eq_true rfl⟩) (xpre hWK hS trivial) rfl rfl hl.1 rfl (lv_room (Nat.le_of_ble_eq_true rfl)) dX1_addNeed_8 ⟨Nat.le_of_ble_eq_true rfl, Nat.le_of_ble_eq_true rfl⟩) ?_
    refine x_ifeq (tgt := 23) hx hb dX1_addNeed_11 (by decide) (fun c_11 => ?_) (fun c_11 => ?_)
    · refine lv_iconst (v := 0) hx hb dX1_addNeed_23 (by decide) ?_
      have e9 : (xAddNeed S kind other).1 = 1 := by simp [xAddNeed, c_4, c_11]
      exact xc_T (vx_runS (As := [.int 0]) (rest := []) F (xX1_want_no g1 (A := A) false rfl) (va_cwS 1 hts (lw_S q761 q762 q56 q763) rfl rfl rfl hdS_X1_want ⟨Nat.le_of_ble_eq_true rfl, Nat.le_of_ble_eq_true rfl⟩) (xpre hWK hS trivial) rfl rfl hl.1 rfl (lv_room (Nat.le_of_ble_eq_true rfl)) dX1_addNeed_24 ⟨Nat.le_of_ble_eq_true rfl, Nat.le_of_ble_eq_true rfl⟩) hS (fun E ce q9 H locs hX hz hk hS hq9 hv9 hc9 => vx_out (fun x hx => (hnt x hx).elim) hlocks hq9 hv9 hc9 (fun t ht _ => ⟨by rw [ht]; exact ⟨hX.1.trans (congrArg xExn e9).symm, (by rw [e9]; decide), z, hR.grow hX.2⟩, hS.F ht⟩) hS.2.2 (Nat.le_of_ble_eq_true rfl) (Nat.le_of_ble_eq_true rfl))
    · refine lv_iload_n hx hb dX1_addNeed_14 rfl (lv_at hl 1 rfl) ?_
      refine lv_iload_n hx hb dX1_addNeed_15 rfl (lv_at hl 2 rfl) ?_
      refine lv_icmp_eq (tgt := 23) hx hb dX1_addNeed_16 (by decide) (fun c_16 => ?_) (fun c_16 => ?_)
      · refine lv_iconst (v := 0) hx hb dX1_addNeed_23 (by decide) ?_
        have e9 : (xAddNeed S kind other).1 = 1 := by simp [xAddNeed, c_4, c_11, c_16]
        exact xc_T (vx_runS (As := [.int 0]) (rest := []) F (xX1_want_no g1 (A := A) false rfl) (va_cwS 1 hts (lw_S q761 q762 q56 q763) rfl rfl rfl hdS_X1_want ⟨Nat.le_of_ble_eq_true rfl, Nat.le_of_ble_eq_true rfl⟩) (xpre hWK hS trivial) rfl rfl hl.1 rfl (lv_room (Nat.le_of_ble_eq_true rfl)) dX1_addNeed_24 ⟨Nat.le_of_ble_eq_true rfl, Nat.le_of_ble_eq_true rfl⟩) hS (fun E ce q9 H locs hX hz hk hS hq9 hv9 hc9 => vx_out (fun x hx => (hnt x hx).elim) hlocks hq9 hv9 hc9 (fun t ht _ => ⟨by rw [ht]; exact ⟨hX.1.trans (congrArg xExn e9).symm, (by rw [e9]; decide), z, hR.grow hX.2⟩, hS.F ht⟩) hS.2.2 (Nat.le_of_ble_eq_true rfl) (Nat.le_of_ble_eq_true rfl))
      · refine lv_iconst (v := 1) hx hb dX1_addNeed_19 (by decide) ?_
        refine lv_goto (tgt := 24) hx hb dX1_addNeed_20 (by decide) ?_
        obtain ⟨kj, hkj, rfl⟩ := inI_of' (n := 4) (by first | rfl | decide) (by first | decide | omega) c_4
        obtain ⟨oj, hoj, rfl⟩ := inI_of' (n := 4) (by first | rfl | decide) (by first | decide | omega) c_11
        refine xc_P0 (va_runS (As := [.int 1]) (rest := []) F (xX1_want_ok g1 (A := A) true rfl) (va_cwS 1 hts (lw_S q761 q762 q56 q763) rfl rfl rfl hdS_X1_want ⟨Nat.le_of_ble_eq_true rfl, Nat.le_of_ble_eq_true rfl⟩) (xpre hWK hS trivial) rfl rfl hl.1 rfl (lv_room (Nat.le_of_ble_eq_true rfl)) dX1_addNeed_24 ⟨Nat.le_of_ble_eq_true rfl, Nat.le_of_ble_eq_true rfl⟩) ?_
        refine lv_aload_n hx hb dX1_addNeed_27 rfl (lv_at hl 0 rfl) ?_
        refine lv_iload_n hx hb dX1_addNeed_28 rfl (lv_at hl 2 rfl) ?_
        refine lv_iload_n hx hb dX1_addNeed_29 rfl (lv_at hl 1 rfl) ?_
        refine xc_P (va_runV (As := [.int (nI oj), .int (nI kj)]) (rest := []) F (xX1_leadsTo g1 (A := A) (S := S) (ad := ad) (z := z) hrk 4 oj kj (by first | exact hW | exact hWs | exact xOwe_W hW _ _ | exact xEnds_W hW _ | exact xEnds_W (xOwe_W hW _ _) _) (by first | assumption | omega) (by first | assumption | omega) (hr4 _)) (cwV 2 hts (lw_V q889 q891 qs17 q56 q892) rfl rfl rfl hdV_X1_leadsTo ⟨Nat.le_of_ble_eq_true rfl, Nat.le_of_ble_eq_true rfl⟩) (xpreV (xrecv hK (xw_0 hR) rfl) hWK hS hR) rfl rfl hl.1 rfl (lv_room (Nat.le_of_ble_eq_true rfl)) dX1_addNeed_30 ⟨Nat.le_of_ble_eq_true rfl, Nat.le_of_ble_eq_true rfl⟩) ?_
        refine x_ifne (tgt := 40) hx hb dX1_addNeed_33 (by decide) (fun c_33 => ?_) (fun c_33 => ?_)
        · refine lv_iconst (v := 0) hx hb dX1_addNeed_40 (by decide) ?_
          have e9 : (xAddNeed S (nI kj) (nI oj)).1 = 2 := by simp [xAddNeed, c_4, c_11, c_16, c_33, nI_clamp (show kj < 2 ^ 31 by omega), nI_clamp (show oj < 2 ^ 31 by omega)]
          exact xc_T (vx_runS (As := [.int 0]) (rest := []) F (xX1_ready_no g1 (A := A) false rfl) (va_cwS 1 hts (lw_S q769 q770 q56 q771) rfl rfl rfl hdS_X1_ready ⟨Nat.le_of_ble_eq_true rfl, Nat.le_of_ble_eq_true rfl⟩) (xpre hWK hS trivial) rfl rfl hl.1 rfl (lv_room (Nat.le_of_ble_eq_true rfl)) dX1_addNeed_41 ⟨Nat.le_of_ble_eq_true rfl, Nat.le_of_ble_eq_true rfl⟩) hS (fun E ce q9 H locs hX hz hk hS hq9 hv9 hc9 => vx_out (fun x hx => (hnt x hx).elim) hlocks hq9 hv9 hc9 (fun t ht _ => ⟨by rw [ht]; exact ⟨hX.1.trans (congrArg xExn e9).symm, (by rw [e9]; decide), z, hR.grow hX.2⟩, hS.F ht⟩) hS.2.2 (Nat.le_of_ble_eq_true rfl) (Nat.le_of_ble_eq_true rfl))
        · refine lv_iconst (v := 1) hx hb dX1_addNeed_36 (by decide) ?_
          refine lv_goto (tgt := 41) hx hb dX1_addNeed_37 (by decide) ?_
          refine xc_P0 (va_runS (As := [.int 1]) (rest := []) F (xX1_ready_ok g1 (A := A) true rfl) (va_cwS 1 hts (lw_S q769 q770 q56 q771) rfl rfl rfl hdS_X1_ready ⟨Nat.le_of_ble_eq_true rfl, Nat.le_of_ble_eq_true rfl⟩) (xpre hWK hS trivial) rfl rfl hl.1 rfl (lv_room (Nat.le_of_ble_eq_true rfl)) dX1_addNeed_41 ⟨Nat.le_of_ble_eq_true rfl, Nat.le_of_ble_eq_true rfl⟩) ?_
          refine lv_aload_n hx hb dX1_addNeed_44 rfl (lv_at hl 0 rfl) ?_
          refine g_X1_44 F hK (xw_0 hR) (v := .ref (ad (7, 0))) rfl dX1_addNeed_45 ?_
          refine lv_iload_n hx hb dX1_addNeed_48 rfl (lv_at hl 1 rfl) ?_
          refine x_aald hx hb hK (xw_7 hR) rfl rfl (v := .ref (ad (8, kj))) (xi_nI (n := 4) (by omega) (by omega)) (rfl) dX1_addNeed_49 ?_
          refine lv_iload_n hx hb dX1_addNeed_50 rfl (lv_at hl 2 rfl) ?_
          refine x_zald hx hb hK (xw_8 hR (by omega)) (v := .int (S.2.1 5 kj oj)) (xi_nI (n := 4) (by omega) (by omega)) (rfl) dX1_addNeed_51 ?_
          refine lv_if_ne (tgt := 59) hx hb dX1_addNeed_52 (by decide) (fun c_52 => ?_) (fun c_52 => ?_)
          · refine lv_iconst (v := 0) hx hb dX1_addNeed_59 (by decide) ?_
            refine lv_istore_n (lv' := [(3, .int 0), (0, .ref (ad (0, 0))), (1, .int (nI kj)), (2, .int (nI oj))]) hx hb dX1_addNeed_60 rfl hl (by decide) rfl (fun ls hl => ?_)
            refine lv_aload_n hx hb dX1_addNeed_61 rfl (lv_at hl 1 rfl) ?_
            refine g_X1_44 F hK (xw_0 hR) (v := .ref (ad (7, 0))) rfl dX1_addNeed_62 ?_
            refine lv_iload_n hx hb dX1_addNeed_65 rfl (lv_at hl 2 rfl) ?_
            refine x_aald hx hb hK (xw_7 hR) rfl rfl (v := .ref (ad (8, kj))) (xi_nI (n := 4) (by omega) (by omega)) (rfl) dX1_addNeed_66 ?_
            refine lv_iload_n hx hb dX1_addNeed_67 rfl (lv_at hl 3 rfl) ?_
            refine lv_iconst (v := 1) hx hb dX1_addNeed_68 (by decide) ?_
            refine x_zast hx hb hK hS (xw_8 hR (by omega)) (xa_8 hR (by omega)) (xi_nI (n := 4) (by omega) (by omega)) rfl dX1_addNeed_69 (fun H locs hat hof hS => ?_)
            have hR := xs_8_a hR (by omega) hof hat
            refine lv_iconst (v := 0) hx hb dX1_addNeed_70 (by decide) ?_
            refine lv_istore (lv' := [(4, .int 0), (3, .int 0), (0, .ref (ad (0, 0))), (1, .int (nI kj)), (2, .int (nI oj))]) hx hb dX1_addNeed_71 hl (by decide) rfl (fun ls hl => ?_)
            have L73 : ∀ (n : Nat) (k : Nat) (S1 : xS), S.1 2 0 - k < n → (k ≤ S.1 2 0) → (xW S1) → (∃ rk, rkOK S1.2.1 rk ∧ ∀ i, rk i < 4) → (S1.1 2 0 = S.1 2 0) → (S1 = xSweep (sF S 5 kj oj 1) k) → ∀ (H : Heap) (locs : List Loc), xRX G A S1 ad z H → va_S A s.heap H locs → ∀ (ls : Array Slot), lv_has ls 6 [(4, .int (nI k)), (3, .int 0), (0, .ref (ad (0, 0)))] → W p l e (headSpec (ws_ yX1_addNeed cX1_addNeed 6 (some .boolean)) ({ frames := 11, cells := 1, slots := 6, locals := 300 } : Room)).room s m ([.ref (ad (0, 0)), .int (nI kj), .int (nI oj)] : List Value).toArray below meth c H locs 0 0 (vx_MQ below (xQc (some (.int (bI ((xAddNeed S (nI kj) (nI oj)).2.1)))) (fun _ H => (xAddNeed S (nI kj) (nI oj)).1 = 0 ∧ ∃ ad9 z9, xRX G A (xAddNeed S (nI kj) (nI oj)).2.2 ad9 z9 H ∧ ad9 (0, 0) = ad (0, 0)) A) (xXc (fun E _ H => E = xExn (xAddNeed S (nI kj) (nI oj)).1 ∧ ¬ (xAddNeed S (nI kj) (nI oj)).1 = 0 ∧ ∃ z9, xRX G A S ad z9 H) A) ([.ref (ad (0, 0)), .int (nI kj), .int (nI oj)] : List Value).toArray s 1 6 A) (F0 m 73 ls []) := by
              intro n73
              induction n73 with
              | zero =>
                intro k S1 hn73
                exact absurd hn73 (Nat.not_lt_zero _)
              | succ n73 ih73 =>
                intro k S1 hn73 hk0 hWs hA1 hN eS H locs hR hS ls hl
                have hs0 := hWs.1.1
                have hs1 := hWs.1.2.1
                have hs2 := hWs.1.2.2.1
                have hs3 := hWs.1.2.2.2.1
                refine lv_iload hx hb dX1_addNeed_73 (lv_at hl 0 rfl) ?_
                refine lv_aload_n hx hb dX1_addNeed_75 rfl (lv_at hl 2 rfl) ?_
                refine g_X1_36 F hK (xw_0 hR) (v := .ref (ad (5, 0))) rfl dX1_addNeed_76 ?_
                refine xc_P (va_runV (As := []) (rest := [.int (nI k)]) F (xJ2_size_23 g1 (A := A) (S := S1) (ad := ad) (z := z) ) (cwV 0 hts (lw_V q510 q511 q512 q60 q513) rfl rfl rfl hdV_J2_size ⟨Nat.le_of_ble_eq_true rfl, Nat.le_of_ble_eq_true rfl⟩) (xpreV (xrecv hK (xw_5 hR) rfl) hWK hS hR) rfl rfl hl.1 rfl (lv_room (Nat.le_of_ble_eq_true rfl)) dX1_addNeed_79 ⟨Nat.le_of_ble_eq_true rfl, Nat.le_of_ble_eq_true rfl⟩) ?_
                refine xn_ge (tgt := 138) k (S1.1 2 0) rfl rfl (by omega) (by omega) hx hb dX1_addNeed_82 (by decide) (fun c_82 => ?_) (fun c_82 => ?_)
                · have n_82 := Nat.not_lt.mpr c_82
                  refine lv_aload_n hx hb dX1_addNeed_138 rfl (lv_at hl 2 rfl) ?_
                  refine xc_C0 (va_runV (As := []) (rest := []) F (xX1_fills g1 (A := A) (S := S1) (ad := ad) (z := z) (by first | exact hW | exact hWs | exact xOwe_W hW _ _ | exact xEnds_W hW _ | exact xEnds_W (xOwe_W hW _ _) _) (by first | exact hA | exact hA1 | exact rk_owe _ _ hA | exact rk_ends _ hA | exact rk_ends _ (rk_owe _ _ hA))) (cwV 0 hts (lw_V q898 q900 qs18 q56 q901) rfl rfl rfl hdV_X1_fills ⟨Nat.le_of_ble_eq_true rfl, Nat.le_of_ble_eq_true rfl⟩) (xpreV (xrecv hK (xw_0 hR) rfl) hWK hS hR) rfl rfl hl.1 rfl (lv_room (Nat.le_of_ble_eq_true rfl)) dX1_addNeed_139 ⟨Nat.le_of_ble_eq_true rfl, Nat.le_of_ble_eq_true rfl⟩) hS (fun H locs hR1 hz hk hS => ?_)
                  obtain ⟨z_139, hR⟩ := hR1
                  refine lv_iload_n hx hb dX1_addNeed_142 rfl (lv_at hl 1 rfl) ?_
                  have hk9 : k = S.1 2 0 := (by omega)
                  subst hk9
                  have e9 : xAddNeed S (nI kj) (nI oj) = (0, false, (xFills S1)) := by simp [xAddNeed, c_4, c_11, c_16, c_33, c_52, c_82, n_82, ← eS, nI_clamp (show kj < 2 ^ 31 by omega), nI_clamp (show oj < 2 ^ 31 by omega)]
                  exact vx_ret (xr_Cz hx hb hr hlocks ((by rw [show (xAddNeed S (nI kj) (nI oj)).2.1 = false from congrArg (fun q => q.2.1) e9]; rfl)) (⟨congrArg Prod.fst e9, ad, z_139, by rw [show (xAddNeed S (nI kj) (nI oj)).2.2 = (xFills S1) from congrArg (fun q => q.2.2) e9]; exact hR, rfl⟩) hS (by first | omega | decide) (by first | omega | decide) dX1_addNeed_143)
                · have n_82 := Nat.not_le.mpr c_82
                  refine lv_aload_n hx hb dX1_addNeed_85 rfl (lv_at hl 2 rfl) ?_
                  refine g_X1_36 F hK (xw_0 hR) (v := .ref (ad (5, 0))) rfl dX1_addNeed_86 ?_
                  refine lv_iload hx hb dX1_addNeed_89 (lv_at hl 0 rfl) ?_
                  refine xc_P (va_runV (As := [.int (nI k)]) (rest := []) F (xJ2_get_23 g1 (A := A) (S := S1) (ad := ad) (z := z) (xi_nI (n := (S1.1 2 0)) (by omega) (by omega)) (by first | assumption | omega)) (cwV 1 hts (lw_V q486 q487 q488 q60 q489) rfl rfl rfl hdV_J2_get ⟨Nat.le_of_ble_eq_true rfl, Nat.le_of_ble_eq_true rfl⟩) (xpreV (xrecv hK (xw_5 hR) rfl) hWK hS hR) rfl rfl hl.1 rfl (lv_room (Nat.le_of_ble_eq_true rfl)) dX1_addNeed_91 ⟨Nat.le_of_ble_eq_true rfl, Nat.le_of_ble_eq_true rfl⟩) ?_
                  refine x_castO F hK rfl (xw_23 hR (xi_nI (n := (S1.1 2 0)) (by omega) (by omega)).lt) (hts _ q514) dX1_addNeed_94 ?_
                  refine lv_astore (lv' := [(5, .ref (ad (23, k))), (4, .int (nI k)), (3, .int 0), (0, .ref (ad (0, 0)))]) hx hb dX1_addNeed_97 hl (by decide) rfl (fun ls hl => ?_)
                  refine lv_aload hx hb dX1_addNeed_99 (lv_at hl 0 rfl) ?_
                  refine g_X1_150 F hWK g hK (xw_23 hR (xi_nI (n := (S1.1 2 0)) (by omega) (by omega)).lt) (v := .int (S1.2.1 16 k 0)) rfl dX1_addNeed_101 ?_
                  refine lv_bipush (v := 119) hx hb dX1_addNeed_104 (by decide) ?_
                  refine lv_icmp_eq (tgt := 119) hx hb dX1_addNeed_106 (by decide) (fun c_106 => ?_) (fun c_106 => ?_)
                  · refine lv_aload hx hb dX1_addNeed_119 (lv_at hl 0 rfl) ?_
                    refine xc_P (va_runV (As := []) (rest := []) F (xX8_isLive g1 (A := A) (S := S1) (ad := ad) (z := z) k ((xi_nI (n := (S1.1 2 0)) (by omega) (by omega)).lt) (by first | exact hW | exact hWs | exact xOwe_W hW _ _ | exact xEnds_W hW _ | exact xEnds_W (xOwe_W hW _ _) _) (by first | exact hA | exact hA1 | exact rk_owe _ _ hA | exact rk_ends _ hA | exact rk_ends _ (rk_owe _ _ hA))) (cwV 0 hts (lw_V q709 q710 q711 q89 q712) rfl rfl rfl hdV_X8_isLive ⟨Nat.le_of_ble_eq_true rfl, Nat.le_of_ble_eq_true rfl⟩) (xpreV (xrecv hK (xw_23 hR (xi_nI (n := (S1.1 2 0)) (by omega) (by omega)).lt) rfl) hWK hS hR) rfl rfl hl.1 rfl (lv_room (Nat.le_of_ble_eq_true rfl)) dX1_addNeed_121 ⟨Nat.le_of_ble_eq_true rfl, Nat.le_of_ble_eq_true rfl⟩) ?_
                    refine x_ifne (tgt := 132) hx hb dX1_addNeed_124 (by decide) (fun c_124 => ?_) (fun c_124 => ?_)
                    · refine lv_iinc (v := nI (k + 1)) (lv' := [(4, .int (nI (k + 1))), (5, .ref (ad (23, k))), (3, .int 0), (0, .ref (ad (0, 0)))]) hx hb dX1_addNeed_132 hl (k := 1) rfl (nI_1 _) (by decide) rfl (fun ls hl => ?_)
                      refine lv_goto (tgt := 73) hx hb dX1_addNeed_135 (by decide) ?_
                      exact ih73 (k + 1) S1 (by omega) (by omega) (by first | exact xEnds_W hWs _ | exact hWs | exact xOwe_W hW _ _ | exact xEnds_W hW _ | exact xEnds_W (xOwe_W hW _ _) _) (by first | exact rk_ends _ hA1 | exact hA1 | exact rk_owe _ _ hA | exact rk_ends _ hA | exact rk_ends _ (rk_owe _ _ hA)) (by first | exact hN | exact (congrFun (xEnds_n _ _ (by decide)) 0).trans hN) (by rw [xSweep, ← eS]; simp [xSweepS, xLiveE, c_4, c_11, c_16, c_33, c_52, c_106, c_124]) _ _ hR hS ls (lv_sub hl [0, 2, 3] rfl)
                    · refine lv_aload hx hb dX1_addNeed_127 (lv_at hl 0 rfl) ?_
                      refine xc_C0 (va_runV (As := []) (rest := []) F (xX8_ends g1 (A := A) (S := S1) (ad := ad) (z := z) k ((xi_nI (n := (S1.1 2 0)) (by omega) (by omega)).lt) (by first | exact hW | exact hWs | exact xOwe_W hW _ _ | exact xEnds_W hW _ | exact xEnds_W (xOwe_W hW _ _) _)) (cwV 0 hts (lw_V q893 q894 q895 q89 q896) rfl rfl rfl hdV_X8_ends ⟨Nat.le_of_ble_eq_true rfl, Nat.le_of_ble_eq_true rfl⟩) (xpreV (xrecv hK (xw_23 hR (xi_nI (n := (S1.1 2 0)) (by omega) (by omega)).lt) rfl) hWK hS hR) rfl rfl hl.1 rfl (lv_room (Nat.le_of_ble_eq_true rfl)) dX1_addNeed_129 ⟨Nat.le_of_ble_eq_true rfl, Nat.le_of_ble_eq_true rfl⟩) hS (fun H locs hR1 hz hk hS => ?_)
                      have hR := hR1
                      refine lv_iinc (v := nI (k + 1)) (lv' := [(4, .int (nI (k + 1))), (5, .ref (ad (23, k))), (3, .int 0), (0, .ref (ad (0, 0)))]) hx hb dX1_addNeed_132 hl (k := 1) rfl (nI_1 _) (by decide) rfl (fun ls hl => ?_)
                      refine lv_goto (tgt := 73) hx hb dX1_addNeed_135 (by decide) ?_
                      exact ih73 (k + 1) (xEnds S1 k) (by omega) (by omega) (by first | exact xEnds_W hWs _ | exact hWs | exact xOwe_W hW _ _ | exact xEnds_W hW _ | exact xEnds_W (xOwe_W hW _ _) _) (by first | exact rk_ends _ hA1 | exact hA1 | exact rk_owe _ _ hA | exact rk_ends _ hA | exact rk_ends _ (rk_owe _ _ hA)) (by first | exact hN | exact (congrFun (xEnds_n _ _ (by decide)) 0).trans hN) (by rw [xSweep, ← eS]; simp [xSweepS, xLiveE, c_4, c_11, c_16, c_33, c_52, c_106, c_124]) _ _ hR hS ls (lv_sub hl [0, 2, 3] rfl)
                  · refine lv_aload hx hb dX1_addNeed_109 (lv_at hl 0 rfl) ?_
                    refine g_X1_150 F hWK g hK (xw_23 hR (xi_nI (n := (S1.1 2 0)) (by omega) (by omega)).lt) (v := .int (S1.2.1 16 k 0)) rfl dX1_addNeed_111 ?_
                    refine lv_bipush (v := 98) hx hb dX1_addNeed_114 (by decide) ?_
                    refine lv_icmp_ne (tgt := 132) hx hb dX1_addNeed_116 (by decide) (fun c_116 => ?_) (fun c_116 => ?_)
                    · refine lv_iinc (v := nI (k + 1)) (lv' := [(4, .int (nI (k + 1))), (5, .ref (ad (23, k))), (3, .int 0), (0, .ref (ad (0, 0)))]) hx hb dX1_addNeed_132 hl (k := 1) rfl (nI_1 _) (by decide) rfl (fun ls hl => ?_)
                      refine lv_goto (tgt := 73) hx hb dX1_addNeed_135 (by decide) ?_
                      exact ih73 (k + 1) S1 (by omega) (by omega) (by first | exact xEnds_W hWs _ | exact hWs | exact xOwe_W hW _ _ | exact xEnds_W hW _ | exact xEnds_W (xOwe_W hW _ _) _) (by first | exact rk_ends _ hA1 | exact hA1 | exact rk_owe _ _ hA | exact rk_ends _ hA | exact rk_ends _ (rk_owe _ _ hA)) (by first | exact hN | exact (congrFun (xEnds_n _ _ (by decide)) 0).trans hN) (by rw [xSweep, ← eS]; simp [xSweepS, xLiveE, c_4, c_11, c_16, c_33, c_52, c_106, c_116]) _ _ hR hS ls (lv_sub hl [0, 2, 3] rfl)
                    · refine lv_aload hx hb dX1_addNeed_119 (lv_at hl 0 rfl) ?_
                      refine xc_P (va_runV (As := []) (rest := []) F (xX8_isLive g1 (A := A) (S := S1) (ad := ad) (z := z) k ((xi_nI (n := (S1.1 2 0)) (by omega) (by omega)).lt) (by first | exact hW | exact hWs | exact xOwe_W hW _ _ | exact xEnds_W hW _ | exact xEnds_W (xOwe_W hW _ _) _) (by first | exact hA | exact hA1 | exact rk_owe _ _ hA | exact rk_ends _ hA | exact rk_ends _ (rk_owe _ _ hA))) (cwV 0 hts (lw_V q709 q710 q711 q89 q712) rfl rfl rfl hdV_X8_isLive ⟨Nat.le_of_ble_eq_true rfl, Nat.le_of_ble_eq_true rfl⟩) (xpreV (xrecv hK (xw_23 hR (xi_nI (n := (S1.1 2 0)) (by omega) (by omega)).lt) rfl) hWK hS hR) rfl rfl hl.1 rfl (lv_room (Nat.le_of_ble_eq_true rfl)) dX1_addNeed_121 ⟨Nat.le_of_ble_eq_true rfl, Nat.le_of_ble_eq_true rfl⟩) ?_
                      refine x_ifne (tgt := 132) hx hb dX1_addNeed_124 (by decide) (fun c_124 => ?_) (fun c_124 => ?_)
                      · refine lv_iinc (v := nI (k + 1)) (lv' := [(4, .int (nI (k + 1))), (5, .ref (ad (23, k))), (3, .int 0), (0, .ref (ad (0, 0)))]) hx hb dX1_addNeed_132 hl (k := 1) rfl (nI_1 _) (by decide) rfl (fun ls hl => ?_)
                        refine lv_goto (tgt := 73) hx hb dX1_addNeed_135 (by decide) ?_
                        exact ih73 (k + 1) S1 (by omega) (by omega) (by first | exact xEnds_W hWs _ | exact hWs | exact xOwe_W hW _ _ | exact xEnds_W hW _ | exact xEnds_W (xOwe_W hW _ _) _) (by first | exact rk_ends _ hA1 | exact hA1 | exact rk_owe _ _ hA | exact rk_ends _ hA | exact rk_ends _ (rk_owe _ _ hA)) (by first | exact hN | exact (congrFun (xEnds_n _ _ (by decide)) 0).trans hN) (by rw [xSweep, ← eS]; simp [xSweepS, xLiveE, c_4, c_11, c_16, c_33, c_52, c_106, c_116, c_124]) _ _ hR hS ls (lv_sub hl [0, 2, 3] rfl)
                      · refine lv_aload hx hb dX1_addNeed_127 (lv_at hl 0 rfl) ?_
                        refine xc_C0 (va_runV (As := []) (rest := []) F (xX8_ends g1 (A := A) (S := S1) (ad := ad) (z := z) k ((xi_nI (n := (S1.1 2 0)) (by omega) (by omega)).lt) (by first | exact hW | exact hWs | exact xOwe_W hW _ _ | exact xEnds_W hW _ | exact xEnds_W (xOwe_W hW _ _) _)) (cwV 0 hts (lw_V q893 q894 q895 q89 q896) rfl rfl rfl hdV_X8_ends ⟨Nat.le_of_ble_eq_true rfl, Nat.le_of_ble_eq_true rfl⟩) (xpreV (xrecv hK (xw_23 hR (xi_nI (n := (S1.1 2 0)) (by omega) (by omega)).lt) rfl) hWK hS hR) rfl rfl hl.1 rfl (lv_room (Nat.le_of_ble_eq_true rfl)) dX1_addNeed_129 ⟨Nat.le_of_ble_eq_true rfl, Nat.le_of_ble_eq_true rfl⟩) hS (fun H locs hR1 hz hk hS => ?_)
                        have hR := hR1
                        refine lv_iinc (v := nI (k + 1)) (lv' := [(4, .int (nI (k + 1))), (5, .ref (ad (23, k))), (3, .int 0), (0, .ref (ad (0, 0)))]) hx hb dX1_addNeed_132 hl (k := 1) rfl (nI_1 _) (by decide) rfl (fun ls hl => ?_)
                        refine lv_goto (tgt := 73) hx hb dX1_addNeed_135 (by decide) ?_
                        exact ih73 (k + 1) (xEnds S1 k) (by omega) (by omega) (by first | exact xEnds_W hWs _ | exact hWs | exact xOwe_W hW _ _ | exact xEnds_W hW _ | exact xEnds_W (xOwe_W hW _ _) _) (by first | exact rk_ends _ hA1 | exact hA1 | exact rk_owe _ _ hA | exact rk_ends _ hA | exact rk_ends _ (rk_owe _ _ hA)) (by first | exact hN | exact (congrFun (xEnds_n _ _ (by decide)) 0).trans hN) (by rw [xSweep, ← eS]; simp [xSweepS, xLiveE, c_4, c_11, c_16, c_33, c_52, c_106, c_116, c_124]) _ _ hR hS ls (lv_sub hl [0, 2, 3] rfl)
            exact L73 (S.1 2 0 + 1) 0 (sF S 5 kj oj 1) (by omega) (Nat.zero_le _) (xW_5 hW _ _) (rk_add hkj hoj hA (xLeads_no (by simpa using c_33) (fun q9 => c_16 (by rw [q9])))) rfl rfl _ _ hR hS ls (lv_sub hl [0, 1, 2] rfl)
          · refine lv_iconst (v := 1) hx hb dX1_addNeed_55 (by decide) ?_
            refine lv_goto (tgt := 60) hx hb dX1_addNeed_56 (by decide) ?_
            refine lv_istore_n (lv' := [(3, .int 1), (0, .ref (ad (0, 0))), (1, .int (nI kj)), (2, .int (nI oj))]) hx hb dX1_addNeed_60 rfl hl (by decide) rfl (fun ls hl => ?_)
            refine lv_aload_n hx hb dX1_addNeed_61 rfl (lv_at hl 1 rfl) ?_
            refine g_X1_44 F hK (xw_0 hR) (v := .ref (ad (7, 0))) rfl dX1_addNeed_62 ?_
            refine lv_iload_n hx hb dX1_addNeed_65 rfl (lv_at hl 2 rfl) ?_
            refine x_aald hx hb hK (xw_7 hR) rfl rfl (v := .ref (ad (8, kj))) (xi_nI (n := 4) (by omega) (by omega)) (rfl) dX1_addNeed_66 ?_
            refine lv_iload_n hx hb dX1_addNeed_67 rfl (lv_at hl 3 rfl) ?_
            refine lv_iconst (v := 1) hx hb dX1_addNeed_68 (by decide) ?_
            refine x_zast hx hb hK hS (xw_8 hR (by omega)) (xa_8 hR (by omega)) (xi_nI (n := 4) (by omega) (by omega)) rfl dX1_addNeed_69 (fun H locs hat hof hS => ?_)
            have hR := xs_8_a hR (by omega) hof hat
            refine lv_iconst (v := 0) hx hb dX1_addNeed_70 (by decide) ?_
            refine lv_istore (lv' := [(4, .int 0), (3, .int 1), (0, .ref (ad (0, 0))), (1, .int (nI kj)), (2, .int (nI oj))]) hx hb dX1_addNeed_71 hl (by decide) rfl (fun ls hl => ?_)
            have L73 : ∀ (n : Nat) (k : Nat) (S1 : xS), S.1 2 0 - k < n → (k ≤ S.1 2 0) → (xW S1) → (∃ rk, rkOK S1.2.1 rk ∧ ∀ i, rk i < 4) → (S1.1 2 0 = S.1 2 0) → (S1 = xSweep (sF S 5 kj oj 1) k) → ∀ (H : Heap) (locs : List Loc), xRX G A S1 ad z H → va_S A s.heap H locs → ∀ (ls : Array Slot), lv_has ls 6 [(4, .int (nI k)), (3, .int 1), (0, .ref (ad (0, 0)))] → W p l e (headSpec (ws_ yX1_addNeed cX1_addNeed 6 (some .boolean)) ({ frames := 11, cells := 1, slots := 6, locals := 300 } : Room)).room s m ([.ref (ad (0, 0)), .int (nI kj), .int (nI oj)] : List Value).toArray below meth c H locs 0 0 (vx_MQ below (xQc (some (.int (bI ((xAddNeed S (nI kj) (nI oj)).2.1)))) (fun _ H => (xAddNeed S (nI kj) (nI oj)).1 = 0 ∧ ∃ ad9 z9, xRX G A (xAddNeed S (nI kj) (nI oj)).2.2 ad9 z9 H ∧ ad9 (0, 0) = ad (0, 0)) A) (xXc (fun E _ H => E = xExn (xAddNeed S (nI kj) (nI oj)).1 ∧ ¬ (xAddNeed S (nI kj) (nI oj)).1 = 0 ∧ ∃ z9, xRX G A S ad z9 H) A) ([.ref (ad (0, 0)), .int (nI kj), .int (nI oj)] : List Value).toArray s 1 6 A) (F0 m 73 ls []) := by
              intro n73
              induction n73 with
              | zero =>
                intro k S1 hn73
                exact absurd hn73 (Nat.not_lt_zero _)
              | succ n73 ih73 =>
                intro k S1 hn73 hk0 hWs hA1 hN eS H locs hR hS ls hl
                have hs0 := hWs.1.1
                have hs1 := hWs.1.2.1
                have hs2 := hWs.1.2.2.1
                have hs3 := hWs.1.2.2.2.1
                refine lv_iload hx hb dX1_addNeed_73 (lv_at hl 0 rfl) ?_
                refine lv_aload_n hx hb dX1_addNeed_75 rfl (lv_at hl 2 rfl) ?_
                refine g_X1_36 F hK (xw_0 hR) (v := .ref (ad (5, 0))) rfl dX1_addNeed_76 ?_
                refine xc_P (va_runV (As := []) (rest := [.int (nI k)]) F (xJ2_size_23 g1 (A := A) (S := S1) (ad := ad) (z := z) ) (cwV 0 hts (lw_V q510 q511 q512 q60 q513) rfl rfl rfl hdV_J2_size ⟨Nat.le_of_ble_eq_true rfl, Nat.le_of_ble_eq_true rfl⟩) (xpreV (xrecv hK (xw_5 hR) rfl) hWK hS hR) rfl rfl hl.1 rfl (lv_room (Nat.le_of_ble_eq_true rfl)) dX1_addNeed_79 ⟨Nat.le_of_ble_eq_true rfl, Nat.le_of_ble_eq_true rfl⟩) ?_
                refine xn_ge (tgt := 138) k (S1.1 2 0) rfl rfl (by omega) (by omega) hx hb dX1_addNeed_82 (by decide) (fun c_82 => ?_) (fun c_82 => ?_)
                · have n_82 := Nat.not_lt.mpr c_82
                  refine lv_aload_n hx hb dX1_addNeed_138 rfl (lv_at hl 2 rfl) ?_
                  refine xc_C0 (va_runV (As := []) (rest := []) F (xX1_fills g1 (A := A) (S := S1) (ad := ad) (z := z) (by first | exact hW | exact hWs | exact xOwe_W hW _ _ | exact xEnds_W hW _ | exact xEnds_W (xOwe_W hW _ _) _) (by first | exact hA | exact hA1 | exact rk_owe _ _ hA | exact rk_ends _ hA | exact rk_ends _ (rk_owe _ _ hA))) (cwV 0 hts (lw_V q898 q900 qs18 q56 q901) rfl rfl rfl hdV_X1_fills ⟨Nat.le_of_ble_eq_true rfl, Nat.le_of_ble_eq_true rfl⟩) (xpreV (xrecv hK (xw_0 hR) rfl) hWK hS hR) rfl rfl hl.1 rfl (lv_room (Nat.le_of_ble_eq_true rfl)) dX1_addNeed_139 ⟨Nat.le_of_ble_eq_true rfl, Nat.le_of_ble_eq_true rfl⟩) hS (fun H locs hR1 hz hk hS => ?_)
                  obtain ⟨z_139, hR⟩ := hR1
                  refine lv_iload_n hx hb dX1_addNeed_142 rfl (lv_at hl 1 rfl) ?_
                  have hk9 : k = S.1 2 0 := (by omega)
                  subst hk9
                  have e9 : xAddNeed S (nI kj) (nI oj) = (0, true, (xFills S1)) := by simp [xAddNeed, c_4, c_11, c_16, c_33, c_52, c_82, n_82, ← eS, nI_clamp (show kj < 2 ^ 31 by omega), nI_clamp (show oj < 2 ^ 31 by omega)]
                  exact vx_ret (xr_Cz hx hb hr hlocks ((by rw [show (xAddNeed S (nI kj) (nI oj)).2.1 = true from congrArg (fun q => q.2.1) e9]; rfl)) (⟨congrArg Prod.fst e9, ad, z_139, by rw [show (xAddNeed S (nI kj) (nI oj)).2.2 = (xFills S1) from congrArg (fun q => q.2.2) e9]; exact hR, rfl⟩) hS (by first | omega | decide) (by first | omega | decide) dX1_addNeed_143)
                · have n_82 := Nat.not_le.mpr c_82
                  refine lv_aload_n hx hb dX1_addNeed_85 rfl (lv_at hl 2 rfl) ?_
                  refine g_X1_36 F hK (xw_0 hR) (v := .ref (ad (5, 0))) rfl dX1_addNeed_86 ?_
                  refine lv_iload hx hb dX1_addNeed_89 (lv_at hl 0 rfl) ?_
                  refine xc_P (va_runV (As := [.int (nI k)]) (rest := []) F (xJ2_get_23 g1 (A := A) (S := S1) (ad := ad) (z := z) (xi_nI (n := (S1.1 2 0)) (by omega) (by omega)) (by first | assumption | omega)) (cwV 1 hts (lw_V q486 q487 q488 q60 q489) rfl rfl rfl hdV_J2_get ⟨Nat.le_of_ble_eq_true rfl, Nat.le_of_ble_eq_true rfl⟩) (xpreV (xrecv hK (xw_5 hR) rfl) hWK hS hR) rfl rfl hl.1 rfl (lv_room (Nat.le_of_ble_eq_true rfl)) dX1_addNeed_91 ⟨Nat.le_of_ble_eq_true rfl, Nat.le_of_ble_eq_true rfl⟩) ?_
                  refine x_castO F hK rfl (xw_23 hR (xi_nI (n := (S1.1 2 0)) (by omega) (by omega)).lt) (hts _ q514) dX1_addNeed_94 ?_
                  refine lv_astore (lv' := [(5, .ref (ad (23, k))), (4, .int (nI k)), (3, .int 1), (0, .ref (ad (0, 0)))]) hx hb dX1_addNeed_97 hl (by decide) rfl (fun ls hl => ?_)
                  refine lv_aload hx hb dX1_addNeed_99 (lv_at hl 0 rfl) ?_
                  refine g_X1_150 F hWK g hK (xw_23 hR (xi_nI (n := (S1.1 2 0)) (by omega) (by omega)).lt) (v := .int (S1.2.1 16 k 0)) rfl dX1_addNeed_101 ?_
                  refine lv_bipush (v := 119) hx hb dX1_addNeed_104 (by decide) ?_
                  refine lv_icmp_eq (tgt := 119) hx hb dX1_addNeed_106 (by decide) (fun c_106 => ?_) (fun c_106 => ?_)
                  · refine lv_aload hx hb dX1_addNeed_119 (lv_at hl 0 rfl) ?_
                    refine xc_P (va_runV (As := []) (rest := []) F (xX8_isLive g1 (A := A) (S := S1) (ad := ad) (z := z) k ((xi_nI (n := (S1.1 2 0)) (by omega) (by omega)).lt) (by first | exact hW | exact hWs | exact xOwe_W hW _ _ | exact xEnds_W hW _ | exact xEnds_W (xOwe_W hW _ _) _) (by first | exact hA | exact hA1 | exact rk_owe _ _ hA | exact rk_ends _ hA | exact rk_ends _ (rk_owe _ _ hA))) (cwV 0 hts (lw_V q709 q710 q711 q89 q712) rfl rfl rfl hdV_X8_isLive ⟨Nat.le_of_ble_eq_true rfl, Nat.le_of_ble_eq_true rfl⟩) (xpreV (xrecv hK (xw_23 hR (xi_nI (n := (S1.1 2 0)) (by omega) (by omega)).lt) rfl) hWK hS hR) rfl rfl hl.1 rfl (lv_room (Nat.le_of_ble_eq_true rfl)) dX1_addNeed_121 ⟨Nat.le_of_ble_eq_true rfl, Nat.le_of_ble_eq_true rfl⟩) ?_
                    refine x_ifne (tgt := 132) hx hb dX1_addNeed_124 (by decide) (fun c_124 => ?_) (fun c_124 => ?_)
                    · refine lv_iinc (v := nI (k + 1)) (lv' := [(4, .int (nI (k + 1))), (5, .ref (ad (23, k))), (3, .int 1), (0, .ref (ad (0, 0)))]) hx hb dX1_addNeed_132 hl (k := 1) rfl (nI_1 _) (by decide) rfl (fun ls hl => ?_)
                      refine lv_goto (tgt := 73) hx hb dX1_addNeed_135 (by decide) ?_
                      exact ih73 (k + 1) S1 (by omega) (by omega) (by first | exact xEnds_W hWs _ | exact hWs | exact xOwe_W hW _ _ | exact xEnds_W hW _ | exact xEnds_W (xOwe_W hW _ _) _) (by first | exact rk_ends _ hA1 | exact hA1 | exact rk_owe _ _ hA | exact rk_ends _ hA | exact rk_ends _ (rk_owe _ _ hA)) (by first | exact hN | exact (congrFun (xEnds_n _ _ (by decide)) 0).trans hN) (by rw [xSweep, ← eS]; simp [xSweepS, xLiveE, c_4, c_11, c_16, c_33, c_52, c_106, c_124]) _ _ hR hS ls (lv_sub hl [0, 2, 3] rfl)
                    · refine lv_aload hx hb dX1_addNeed_127 (lv_at hl 0 rfl) ?_
                      refine xc_C0 (va_runV (As := []) (rest := []) F (xX8_ends g1 (A := A) (S := S1) (ad := ad) (z := z) k ((xi_nI (n := (S1.1 2 0)) (by omega) (by omega)).lt) (by first | exact hW | exact hWs | exact xOwe_W hW _ _ | exact xEnds_W hW _ | exact xEnds_W (xOwe_W hW _ _) _)) (cwV 0 hts (lw_V q893 q894 q895 q89 q896) rfl rfl rfl hdV_X8_ends ⟨Nat.le_of_ble_eq_true rfl, Nat.le_of_ble_eq_true rfl⟩) (xpreV (xrecv hK (xw_23 hR (xi_nI (n := (S1.1 2 0)) (by omega) (by omega)).lt) rfl) hWK hS hR) rfl rfl hl.1 rfl (lv_room (Nat.le_of_ble_eq_true rfl)) dX1_addNeed_129 ⟨Nat.le_of_ble_eq_true rfl, Nat.le_of_ble_eq_true rfl⟩) hS (fun H locs hR1 hz hk hS => ?_)
                      have hR := hR1
                      refine lv_iinc (v := nI (k + 1)) (lv' := [(4, .int (nI (k + 1))), (5, .ref (ad (23, k))), (3, .int 1), (0, .ref (ad (0, 0)))]) hx hb dX1_addNeed_132 hl (k := 1) rfl (nI_1 _) (by decide) rfl (fun ls hl => ?_)
                      refine lv_goto (tgt := 73) hx hb dX1_addNeed_135 (by decide) ?_
                      exact ih73 (k + 1) (xEnds S1 k) (by omega) (by omega) (by first | exact xEnds_W hWs _ | exact hWs | exact xOwe_W hW _ _ | exact xEnds_W hW _ | exact xEnds_W (xOwe_W hW _ _) _) (by first | exact rk_ends _ hA1 | exact hA1 | exact rk_owe _ _ hA | exact rk_ends _ hA | exact rk_ends _ (rk_owe _ _ hA)) (by first | exact hN | exact (congrFun (xEnds_n _ _ (by decide)) 0).trans hN) (by rw [xSweep, ← eS]; simp [xSweepS, xLiveE, c_4, c_11, c_16, c_33, c_52, c_106, c_124]) _ _ hR hS ls (lv_sub hl [0, 2, 3] rfl)
                  · refine lv_aload hx hb dX1_addNeed_109 (lv_at hl 0 rfl) ?_
                    refine g_X1_150 F hWK g hK (xw_23 hR (xi_nI (n := (S1.1 2 0)) (by omega) (by omega)).lt) (v := .int (S1.2.1 16 k 0)) rfl dX1_addNeed_111 ?_
                    refine lv_bipush (v := 98) hx hb dX1_addNeed_114 (by decide) ?_
                    refine lv_icmp_ne (tgt := 132) hx hb dX1_addNeed_116 (by decide) (fun c_116 => ?_) (fun c_116 => ?_)
                    · refine lv_iinc (v := nI (k + 1)) (lv' := [(4, .int (nI (k + 1))), (5, .ref (ad (23, k))), (3, .int 1), (0, .ref (ad (0, 0)))]) hx hb dX1_addNeed_132 hl (k := 1) rfl (nI_1 _) (by decide) rfl (fun ls hl => ?_)
                      refine lv_goto (tgt := 73) hx hb dX1_addNeed_135 (by decide) ?_
                      exact ih73 (k + 1) S1 (by omega) (by omega) (by first | exact xEnds_W hWs _ | exact hWs | exact xOwe_W hW _ _ | exact xEnds_W hW _ | exact xEnds_W (xOwe_W hW _ _) _) (by first | exact rk_ends _ hA1 | exact hA1 | exact rk_owe _ _ hA | exact rk_ends _ hA | exact rk_ends _ (rk_owe _ _ hA)) (by first | exact hN | exact (congrFun (xEnds_n _ _ (by decide)) 0).trans hN) (by rw [xSweep, ← eS]; simp [xSweepS, xLiveE, c_4, c_11, c_16, c_33, c_52, c_106, c_116]) _ _ hR hS ls (lv_sub hl [0, 2, 3] rfl)
                    · refine lv_aload hx hb dX1_addNeed_119 (lv_at hl 0 rfl) ?_
                      refine xc_P (va_runV (As := []) (rest := []) F (xX8_isLive g1 (A := A) (S := S1) (ad := ad) (z := z) k ((xi_nI (n := (S1.1 2 0)) (by omega) (by omega)).lt) (by first | exact hW | exact hWs | exact xOwe_W hW _ _ | exact xEnds_W hW _ | exact xEnds_W (xOwe_W hW _ _) _) (by first | exact hA | exact hA1 | exact rk_owe _ _ hA | exact rk_ends _ hA | exact rk_ends _ (rk_owe _ _ hA))) (cwV 0 hts (lw_V q709 q710 q711 q89 q712) rfl rfl rfl hdV_X8_isLive ⟨Nat.le_of_ble_eq_true rfl, Nat.le_of_ble_eq_true rfl⟩) (xpreV (xrecv hK (xw_23 hR (xi_nI (n := (S1.1 2 0)) (by omega) (by omega)).lt) rfl) hWK hS hR) rfl rfl hl.1 rfl (lv_room (Nat.le_of_ble_eq_true rfl)) dX1_addNeed_121 ⟨Nat.le_of_ble_eq_true rfl, Nat.le_of_ble_eq_true rfl⟩) ?_
                      refine x_ifne (tgt := 132) hx hb dX1_addNeed_124 (by decide) (fun c_124 => ?_) (fun c_124 => ?_)
                      · refine lv_iinc (v := nI (k + 1)) (lv' := [(4, .int (nI (k + 1))), (5, .ref (ad (23, k))), (3, .int 1), (0, .ref (ad (0, 0)))]) hx hb dX1_addNeed_132 hl (k := 1) rfl (nI_1 _) (by decide) rfl (fun ls hl => ?_)
                        refine lv_goto (tgt := 73) hx hb dX1_addNeed_135 (by decide) ?_
                        exact ih73 (k + 1) S1 (by omega) (by omega) (by first | exact xEnds_W hWs _ | exact hWs | exact xOwe_W hW _ _ | exact xEnds_W hW _ | exact xEnds_W (xOwe_W hW _ _) _) (by first | exact rk_ends _ hA1 | exact hA1 | exact rk_owe _ _ hA | exact rk_ends _ hA | exact rk_ends _ (rk_owe _ _ hA)) (by first | exact hN | exact (congrFun (xEnds_n _ _ (by decide)) 0).trans hN) (by rw [xSweep, ← eS]; simp [xSweepS, xLiveE, c_4, c_11, c_16, c_33, c_52, c_106, c_116, c_124]) _ _ hR hS ls (lv_sub hl [0, 2, 3] rfl)
                      · refine lv_aload hx hb dX1_addNeed_127 (lv_at hl 0 rfl) ?_
                        refine xc_C0 (va_runV (As := []) (rest := []) F (xX8_ends g1 (A := A) (S := S1) (ad := ad) (z := z) k ((xi_nI (n := (S1.1 2 0)) (by omega) (by omega)).lt) (by first | exact hW | exact hWs | exact xOwe_W hW _ _ | exact xEnds_W hW _ | exact xEnds_W (xOwe_W hW _ _) _)) (cwV 0 hts (lw_V q893 q894 q895 q89 q896) rfl rfl rfl hdV_X8_ends ⟨Nat.le_of_ble_eq_true rfl, Nat.le_of_ble_eq_true rfl⟩) (xpreV (xrecv hK (xw_23 hR (xi_nI (n := (S1.1 2 0)) (by omega) (by omega)).lt) rfl) hWK hS hR) rfl rfl hl.1 rfl (lv_room (Nat.le_of_ble_eq_true rfl)) dX1_addNeed_129 ⟨Nat.le_of_ble_eq_true rfl, Nat.le_of_ble_eq_true rfl⟩) hS (fun H locs hR1 hz hk hS => ?_)
                        have hR := hR1
                        refine lv_iinc (v := nI (k + 1)) (lv' := [(4, .int (nI (k + 1))), (5, .ref (ad (23, k))), (3, .int 1), (0, .ref (ad (0, 0)))]) hx hb dX1_addNeed_132 hl (k := 1) rfl (nI_1 _) (by decide) rfl (fun ls hl => ?_)
                        refine lv_goto (tgt := 73) hx hb dX1_addNeed_135 (by decide) ?_
                        exact ih73 (k + 1) (xEnds S1 k) (by omega) (by omega) (by first | exact xEnds_W hWs _ | exact hWs | exact xOwe_W hW _ _ | exact xEnds_W hW _ | exact xEnds_W (xOwe_W hW _ _) _) (by first | exact rk_ends _ hA1 | exact hA1 | exact rk_owe _ _ hA | exact rk_ends _ hA | exact rk_ends _ (rk_owe _ _ hA)) (by first | exact hN | exact (congrFun (xEnds_n _ _ (by decide)) 0).trans hN) (by rw [xSweep, ← eS]; simp [xSweepS, xLiveE, c_4, c_11, c_16, c_33, c_52, c_106, c_116, c_124]) _ _ hR hS ls (lv_sub hl [0, 2, 3] rfl)
            exact L73 (S.1 2 0 + 1) 0 (sF S 5 kj oj 1) (by omega) (Nat.zero_le _) (xW_5 hW _ _) (rk_add hkj hoj hA (xLeads_no (by simpa using c_33) (fun q9 => c_16 (by rw [q9])))) rfl rfl _ _ hR hS ls (lv_sub hl [0, 1, 2] rfl)

set_option maxHeartbeats 4000000 in
theorem xX1_induct {l : Launch} {G : xG} {s0 : State} {b0 : Nat} (g1 : xG1 l G s0 b0) {A : Nat → Prop} {S : xS} {ad : Nat × Nat → Nat} {z : xZ} (member kind : Int32) (hW : xW S) (hA : ∃ rk, rkOK S.2.1 rk ∧ ∀ i, rk i < 4) : vx_Met l yX1_induct (ws_ yX1_induct cX1_induct 5 (some .int)) ({ frames := 11, cells := 1, slots := 6, locals := 300 } : Room) (xP s0 A [.ref (ad (0, 0)), .int member, .int kind] (fun H => xRX G A S ad z H)) (xQc (some (.int ((xInduct S member kind).2.1))) (fun _ H => (xInduct S member kind).1 = 0 ∧ ∃ ad9 z9, xRX G A (xInduct S member kind).2.2 ad9 z9 H ∧ ad9 (0, 0) = ad (0, 0)) A) (xXc (fun E _ H => E = xExn (xInduct S member kind).1 ∧ ¬ (xInduct S member kind).1 = 0 ∧ ∃ z9, xRX G A S ad z9 H) A) 1 6 A := by
  refine vx_ofW (cc := cX1_induct) (maxL := 5) (ret := (some .int)) (by decide) rfl ?_
  intro p e s m args below meth c s₁ B hml hnt hv
  obtain ⟨rfl, hWK, hR⟩ := hv
  have g := g1.1
  have hx := B.exec
  have hb := B.bytes
  have hr := B.returns
  have hts := atoms_spec (ws := ws_ yX1_induct cX1_induct 5 (some .int)) B.pre
  have hts : ∀ w ∈ lw_all, w.before _ s = true := fun w h => hts w (List.mem_cons_of_mem _ h)
  have hown : s.vm.findClass "Lendlathe" = some m.cls := findClass_of_methodNamed B.named
  have hlocks := B.notSynchronized
  have hK := hWK.K g
  have F : CallFix p m c cX1_induct 5 s _ lw_all "Lendlathe" := ⟨hx, hb, hml, hown, hts⟩
  have hS : va_S A s.heap s.heap [] := va_S.rf
  have hl := lv_entry ([.ref (ad (0, 0)), .int member, .int kind]) (n := 5) (Nat.le_of_ble_eq_true rfl)
  rw [lg_entry_eq]
  generalize (lg_sl ([.ref (ad (0, 0)), .int member, .int kind]) ++ List.replicate (5 - (lg_sl ([.ref (ad (0, 0)), .int member, .int kind])).length) Slot.unset).toArray = ls at hl ⊢
  have hl : lv_has ls 5 [(0, .ref (ad (0, 0))), (1, .int member), (2, .int kind)] := hl
  have hn0 := hW.1.1
  have hn1 := hW.1.2.1
  have hn2 := hW.1.2.2.1
  have hn3 := hW.1.2.2.2.1
  have hn4 := hW.1.2.2.2.2
  obtain ⟨rk, hrk, hr4⟩ := id hA
  refine lv_aload_n hx hb dX1_induct_0 rfl (lv_at hl 0 rfl) ?_
  refine lv_iload_n hx hb dX1_induct_1 rfl (lv_at hl 1 rfl) ?_
  refine xc_P (va_runV (As := [.int member]) (rest := []) F (xX1_isMember g1 (A := A) (S := S) (ad := ad) (z := z) member) (cwV 1 hts (lw_V q933 q935 qs20 q56 q936) rfl rfl rfl hdV_X1_isMember ⟨Nat.le_of_ble_eq_true rfl, Nat.le_of_ble_eq_true rfl⟩) (xpreV (xrecv hK (xw_0 hR) rfl) hWK hS hR) rfl rfl hl.1 rfl (lv_room (Nat.le_of_ble_eq_true rfl)) dX1_induct_2 ⟨Nat.le_of_ble_eq_true rfl, Nat.le_of_ble_eq_true rfl⟩) ?_
  rcases xbtf (inI member 0 (nI (S.1 1 0) - 1)) with c_5 | c_5
  · refine xc_P0 (va_runS (As := [.int (bI (inI member 0 (nI (S.1 1 0) - 1)))]) (rest := []) F (xX1_there_ok g1 (A := A) (inI member 0 (nI (S.1 1 0) - 1)) c_5) (va_cwS 1 hts (lw_S q937 q938 q56 q939) rfl rfl rfl hdS_X1_there ⟨Nat.le_of_ble_eq_true rfl, Nat.le_of_ble_eq_true rfl⟩) (xpre hWK hS trivial) rfl rfl hl.1 rfl (lv_room (Nat.le_of_ble_eq_true rfl)) dX1_induct_5 ⟨Nat.le_of_ble_eq_true rfl, Nat.le_of_ble_eq_true rfl⟩) ?_
    refine lv_iload_n hx hb dX1_induct_8 rfl (lv_at hl 2 rfl) ?_
    refine xc_P (va_runS (As := [.int kind]) (rest := []) F (xX1_isKind g1 (A := A) kind) (va_cwS 1 hts (lw_S q755 q756 q56 q757) rfl rfl rfl hdS_X1_isKind ⟨Nat.le_of_ble_eq_true rfl, Nat.le_of_ble_eq_true rfl⟩) (xpre hWK hS trivial) rfl rfl hl.1 rfl (lv_room (Nat.le_of_ble_eq_true rfl)) dX1_induct_9 ⟨Nat.le_of_ble_eq_true rfl, Nat.le_of_ble_eq_true rfl⟩) ?_
    rcases xbtf (inI kind 0 3) with c_12 | c_12
    · refine xc_P0 (va_runS (As := [.int (bI (inI kind 0 3))]) (rest := []) F (xX1_want_ok g1 (A := A) (inI kind 0 3) c_12) (va_cwS 1 hts (lw_S q761 q762 q56 q763) rfl rfl rfl hdS_X1_want ⟨Nat.le_of_ble_eq_true rfl, Nat.le_of_ble_eq_true rfl⟩) (xpre hWK hS trivial) rfl rfl hl.1 rfl (lv_room (Nat.le_of_ble_eq_true rfl)) dX1_induct_12 ⟨Nat.le_of_ble_eq_true rfl, Nat.le_of_ble_eq_true rfl⟩) ?_
      obtain ⟨mj, hmj, rfl⟩ := inI_of' (n := S.1 1 0) (by first | rfl | decide) (by first | decide | omega) c_5
      obtain ⟨kj, hkj, rfl⟩ := inI_of' (n := 4) (by first | rfl | decide) (by first | decide | omega) c_12
      refine lv_aload_n hx hb dX1_induct_15 rfl (lv_at hl 0 rfl) ?_
      refine g_X1_33 F hK (xw_0 hR) (v := .ref (ad (4, 0))) rfl dX1_induct_16 ?_
      refine lv_iload_n hx hb dX1_induct_19 rfl (lv_at hl 1 rfl) ?_
      refine xc_P (va_runV (As := [.int (nI mj)]) (rest := []) F (xJ2_get_21 g1 (A := A) (S := S) (ad := ad) (z := z) (xi_nI (n := (S.1 1 0)) (by omega) (by omega)) (by first | assumption | omega)) (cwV 1 hts (lw_V q486 q487 q488 q60 q489) rfl rfl rfl hdV_J2_get ⟨Nat.le_of_ble_eq_true rfl, Nat.le_of_ble_eq_true rfl⟩) (xpreV (xrecv hK (xw_4 hR) rfl) hWK hS hR) rfl rfl hl.1 rfl (lv_room (Nat.le_of_ble_eq_true rfl)) dX1_induct_20 ⟨Nat.le_of_ble_eq_true rfl, Nat.le_of_ble_eq_true rfl⟩) ?_
      refine x_castO F hK rfl (xw_21 hR (xi_nI (n := (S.1 1 0)) (by omega) (by omega)).lt) (hts _ q500) dX1_induct_23 ?_
      refine lv_astore_n (lv' := [(3, .ref (ad (21, mj))), (0, .ref (ad (0, 0))), (1, .int (nI mj)), (2, .int (nI kj))]) hx hb dX1_induct_26 rfl hl (by decide) rfl (fun ls hl => ?_)
      refine lv_iconst (v := 0) hx hb dX1_induct_27 (by decide) ?_
      refine lv_istore (lv' := [(4, .int 0), (3, .ref (ad (21, mj))), (0, .ref (ad (0, 0))), (1, .int (nI mj)), (2, .int (nI kj))]) hx hb dX1_induct_28 hl (by decide) rfl (fun ls hl => ?_)
      have L30 : ∀ (n : Nat) (k : Nat), 4 - k < n → (k ≤ 4) → (allN k (fun j => decide (S.2.1 5 kj j = 0) || xLive S.2.1 (S.2.1 7 0 0) mj 4 j) = true) → ∀ (ls : Array Slot), lv_has ls 5 [(4, .int (nI k)), (3, .ref (ad (21, mj))), (0, .ref (ad (0, 0))), (1, .int (nI mj)), (2, .int (nI kj))] → W p l e (headSpec (ws_ yX1_induct cX1_induct 5 (some .int)) ({ frames := 11, cells := 1, slots := 6, locals := 300 } : Room)).room s m ([.ref (ad (0, 0)), .int (nI mj), .int (nI kj)] : List Value).toArray below meth c s.heap [] 0 0 (vx_MQ below (xQc (some (.int ((xInduct S (nI mj) (nI kj)).2.1))) (fun _ H => (xInduct S (nI mj) (nI kj)).1 = 0 ∧ ∃ ad9 z9, xRX G A (xInduct S (nI mj) (nI kj)).2.2 ad9 z9 H ∧ ad9 (0, 0) = ad (0, 0)) A) (xXc (fun E _ H => E = xExn (xInduct S (nI mj) (nI kj)).1 ∧ ¬ (xInduct S (nI mj) (nI kj)).1 = 0 ∧ ∃ z9, xRX G A S ad z9 H) A) ([.ref (ad (0, 0)), .int (nI mj), .int (nI kj)] : List Value).toArray s 1 6 A) (F0 m 30 ls []) := by
        intro n30
        induction n30 with
        | zero =>
          intro k hn30
          exact absurd hn30 (Nat.not_lt_zero _)
        | succ n30 ih30 =>
          intro k hn30 hk4 ha ls hl
          refine lv_iload hx hb dX1_induct_30 (lv_at hl 0 rfl) ?_
          refine lv_iconst (v := 4) hx hb dX1_induct_32 (by decide) ?_
          refine xn_ge (tgt := 75) k 4 rfl (by decide) (by omega) (by omega) hx hb dX1_induct_33 (by decide) (fun c_33 => ?_) (fun c_33 => ?_)
          · have n_33 := Nat.not_lt.mpr c_33
            refine lv_aload_n hx hb dX1_induct_75 rfl (lv_at hl 1 rfl) ?_
            refine g_X1_244 F hWK g hK (xw_21 hR (xi_nI (n := (S.1 1 0)) (by omega) (by omega)).lt) (v := .ref (ad (22, mj))) rfl dX1_induct_76 ?_
            refine lv_iload_n hx hb dX1_induct_79 rfl (lv_at hl 4 rfl) ?_
            refine x_iald hx hb hK (xw_22 hR (xi_nI (n := (S.1 1 0)) (by omega) (by omega)).lt) (v := .int (S.2.1 2 mj kj)) (xi_nI (n := 4) (by omega) (by omega)) (rfl) dX1_induct_80 ?_
            refine lv_iconst (v := (-1)) hx hb dX1_induct_81 (by decide) ?_
            refine lv_icmp_ne (tgt := 89) hx hb dX1_induct_82 (by decide) (fun c_82 => ?_) (fun c_82 => ?_)
            · refine lv_aload_n hx hb dX1_induct_89 rfl (lv_at hl 2 rfl) ?_
              refine g_X1_215 F hK (xw_0 hR) (v := .int (S.2.1 7 0 0)) rfl dX1_induct_90 ?_
              refine lv_aload_n hx hb dX1_induct_93 rfl (lv_at hl 1 rfl) ?_
              refine g_X1_244 F hWK g hK (xw_21 hR (xi_nI (n := (S.1 1 0)) (by omega) (by omega)).lt) (v := .ref (ad (22, mj))) rfl dX1_induct_94 ?_
              refine lv_iload_n hx hb dX1_induct_97 rfl (lv_at hl 4 rfl) ?_
              refine x_iald hx hb hK (xw_22 hR (xi_nI (n := (S.1 1 0)) (by omega) (by omega)).lt) (v := .int (S.2.1 2 mj kj)) (xi_nI (n := 4) (by omega) (by omega)) (rfl) dX1_induct_98 ?_
              refine lv_isub hx hb dX1_induct_99 ?_
              refine lv_istore (lv' := [(4, .int ((S.2.1 7 0 0) - (S.2.1 2 mj kj))), (3, .ref (ad (21, mj))), (0, .ref (ad (0, 0))), (1, .int (nI mj)), (2, .int (nI kj))]) hx hb dX1_induct_100 hl (by decide) rfl (fun ls hl => ?_)
              refine lv_aload_n hx hb dX1_induct_102 rfl (lv_at hl 1 rfl) ?_
              refine g_X1_244 F hWK g hK (xw_21 hR (xi_nI (n := (S.1 1 0)) (by omega) (by omega)).lt) (v := .ref (ad (22, mj))) rfl dX1_induct_103 ?_
              refine lv_iload_n hx hb dX1_induct_106 rfl (lv_at hl 4 rfl) ?_
              refine lv_aload_n hx hb dX1_induct_107 rfl (lv_at hl 2 rfl) ?_
              refine g_X1_215 F hK (xw_0 hR) (v := .int (S.2.1 7 0 0)) rfl dX1_induct_108 ?_
              refine x_iast hx hb hK hS (xw_22 hR (xi_nI (n := (S.1 1 0)) (by omega) (by omega)).lt) (xa_22 hR (xi_nI (n := (S.1 1 0)) (by omega) (by omega)).lt) (xi_nI (n := 4) (by omega) (by omega)) dX1_induct_111 (fun H locs hat hof hS => ?_)
              have hR := xs_22_a hR (xi_nI (n := (S.1 1 0)) (by omega) (by omega)).lt hof hat
              refine lv_aload_n hx hb dX1_induct_112 rfl (lv_at hl 2 rfl) ?_
              refine xc_C0 (va_runV (As := []) (rest := []) F (xX1_fills g1 (A := A) (S := (sF S 2 mj kj (S.2.1 7 0 0))) (ad := ad) (z := z) (by first | exact hW | exact xW_F hW 2 _ _ _ (by decide)) (by first | exact hA)) (cwV 0 hts (lw_V q898 q900 qs18 q56 q901) rfl rfl rfl hdV_X1_fills ⟨Nat.le_of_ble_eq_true rfl, Nat.le_of_ble_eq_true rfl⟩) (xpreV (xrecv hK (xw_0 hR) rfl) hWK hS hR) rfl rfl hl.1 rfl (lv_room (Nat.le_of_ble_eq_true rfl)) dX1_induct_113 ⟨Nat.le_of_ble_eq_true rfl, Nat.le_of_ble_eq_true rfl⟩) hS (fun H locs hR1 hz hk hS => ?_)
              obtain ⟨z_113, hR⟩ := hR1
              refine lv_iload hx hb dX1_induct_116 (lv_at hl 0 rfl) ?_
              have hk9 : k = 4 := (by omega)
              subst hk9
              have hF : xHas S mj kj 4 = true := ha
              have e9 : xInduct S (nI mj) (nI kj) = (0, (S.2.1 7 0 0) - (S.2.1 2 mj kj), (xFills (sF S 2 mj kj (S.2.1 7 0 0)))) := by simp [xInduct, c_5, c_12, c_33, c_82, n_33, hF, nI_clamp (show mj < 2 ^ 31 by omega), nI_clamp (show kj < 2 ^ 31 by omega)]
              exact vx_ret (xr_Ci hx hb hr hlocks ((congrArg (fun q => q.2.1) e9).symm) (⟨congrArg Prod.fst e9, ad, z_113, by rw [show (xInduct S (nI mj) (nI kj)).2.2 = (xFills (sF S 2 mj kj (S.2.1 7 0 0))) from congrArg (fun q => q.2.2) e9]; exact hR, rfl⟩) hS (by first | omega | decide) (by first | omega | decide) dX1_induct_118)
            · refine lv_iconst (v := (-1)) hx hb dX1_induct_85 (by decide) ?_
              refine lv_goto (tgt := 100) hx hb dX1_induct_86 (by decide) ?_
              refine lv_istore (lv' := [(4, .int (-1)), (3, .ref (ad (21, mj))), (0, .ref (ad (0, 0))), (1, .int (nI mj)), (2, .int (nI kj))]) hx hb dX1_induct_100 hl (by decide) rfl (fun ls hl => ?_)
              refine lv_aload_n hx hb dX1_induct_102 rfl (lv_at hl 1 rfl) ?_
              refine g_X1_244 F hWK g hK (xw_21 hR (xi_nI (n := (S.1 1 0)) (by omega) (by omega)).lt) (v := .ref (ad (22, mj))) rfl dX1_induct_103 ?_
              refine lv_iload_n hx hb dX1_induct_106 rfl (lv_at hl 4 rfl) ?_
              refine lv_aload_n hx hb dX1_induct_107 rfl (lv_at hl 2 rfl) ?_
              refine g_X1_215 F hK (xw_0 hR) (v := .int (S.2.1 7 0 0)) rfl dX1_induct_108 ?_
              refine x_iast hx hb hK hS (xw_22 hR (xi_nI (n := (S.1 1 0)) (by omega) (by omega)).lt) (xa_22 hR (xi_nI (n := (S.1 1 0)) (by omega) (by omega)).lt) (xi_nI (n := 4) (by omega) (by omega)) dX1_induct_111 (fun H locs hat hof hS => ?_)
              have hR := xs_22_a hR (xi_nI (n := (S.1 1 0)) (by omega) (by omega)).lt hof hat
              refine lv_aload_n hx hb dX1_induct_112 rfl (lv_at hl 2 rfl) ?_
              refine xc_C0 (va_runV (As := []) (rest := []) F (xX1_fills g1 (A := A) (S := (sF S 2 mj kj (S.2.1 7 0 0))) (ad := ad) (z := z) (by first | exact hW | exact xW_F hW 2 _ _ _ (by decide)) (by first | exact hA)) (cwV 0 hts (lw_V q898 q900 qs18 q56 q901) rfl rfl rfl hdV_X1_fills ⟨Nat.le_of_ble_eq_true rfl, Nat.le_of_ble_eq_true rfl⟩) (xpreV (xrecv hK (xw_0 hR) rfl) hWK hS hR) rfl rfl hl.1 rfl (lv_room (Nat.le_of_ble_eq_true rfl)) dX1_induct_113 ⟨Nat.le_of_ble_eq_true rfl, Nat.le_of_ble_eq_true rfl⟩) hS (fun H locs hR1 hz hk hS => ?_)
              obtain ⟨z_113, hR⟩ := hR1
              refine lv_iload hx hb dX1_induct_116 (lv_at hl 0 rfl) ?_
              have hk9 : k = 4 := (by omega)
              subst hk9
              have hF : xHas S mj kj 4 = true := ha
              have e9 : xInduct S (nI mj) (nI kj) = (0, (-1), (xFills (sF S 2 mj kj (S.2.1 7 0 0)))) := by simp [xInduct, c_5, c_12, c_33, c_82, n_33, hF, nI_clamp (show mj < 2 ^ 31 by omega), nI_clamp (show kj < 2 ^ 31 by omega)]
              exact vx_ret (xr_Ci hx hb hr hlocks ((congrArg (fun q => q.2.1) e9).symm) (⟨congrArg Prod.fst e9, ad, z_113, by rw [show (xInduct S (nI mj) (nI kj)).2.2 = (xFills (sF S 2 mj kj (S.2.1 7 0 0))) from congrArg (fun q => q.2.2) e9]; exact hR, rfl⟩) hS (by first | omega | decide) (by first | omega | decide) dX1_induct_118)
          · have n_33 := Nat.not_le.mpr c_33
            refine lv_aload_n hx hb dX1_induct_36 rfl (lv_at hl 2 rfl) ?_
            refine g_X1_44 F hK (xw_0 hR) (v := .ref (ad (7, 0))) rfl dX1_induct_37 ?_
            refine lv_iload_n hx hb dX1_induct_40 rfl (lv_at hl 4 rfl) ?_
            refine x_aald hx hb hK (xw_7 hR) rfl rfl (v := .ref (ad (8, kj))) (xi_nI (n := 4) (by omega) (by omega)) (rfl) dX1_induct_41 ?_
            refine lv_iload hx hb dX1_induct_42 (lv_at hl 0 rfl) ?_
            refine x_zald hx hb hK (xw_8 hR (by omega)) (v := .int (S.2.1 5 kj k)) (xi_nI (n := 4) (by omega) (by omega)) (rfl) dX1_induct_44 ?_
            refine lv_if_eq (tgt := 69) hx hb dX1_induct_45 (by decide) (fun c_45 => ?_) (fun c_45 => ?_)
            · refine lv_iinc (v := nI (k + 1)) (lv' := [(4, .int (nI (k + 1))), (3, .ref (ad (21, mj))), (0, .ref (ad (0, 0))), (1, .int (nI mj)), (2, .int (nI kj))]) hx hb dX1_induct_69 hl (k := 0) rfl (nI_1 _) (by decide) rfl (fun ls hl => ?_)
              refine lv_goto (tgt := 30) hx hb dX1_induct_72 (by decide) ?_
              exact ih30 (k + 1) (by omega) (by omega) (by simp [allN, ha, c_5, c_12, c_45]) ls (lv_sub hl [0, 1, 2, 3, 4] rfl)
            · refine lv_aload_n hx hb dX1_induct_48 rfl (lv_at hl 1 rfl) ?_
              refine lv_iload hx hb dX1_induct_49 (lv_at hl 0 rfl) ?_
              refine lv_aload_n hx hb dX1_induct_51 rfl (lv_at hl 2 rfl) ?_
              refine g_X1_215 F hK (xw_0 hR) (v := .int (S.2.1 7 0 0)) rfl dX1_induct_52 ?_
              refine xc_P (va_runV (As := [.int (nI k), .int (S.2.1 7 0 0)]) (rest := []) F (xX6_isLive g1 (A := A) (S := S) (ad := ad) (z := z) hrk 4 mj (S.2.1 7 0 0) (nI k) k (xi_nI (n := 4) (by omega) (by omega)) ((xi_nI (n := (S.1 1 0)) (by omega) (by omega)).lt) (hr4 _)) (cwV 2 hts (lw_V q502 q503 q504 q83 q505) rfl rfl rfl hdV_X6_isLive ⟨Nat.le_of_ble_eq_true rfl, Nat.le_of_ble_eq_true rfl⟩) (xpreV (xrecv hK (xw_21 hR (xi_nI (n := (S.1 1 0)) (by omega) (by omega)).lt) rfl) hWK hS hR) rfl rfl hl.1 rfl (lv_room (Nat.le_of_ble_eq_true rfl)) dX1_induct_55 ⟨Nat.le_of_ble_eq_true rfl, Nat.le_of_ble_eq_true rfl⟩) ?_
              refine x_ifne (tgt := 69) hx hb dX1_induct_58 (by decide) (fun c_58 => ?_) (fun c_58 => ?_)
              · refine lv_iinc (v := nI (k + 1)) (lv' := [(4, .int (nI (k + 1))), (3, .ref (ad (21, mj))), (0, .ref (ad (0, 0))), (1, .int (nI mj)), (2, .int (nI kj))]) hx hb dX1_induct_69 hl (k := 0) rfl (nI_1 _) (by decide) rfl (fun ls hl => ?_)
                refine lv_goto (tgt := 30) hx hb dX1_induct_72 (by decide) ?_
                exact ih30 (k + 1) (by omega) (by omega) (by simp [allN, ha, c_5, c_12, c_45, c_58]) ls (lv_sub hl [0, 1, 2, 3, 4] rfl)
              · have hF : xHas S mj kj 4 = false := allN_false (k := k + 1) (by simp [allN, c_45, c_58]) (by omega)
                have e9 : (xInduct S (nI mj) (nI kj)).1 = 5 := by simp [xInduct, c_5, c_12, c_33, c_45, c_58, n_33, hF, nI_clamp (show mj < 2 ^ 31 by omega), nI_clamp (show kj < 2 ^ 31 by omega)]
                exact x_throw5 g1 hWK F hS hl.1 dX1_induct_61 dX1_induct_64 dX1_induct_65 dX1_induct_68 hnt hlocks (Nat.le_of_ble_eq_true rfl) (Nat.le_of_ble_eq_true rfl) (Nat.le_of_ble_eq_true rfl) (Nat.le_of_ble_eq_true rfl) (fun t9 _ hz9 hg9 => ⟨⟨(⟨rfl, hz9, hg9⟩ : xExn 5 = xExn 5 ∧ xGrow s.heap t9.heap).1.trans (congrArg xExn e9).symm, (by rw [e9]; decide), z, hR.grow (⟨rfl, hz9, hg9⟩ : xExn 5 = xExn 5 ∧ xGrow s.heap t9.heap).2⟩, (xGrow.S (⟨hz9, hg9⟩ : xGrow s.heap t9.heap) hS).F rfl⟩) (Nat.le_of_ble_eq_true rfl) (Nat.le_of_ble_eq_true rfl)
      exact L30 5 0 (by omega) (by omega) rfl ls (lv_sub hl [0, 1, 2, 3, 4] rfl)
    · have e9 : (xInduct S member kind).1 = 1 := by simp [xInduct, c_5, c_12]
      exact xc_T (vx_runS (As := [.int (bI (inI kind 0 3))]) (rest := []) F (xX1_want_no g1 (A := A) (inI kind 0 3) c_12) (va_cwS 1 hts (lw_S q761 q762 q56 q763) rfl rfl rfl hdS_X1_want ⟨Nat.le_of_ble_eq_true rfl, Nat.le_of_ble_eq_true rfl⟩) (xpre hWK hS trivial) rfl rfl hl.1 rfl (lv_room (Nat.le_of_ble_eq_true rfl)) dX1_induct_12 ⟨Nat.le_of_ble_eq_true rfl, Nat.le_of_ble_eq_true rfl⟩) hS (fun E ce q9 H locs hX hz hk hS hq9 hv9 hc9 => vx_out (fun x hx => (hnt x hx).elim) hlocks hq9 hv9 hc9 (fun t ht _ => ⟨by rw [ht]; exact ⟨hX.1.trans (congrArg xExn e9).symm, (by rw [e9]; decide), z, hR.grow hX.2⟩, hS.F ht⟩) hS.2.2 (Nat.le_of_ble_eq_true rfl) (Nat.le_of_ble_eq_true rfl))
  · have e9 : (xInduct S member kind).1 = 4 := by simp [xInduct, c_5]
    exact xc_T (vx_runS (As := [.int (bI (inI member 0 (nI (S.1 1 0) - 1)))]) (rest := []) F (xX1_there_no g1 (A := A) (inI member 0 (nI (S.1 1 0) - 1)) c_5) (va_cwS 1 hts (lw_S q937 q938 q56 q939) rfl rfl rfl hdS_X1_there ⟨Nat.le_of_ble_eq_true rfl, Nat.le_of_ble_eq_true rfl⟩) (xpre hWK hS trivial) rfl rfl hl.1 rfl (lv_room (Nat.le_of_ble_eq_true rfl)) dX1_induct_5 ⟨Nat.le_of_ble_eq_true rfl, Nat.le_of_ble_eq_true rfl⟩) hS (fun E ce q9 H locs hX hz hk hS hq9 hv9 hc9 => vx_out (fun x hx => (hnt x hx).elim) hlocks hq9 hv9 hc9 (fun t ht _ => ⟨by rw [ht]; exact ⟨hX.1.trans (congrArg xExn e9).symm, (by rw [e9]; decide), z, hR.grow hX.2⟩, hS.F ht⟩) hS.2.2 (Nat.le_of_ble_eq_true rfl) (Nat.le_of_ble_eq_true rfl))

set_option maxHeartbeats 4000000 in
theorem xX1_isSoundEntry {l : Launch} {G : xG} {s0 : State} {b0 : Nat} (g1 : xG1 l G s0 b0) {A : Nat → Prop} {S : xS} {ad : Nat × Nat → Nat} {z : xZ} (nn : Nat) (hnn : nn < S.1 2 0) (hW : xW S) (hA : ∃ rk, rkOK S.2.1 rk ∧ ∀ i, rk i < 4) : Met l yX1_isSoundEntry (ws_ yX1_isSoundEntry cX1_isSoundEntry 6 (some .boolean)) ({ frames := 9, cells := 0, slots := 0, locals := 258 } : Room) (xP s0 A [.ref (ad (0, 0)), .int (nI nn)] (fun H => xRX G A S ad z H)) (xQc (some (.int (bI (xSoundE S nn)))) (fun _ H => ∃ z9, xRX G A S ad z9 H) A) 0 0 A := by
  refine Met.ofW (cc := cX1_isSoundEntry) (maxL := 6) (ret := (some .boolean)) (by decide) rfl ?_
  intro p e s m args below meth c s₁ B hml hv
  obtain ⟨rfl, hWK, hR⟩ := hv
  have g := g1.1
  have hx := B.exec
  have hb := B.bytes
  have hr := B.returns
  have hts := atoms_spec (ws := ws_ yX1_isSoundEntry cX1_isSoundEntry 6 (some .boolean)) B.pre
  have hts : ∀ w ∈ lw_all, w.before _ s = true := fun w h => hts w (List.mem_cons_of_mem _ h)
  have hown : s.vm.findClass "Lendlathe" = some m.cls := findClass_of_methodNamed B.named
  have hlocks := B.notSynchronized
  have hK := hWK.K g
  have F : CallFix p m c cX1_isSoundEntry 6 s _ lw_all "Lendlathe" := ⟨hx, hb, hml, hown, hts⟩
  have hS : va_S A s.heap s.heap [] := va_S.rf
  have hl := lv_entry ([.ref (ad (0, 0)), .int (nI nn)]) (n := 6) (Nat.le_of_ble_eq_true rfl)
  rw [lg_entry_eq]
  generalize (lg_sl ([.ref (ad (0, 0)), .int (nI nn)]) ++ List.replicate (6 - (lg_sl ([.ref (ad (0, 0)), .int (nI nn)])).length) Slot.unset).toArray = ls at hl ⊢
  have hl : lv_has ls 6 [(0, .ref (ad (0, 0))), (1, .int (nI nn))] := hl
  have hn0 := hW.1.1
  have hn1 := hW.1.2.1
  have hn2 := hW.1.2.2.1
  have hn3 := hW.1.2.2.2.1
  have hn4 := hW.1.2.2.2.2
  refine lv_aload_n hx hb dX1_isSoundEntry_0 rfl (lv_at hl 0 rfl) ?_
  refine g_X1_36 F hK (xw_0 hR) (v := .ref (ad (5, 0))) rfl dX1_isSoundEntry_1 ?_
  refine lv_iload_n hx hb dX1_isSoundEntry_4 rfl (lv_at hl 1 rfl) ?_
  refine xc_P (va_runV (As := [.int (nI nn)]) (rest := []) F (xJ2_get_23 g1 (A := A) (S := S) (ad := ad) (z := z) (xi_nI (n := (S.1 2 0)) (by omega) (by omega)) (by first | assumption | omega)) (cwV 1 hts (lw_V q486 q487 q488 q60 q489) rfl rfl rfl hdV_J2_get ⟨Nat.le_of_ble_eq_true rfl, Nat.le_of_ble_eq_true rfl⟩) (xpreV (xrecv hK (xw_5 hR) rfl) hWK hS hR) rfl rfl hl.1 rfl (lv_room (Nat.le_of_ble_eq_true rfl)) dX1_isSoundEntry_5 ⟨Nat.le_of_ble_eq_true rfl, Nat.le_of_ble_eq_true rfl⟩) ?_
  refine x_castO F hK rfl (xw_23 hR (xi_nI (n := (S.1 2 0)) (by omega) (by omega)).lt) (hts _ q514) dX1_isSoundEntry_8 ?_
  refine lv_astore_n (lv' := [(2, .ref (ad (23, nn))), (0, .ref (ad (0, 0))), (1, .int (nI nn))]) hx hb dX1_isSoundEntry_11 rfl hl (by decide) rfl (fun ls hl => ?_)
  refine lv_aload_n hx hb dX1_isSoundEntry_12 rfl (lv_at hl 0 rfl) ?_
  refine g_X1_150 F hWK g hK (xw_23 hR (xi_nI (n := (S.1 2 0)) (by omega) (by omega)).lt) (v := .int (S.2.1 16 nn 0)) rfl dX1_isSoundEntry_13 ?_
  refine lv_bipush (v := 119) hx hb dX1_isSoundEntry_16 (by decide) ?_
  refine lv_icmp_ne (tgt := 36) hx hb dX1_isSoundEntry_18 (by decide) (fun c_18 => ?_) (fun c_18 => ?_)
  · refine lv_aload_n hx hb dX1_isSoundEntry_36 rfl (lv_at hl 0 rfl) ?_
    refine g_X1_150 F hWK g hK (xw_23 hR (xi_nI (n := (S.1 2 0)) (by omega) (by omega)).lt) (v := .int (S.2.1 16 nn 0)) rfl dX1_isSoundEntry_37 ?_
    refine lv_bipush (v := 98) hx hb dX1_isSoundEntry_40 (by decide) ?_
    refine lv_icmp_eq (tgt := 47) hx hb dX1_isSoundEntry_42 (by decide) (fun c_42 => ?_) (fun c_42 => ?_)
    · refine lv_aload_n hx hb dX1_isSoundEntry_47 rfl (lv_at hl 0 rfl) ?_
      refine xc_P (va_runV (As := []) (rest := []) F (xX8_isLive g1 (A := A) (S := S) (ad := ad) (z := z) nn ((xi_nI (n := (S.1 2 0)) (by omega) (by omega)).lt) hW hA) (cwV 0 hts (lw_V q709 q710 q711 q89 q712) rfl rfl rfl hdV_X8_isLive ⟨Nat.le_of_ble_eq_true rfl, Nat.le_of_ble_eq_true rfl⟩) (xpreV (xrecv hK (xw_23 hR (xi_nI (n := (S.1 2 0)) (by omega) (by omega)).lt) rfl) hWK hS hR) rfl rfl hl.1 rfl (lv_room (Nat.le_of_ble_eq_true rfl)) dX1_isSoundEntry_48 ⟨Nat.le_of_ble_eq_true rfl, Nat.le_of_ble_eq_true rfl⟩) ?_
      refine lv_istore_n (lv' := [(3, .int (bI (xLive S.2.1 (S.2.1 12 nn 0) (S.2.1 10 nn 0).toNatClampNeg 4 (S.2.1 0 (S.2.1 11 nn 0).toNatClampNeg 0).toNatClampNeg))), (2, .ref (ad (23, nn))), (0, .ref (ad (0, 0))), (1, .int (nI nn))]) hx hb dX1_isSoundEntry_51 rfl hl (by decide) rfl (fun ls hl => ?_)
      refine lv_iconst (v := 0) hx hb dX1_isSoundEntry_52 (by decide) ?_
      refine lv_istore (lv' := [(4, .int 0), (3, .int (bI (xLive S.2.1 (S.2.1 12 nn 0) (S.2.1 10 nn 0).toNatClampNeg 4 (S.2.1 0 (S.2.1 11 nn 0).toNatClampNeg 0).toNatClampNeg))), (2, .ref (ad (23, nn))), (0, .ref (ad (0, 0))), (1, .int (nI nn))]) hx hb dX1_isSoundEntry_53 hl (by decide) rfl (fun ls hl => ?_)
      have L55 : ∀ (n : Nat) (k : Nat) (b : Bool), nn - k < n → (k ≤ nn) → (b = (xLiveE S nn && allN k (xSndF S nn))) → ∀ (ls : Array Slot), lv_has ls 6 [(4, .int (nI k)), (3, .int (bI b)), (2, .ref (ad (23, nn))), (0, .ref (ad (0, 0))), (1, .int (nI nn))] → W p l e (headSpec (ws_ yX1_isSoundEntry cX1_isSoundEntry 6 (some .boolean)) ({ frames := 9, cells := 0, slots := 0, locals := 258 } : Room)).room s m ([.ref (ad (0, 0)), .int (nI nn)] : List Value).toArray below meth c s.heap [] 0 0 (MQ below (xQc (some (.int (bI (xSoundE S nn)))) (fun _ H => ∃ z9, xRX G A S ad z9 H) A) ([.ref (ad (0, 0)), .int (nI nn)] : List Value).toArray s 0 0 A) (F0 m 55 ls []) := by
        intro n55
        induction n55 with
        | zero =>
          intro k b hn55
          exact absurd hn55 (Nat.not_lt_zero _)
        | succ n55 ih55 =>
          intro k b hn55 hkn eb ls hl
          refine lv_iload hx hb dX1_isSoundEntry_55 (lv_at hl 0 rfl) ?_
          refine lv_iload_n hx hb dX1_isSoundEntry_57 rfl (lv_at hl 4 rfl) ?_
          refine xn_ge (tgt := 153) k nn rfl rfl (by omega) (by omega) hx hb dX1_isSoundEntry_58 (by decide) (fun c_58 => ?_) (fun c_58 => ?_)
          · have n_58 := Nat.not_lt.mpr c_58
            refine lv_iload_n hx hb dX1_isSoundEntry_153 rfl (lv_at hl 1 rfl) ?_
            have hk9 : k = nn := (by omega)
            subst hk9
            exact xr_Cz hx hb hr hlocks (congrArg bI (by rw [eb]; simp [xSoundE, c_18, c_42])) (⟨_, hR⟩) hS (by first | omega | decide) (by first | omega | decide) dX1_isSoundEntry_154
          · have n_58 := Nat.not_le.mpr c_58
            refine lv_iload_n hx hb dX1_isSoundEntry_61 rfl (lv_at hl 1 rfl) ?_
            refine x_ifeq (tgt := 153) hx hb dX1_isSoundEntry_62 (by decide) (fun c_62 => ?_) (fun c_62 => ?_)
            · refine lv_iload_n hx hb dX1_isSoundEntry_153 rfl (lv_at hl 1 rfl) ?_
              have e9 : (xLiveE S nn && allN nn (xSndF S nn)) = false := and_all (eb.symm.trans c_62) hkn
              exact xr_Cz hx hb hr hlocks (congrArg bI (c_62.trans (by simp [xSoundE, e9, c_18, c_42]))) (⟨_, hR⟩) hS (by first | omega | decide) (by first | omega | decide) dX1_isSoundEntry_154
            · refine lv_aload_n hx hb dX1_isSoundEntry_65 rfl (lv_at hl 3 rfl) ?_
              refine g_X1_36 F hK (xw_0 hR) (v := .ref (ad (5, 0))) rfl dX1_isSoundEntry_66 ?_
              refine lv_iload hx hb dX1_isSoundEntry_69 (lv_at hl 0 rfl) ?_
              refine xc_P (va_runV (As := [.int (nI k)]) (rest := []) F (xJ2_get_23 g1 (A := A) (S := S) (ad := ad) (z := z) (xi_nI (n := (S.1 2 0)) (by omega) (by omega)) (by first | assumption | omega)) (cwV 1 hts (lw_V q486 q487 q488 q60 q489) rfl rfl rfl hdV_J2_get ⟨Nat.le_of_ble_eq_true rfl, Nat.le_of_ble_eq_true rfl⟩) (xpreV (xrecv hK (xw_5 hR) rfl) hWK hS hR) rfl rfl hl.1 rfl (lv_room (Nat.le_of_ble_eq_true rfl)) dX1_isSoundEntry_71 ⟨Nat.le_of_ble_eq_true rfl, Nat.le_of_ble_eq_true rfl⟩) ?_
              refine x_castO F hK rfl (xw_23 hR (xi_nI (n := (S.1 2 0)) (by omega) (by omega)).lt) (hts _ q514) dX1_isSoundEntry_74 ?_
              refine lv_astore (lv' := [(5, .ref (ad (23, k))), (4, .int (nI k)), (3, .int (bI b)), (2, .ref (ad (23, nn))), (0, .ref (ad (0, 0))), (1, .int (nI nn))]) hx hb dX1_isSoundEntry_77 hl (by decide) rfl (fun ls hl => ?_)
              refine lv_aload hx hb dX1_isSoundEntry_79 (lv_at hl 0 rfl) ?_
              refine g_X1_150 F hWK g hK (xw_23 hR (xi_nI (n := (S.1 2 0)) (by omega) (by omega)).lt) (v := .int (S.2.1 16 k 0)) rfl dX1_isSoundEntry_81 ?_
              refine lv_bipush (v := 98) hx hb dX1_isSoundEntry_84 (by decide) ?_
              refine lv_icmp_ne (tgt := 141) hx hb dX1_isSoundEntry_86 (by decide) (fun c_86 => ?_) (fun c_86 => ?_)
              · refine lv_iconst (v := 1) hx hb dX1_isSoundEntry_141 (by decide) ?_
                refine lv_goto (tgt := 146) hx hb dX1_isSoundEntry_142 (by decide) ?_
                refine lv_istore_n (lv' := [(3, .int 1), (5, .ref (ad (23, k))), (4, .int (nI k)), (2, .ref (ad (23, nn))), (0, .ref (ad (0, 0))), (1, .int (nI nn))]) hx hb dX1_isSoundEntry_146 rfl hl (by decide) rfl (fun ls hl => ?_)
                refine lv_iinc (v := nI (k + 1)) (lv' := [(4, .int (nI (k + 1))), (3, .int 1), (5, .ref (ad (23, k))), (2, .ref (ad (23, nn))), (0, .ref (ad (0, 0))), (1, .int (nI nn))]) hx hb dX1_isSoundEntry_147 hl (k := 2) rfl (nI_1 _) (by decide) rfl (fun ls hl => ?_)
                refine lv_goto (tgt := 55) hx hb dX1_isSoundEntry_150 (by decide) ?_
                exact ih55 (k + 1) true (by omega) (by omega) (by simp [allN, ← Bool.and_assoc, ← eb, xSndF, c_18, c_42, c_62, c_86]) ls (lv_sub hl [0, 1, 3, 4, 5] rfl)
              · refine lv_aload hx hb dX1_isSoundEntry_89 (lv_at hl 0 rfl) ?_
                refine g_X1_154 F hK (xw_23 hR (xi_nI (n := (S.1 2 0)) (by omega) (by omega)).lt) (v := .int (S.2.1 12 k 0)) rfl dX1_isSoundEntry_91 ?_
                refine lv_aload_n hx hb dX1_isSoundEntry_94 rfl (lv_at hl 3 rfl) ?_
                refine g_X1_154 F hK (xw_23 hR hnn) (v := .int (S.2.1 12 nn 0)) rfl dX1_isSoundEntry_95 ?_
                refine lv_icmp_ne (tgt := 141) hx hb dX1_isSoundEntry_98 (by decide) (fun c_98 => ?_) (fun c_98 => ?_)
                · refine lv_iconst (v := 1) hx hb dX1_isSoundEntry_141 (by decide) ?_
                  refine lv_goto (tgt := 146) hx hb dX1_isSoundEntry_142 (by decide) ?_
                  refine lv_istore_n (lv' := [(3, .int 1), (5, .ref (ad (23, k))), (4, .int (nI k)), (2, .ref (ad (23, nn))), (0, .ref (ad (0, 0))), (1, .int (nI nn))]) hx hb dX1_isSoundEntry_146 rfl hl (by decide) rfl (fun ls hl => ?_)
                  refine lv_iinc (v := nI (k + 1)) (lv' := [(4, .int (nI (k + 1))), (3, .int 1), (5, .ref (ad (23, k))), (2, .ref (ad (23, nn))), (0, .ref (ad (0, 0))), (1, .int (nI nn))]) hx hb dX1_isSoundEntry_147 hl (k := 2) rfl (nI_1 _) (by decide) rfl (fun ls hl => ?_)
                  refine lv_goto (tgt := 55) hx hb dX1_isSoundEntry_150 (by decide) ?_
                  exact ih55 (k + 1) true (by omega) (by omega) (by simp [allN, ← Bool.and_assoc, ← eb, xSndF, c_18, c_42, c_62, c_86, c_98]) ls (lv_sub hl [0, 1, 3, 4, 5] rfl)
                · refine lv_aload hx hb dX1_isSoundEntry_101 (lv_at hl 0 rfl) ?_
                  refine g_X1_147 F hK (xw_23 hR (xi_nI (n := (S.1 2 0)) (by omega) (by omega)).lt) (v := .int (S.2.1 10 k 0)) rfl dX1_isSoundEntry_103 ?_
                  refine lv_aload_n hx hb dX1_isSoundEntry_106 rfl (lv_at hl 3 rfl) ?_
                  refine g_X1_147 F hK (xw_23 hR hnn) (v := .int (S.2.1 10 nn 0)) rfl dX1_isSoundEntry_107 ?_
                  refine lv_icmp_eq (tgt := 125) hx hb dX1_isSoundEntry_110 (by decide) (fun c_110 => ?_) (fun c_110 => ?_)
                  · refine lv_aload hx hb dX1_isSoundEntry_125 (lv_at hl 0 rfl) ?_
                    refine lv_aload_n hx hb dX1_isSoundEntry_127 rfl (lv_at hl 3 rfl) ?_
                    refine g_X1_178 F hK (xw_23 hR hnn) (v := .int (S.2.1 13 nn 0)) rfl dX1_isSoundEntry_128 ?_
                    refine lv_aload_n hx hb dX1_isSoundEntry_131 rfl (lv_at hl 3 rfl) ?_
                    refine xc_P (va_runU (As := []) (rest := [.int (S.2.1 13 nn 0), .ref (ad (23, k))]) F (xX7_end g1 (A := A) (S := S) (ad := ad) (z := z) nn hnn) (va_cwU (x := ⟨"Lendlathe$Entry", "end", "()I"⟩) (C := "Lendlathe$Entry") (owner := "Lendlathe$Stay") 0 hts (lw_U q599 q600 q602 q522 q88 q525) rfl rfl rfl rfl (by decide +kernel) ⟨Nat.le_of_ble_eq_true rfl, Nat.le_of_ble_eq_true rfl⟩) (xpreV (xrecv hK (xw_23 hR hnn) rfl) hWK hS hR) rfl rfl hl.1 rfl (lv_room (Nat.le_of_ble_eq_true rfl)) dX1_isSoundEntry_132 ⟨Nat.le_of_ble_eq_true rfl, Nat.le_of_ble_eq_true rfl⟩) ?_
                    refine xc_P (va_runU (As := [.int (S.2.1 13 nn 0), .int (mEnd S.2.1 nn)]) (rest := []) F (xX7_overlaps g1 (A := A) (S := S) (ad := ad) (z := z) k (S.2.1 13 nn 0) (mEnd S.2.1 nn) ((xi_nI (n := (S.1 2 0)) (by omega) (by omega)).lt)) (va_cwU (x := ⟨"Lendlathe$Entry", "overlaps", "(II)Z"⟩) (C := "Lendlathe$Entry") (owner := "Lendlathe$Stay") 2 hts (lw_U q515 q516 q518 q519 q88 q520) rfl rfl rfl rfl (by decide +kernel) ⟨Nat.le_of_ble_eq_true rfl, Nat.le_of_ble_eq_true rfl⟩) (xpreV (xrecv hK (xw_23 hR (xi_nI (n := (S.1 2 0)) (by omega) (by omega)).lt) rfl) hWK hS hR) rfl rfl hl.1 rfl (lv_room (Nat.le_of_ble_eq_true rfl)) dX1_isSoundEntry_135 ⟨Nat.le_of_ble_eq_true rfl, Nat.le_of_ble_eq_true rfl⟩) ?_
                    refine x_ifne (tgt := 145) hx hb dX1_isSoundEntry_138 (by decide) (fun c_138 => ?_) (fun c_138 => ?_)
                    · refine lv_iconst (v := 0) hx hb dX1_isSoundEntry_145 (by decide) ?_
                      refine lv_istore_n (lv' := [(3, .int 0), (5, .ref (ad (23, k))), (4, .int (nI k)), (2, .ref (ad (23, nn))), (0, .ref (ad (0, 0))), (1, .int (nI nn))]) hx hb dX1_isSoundEntry_146 rfl hl (by decide) rfl (fun ls hl => ?_)
                      refine lv_iinc (v := nI (k + 1)) (lv' := [(4, .int (nI (k + 1))), (3, .int 0), (5, .ref (ad (23, k))), (2, .ref (ad (23, nn))), (0, .ref (ad (0, 0))), (1, .int (nI nn))]) hx hb dX1_isSoundEntry_147 hl (k := 2) rfl (nI_1 _) (by decide) rfl (fun ls hl => ?_)
                      refine lv_goto (tgt := 55) hx hb dX1_isSoundEntry_150 (by decide) ?_
                      exact ih55 (k + 1) false (by omega) (by omega) (by simp [allN, ← Bool.and_assoc, ← eb, xSndF, c_18, c_42, c_62, c_86, c_98, c_110, c_138]) ls (lv_sub hl [0, 1, 3, 4, 5] rfl)
                    · refine lv_iconst (v := 1) hx hb dX1_isSoundEntry_141 (by decide) ?_
                      refine lv_goto (tgt := 146) hx hb dX1_isSoundEntry_142 (by decide) ?_
                      refine lv_istore_n (lv' := [(3, .int 1), (5, .ref (ad (23, k))), (4, .int (nI k)), (2, .ref (ad (23, nn))), (0, .ref (ad (0, 0))), (1, .int (nI nn))]) hx hb dX1_isSoundEntry_146 rfl hl (by decide) rfl (fun ls hl => ?_)
                      refine lv_iinc (v := nI (k + 1)) (lv' := [(4, .int (nI (k + 1))), (3, .int 1), (5, .ref (ad (23, k))), (2, .ref (ad (23, nn))), (0, .ref (ad (0, 0))), (1, .int (nI nn))]) hx hb dX1_isSoundEntry_147 hl (k := 2) rfl (nI_1 _) (by decide) rfl (fun ls hl => ?_)
                      refine lv_goto (tgt := 55) hx hb dX1_isSoundEntry_150 (by decide) ?_
                      exact ih55 (k + 1) true (by omega) (by omega) (by simp [allN, ← Bool.and_assoc, ← eb, xSndF, c_18, c_42, c_62, c_86, c_98, c_110, c_138]) ls (lv_sub hl [0, 1, 3, 4, 5] rfl)
                  · refine lv_aload hx hb dX1_isSoundEntry_113 (lv_at hl 0 rfl) ?_
                    refine g_X1_194 F hK (xw_23 hR (xi_nI (n := (S.1 2 0)) (by omega) (by omega)).lt) (v := .int (S.2.1 11 k 0)) rfl dX1_isSoundEntry_115 ?_
                    refine lv_aload_n hx hb dX1_isSoundEntry_118 rfl (lv_at hl 3 rfl) ?_
                    refine g_X1_194 F hK (xw_23 hR hnn) (v := .int (S.2.1 11 nn 0)) rfl dX1_isSoundEntry_119 ?_
                    refine lv_icmp_ne (tgt := 141) hx hb dX1_isSoundEntry_122 (by decide) (fun c_122 => ?_) (fun c_122 => ?_)
                    · refine lv_iconst (v := 1) hx hb dX1_isSoundEntry_141 (by decide) ?_
                      refine lv_goto (tgt := 146) hx hb dX1_isSoundEntry_142 (by decide) ?_
                      refine lv_istore_n (lv' := [(3, .int 1), (5, .ref (ad (23, k))), (4, .int (nI k)), (2, .ref (ad (23, nn))), (0, .ref (ad (0, 0))), (1, .int (nI nn))]) hx hb dX1_isSoundEntry_146 rfl hl (by decide) rfl (fun ls hl => ?_)
                      refine lv_iinc (v := nI (k + 1)) (lv' := [(4, .int (nI (k + 1))), (3, .int 1), (5, .ref (ad (23, k))), (2, .ref (ad (23, nn))), (0, .ref (ad (0, 0))), (1, .int (nI nn))]) hx hb dX1_isSoundEntry_147 hl (k := 2) rfl (nI_1 _) (by decide) rfl (fun ls hl => ?_)
                      refine lv_goto (tgt := 55) hx hb dX1_isSoundEntry_150 (by decide) ?_
                      exact ih55 (k + 1) true (by omega) (by omega) (by simp [allN, ← Bool.and_assoc, ← eb, xSndF, c_18, c_42, c_62, c_86, c_98, c_110, c_122]) ls (lv_sub hl [0, 1, 3, 4, 5] rfl)
                    · refine lv_aload hx hb dX1_isSoundEntry_125 (lv_at hl 0 rfl) ?_
                      refine lv_aload_n hx hb dX1_isSoundEntry_127 rfl (lv_at hl 3 rfl) ?_
                      refine g_X1_178 F hK (xw_23 hR hnn) (v := .int (S.2.1 13 nn 0)) rfl dX1_isSoundEntry_128 ?_
                      refine lv_aload_n hx hb dX1_isSoundEntry_131 rfl (lv_at hl 3 rfl) ?_
                      refine xc_P (va_runU (As := []) (rest := [.int (S.2.1 13 nn 0), .ref (ad (23, k))]) F (xX7_end g1 (A := A) (S := S) (ad := ad) (z := z) nn hnn) (va_cwU (x := ⟨"Lendlathe$Entry", "end", "()I"⟩) (C := "Lendlathe$Entry") (owner := "Lendlathe$Stay") 0 hts (lw_U q599 q600 q602 q522 q88 q525) rfl rfl rfl rfl (by decide +kernel) ⟨Nat.le_of_ble_eq_true rfl, Nat.le_of_ble_eq_true rfl⟩) (xpreV (xrecv hK (xw_23 hR hnn) rfl) hWK hS hR) rfl rfl hl.1 rfl (lv_room (Nat.le_of_ble_eq_true rfl)) dX1_isSoundEntry_132 ⟨Nat.le_of_ble_eq_true rfl, Nat.le_of_ble_eq_true rfl⟩) ?_
                      refine xc_P (va_runU (As := [.int (S.2.1 13 nn 0), .int (mEnd S.2.1 nn)]) (rest := []) F (xX7_overlaps g1 (A := A) (S := S) (ad := ad) (z := z) k (S.2.1 13 nn 0) (mEnd S.2.1 nn) ((xi_nI (n := (S.1 2 0)) (by omega) (by omega)).lt)) (va_cwU (x := ⟨"Lendlathe$Entry", "overlaps", "(II)Z"⟩) (C := "Lendlathe$Entry") (owner := "Lendlathe$Stay") 2 hts (lw_U q515 q516 q518 q519 q88 q520) rfl rfl rfl rfl (by decide +kernel) ⟨Nat.le_of_ble_eq_true rfl, Nat.le_of_ble_eq_true rfl⟩) (xpreV (xrecv hK (xw_23 hR (xi_nI (n := (S.1 2 0)) (by omega) (by omega)).lt) rfl) hWK hS hR) rfl rfl hl.1 rfl (lv_room (Nat.le_of_ble_eq_true rfl)) dX1_isSoundEntry_135 ⟨Nat.le_of_ble_eq_true rfl, Nat.le_of_ble_eq_true rfl⟩) ?_
                      refine x_ifne (tgt := 145) hx hb dX1_isSoundEntry_138 (by decide) (fun c_138 => ?_) (fun c_138 => ?_)
                      · refine lv_iconst (v := 0) hx hb dX1_isSoundEntry_145 (by decide) ?_
                        refine lv_istore_n (lv' := [(3, .int 0), (5, .ref (ad (23, k))), (4, .int (nI k)), (2, .ref (ad (23, nn))), (0, .ref (ad (0, 0))), (1, .int (nI nn))]) hx hb dX1_isSoundEntry_146 rfl hl (by decide) rfl (fun ls hl => ?_)
                        refine lv_iinc (v := nI (k + 1)) (lv' := [(4, .int (nI (k + 1))), (3, .int 0), (5, .ref (ad (23, k))), (2, .ref (ad (23, nn))), (0, .ref (ad (0, 0))), (1, .int (nI nn))]) hx hb dX1_isSoundEntry_147 hl (k := 2) rfl (nI_1 _) (by decide) rfl (fun ls hl => ?_)
                        refine lv_goto (tgt := 55) hx hb dX1_isSoundEntry_150 (by decide) ?_
                        exact ih55 (k + 1) false (by omega) (by omega) (by simp [allN, ← Bool.and_assoc, ← eb, xSndF, c_18, c_42, c_62, c_86, c_98, c_110, c_122, c_138]) ls (lv_sub hl [0, 1, 3, 4, 5] rfl)
                      · refine lv_iconst (v := 1) hx hb dX1_isSoundEntry_141 (by decide) ?_
                        refine lv_goto (tgt := 146) hx hb dX1_isSoundEntry_142 (by decide) ?_
                        refine lv_istore_n (lv' := [(3, .int 1), (5, .ref (ad (23, k))), (4, .int (nI k)), (2, .ref (ad (23, nn))), (0, .ref (ad (0, 0))), (1, .int (nI nn))]) hx hb dX1_isSoundEntry_146 rfl hl (by decide) rfl (fun ls hl => ?_)
                        refine lv_iinc (v := nI (k + 1)) (lv' := [(4, .int (nI (k + 1))), (3, .int 1), (5, .ref (ad (23, k))), (2, .ref (ad (23, nn))), (0, .ref (ad (0, 0))), (1, .int (nI nn))]) hx hb dX1_isSoundEntry_147 hl (k := 2) rfl (nI_1 _) (by decide) rfl (fun ls hl => ?_)
                        refine lv_goto (tgt := 55) hx hb dX1_isSoundEntry_150 (by decide) ?_
                        exact ih55 (k + 1) true (by omega) (by omega) (by simp [allN, ← Bool.and_assoc, ← eb, xSndF, c_18, c_42, c_62, c_86, c_98, c_110, c_122, c_138]) ls (lv_sub hl [0, 1, 3, 4, 5] rfl)
      exact L55 (nn + 1) 0 (xLiveE S nn) (by omega) (by omega) (by simp [allN]) ls (lv_sub hl [0, 1, 2, 3, 4] rfl)
    · refine lv_iconst (v := 1) hx hb dX1_isSoundEntry_45 (by decide) ?_
      exact xr_Cz hx hb hr hlocks ((by simp [xSoundE, bI, c_18, c_42])) (⟨_, hR⟩) hS (by first | omega | decide) (by first | omega | decide) dX1_isSoundEntry_46
  · refine lv_aload_n hx hb dX1_isSoundEntry_21 rfl (lv_at hl 0 rfl) ?_
    refine xc_C (va_runV (As := []) (rest := []) F (xX8_check g1 (A := A) (S := S) (ad := ad) (z := z) nn ((xi_nI (n := (S.1 2 0)) (by omega) (by omega)).lt) hW hA) (cwV 0 hts (lw_V q674 q675 q676 q89 q677) rfl rfl rfl hdV_X8_check ⟨Nat.le_of_ble_eq_true rfl, Nat.le_of_ble_eq_true rfl⟩) (xpreV (xrecv hK (xw_23 hR (xi_nI (n := (S.1 2 0)) (by omega) (by omega)).lt) rfl) hWK hS hR) rfl rfl hl.1 rfl (lv_room (Nat.le_of_ble_eq_true rfl)) dX1_isSoundEntry_22 ⟨Nat.le_of_ble_eq_true rfl, Nat.le_of_ble_eq_true rfl⟩) hS (fun H locs hR1 hz hk hS => ?_)
    obtain ⟨z_22, hR⟩ := hR1
    refine lv_bipush (v := 111) hx hb dX1_isSoundEntry_25 (by decide) ?_
    refine lv_icmp_eq (tgt := 34) hx hb dX1_isSoundEntry_27 (by decide) (fun c_27 => ?_) (fun c_27 => ?_)
    · refine lv_iconst (v := 0) hx hb dX1_isSoundEntry_34 (by decide) ?_
      exact xr_Cz hx hb hr hlocks ((by simp [xSoundE, bI, c_18, c_27])) (⟨_, hR⟩) hS (by first | omega | decide) (by first | omega | decide) dX1_isSoundEntry_35
    · refine lv_iconst (v := 1) hx hb dX1_isSoundEntry_30 (by decide) ?_
      refine lv_goto (tgt := 35) hx hb dX1_isSoundEntry_31 (by decide) ?_
      exact xr_Cz hx hb hr hlocks ((by simp [xSoundE, bI, c_18, c_27])) (⟨_, hR⟩) hS (by first | omega | decide) (by first | omega | decide) dX1_isSoundEntry_35

set_option maxHeartbeats 4000000 in
theorem xX1_isSound {l : Launch} {G : xG} {s0 : State} {b0 : Nat} (g1 : xG1 l G s0 b0) {A : Nat → Prop} {S : xS} {ad : Nat × Nat → Nat} {z : xZ} (q : Nat) (hW : xW S) (hA : ∃ rk, rkOK S.2.1 rk ∧ ∀ i, rk i < 4) (hq9 : q ≤ 900) (hq : S.2.1 7 0 0 = nI q) : Met l yX1_isSound (ws_ yX1_isSound cX1_isSound 4 (some .boolean)) ({ frames := 10, cells := 0, slots := 0, locals := 283 } : Room) (xP s0 A [.ref (ad (0, 0))] (fun H => xRX G A S ad z H)) (xQc (some (.int (bI (xSound S q)))) (fun _ H => ∃ z9, xRX G A S ad z9 H) A) 0 0 A := by
  refine Met.ofW (cc := cX1_isSound) (maxL := 4) (ret := (some .boolean)) (by decide) rfl ?_
  intro p e s m args below meth c s₁ B hml hv
  obtain ⟨rfl, hWK, hR⟩ := hv
  have g := g1.1
  have hx := B.exec
  have hb := B.bytes
  have hr := B.returns
  have hts := atoms_spec (ws := ws_ yX1_isSound cX1_isSound 4 (some .boolean)) B.pre
  have hts : ∀ w ∈ lw_all, w.before _ s = true := fun w h => hts w (List.mem_cons_of_mem _ h)
  have hown : s.vm.findClass "Lendlathe" = some m.cls := findClass_of_methodNamed B.named
  have hlocks := B.notSynchronized
  have hK := hWK.K g
  have F : CallFix p m c cX1_isSound 4 s _ lw_all "Lendlathe" := ⟨hx, hb, hml, hown, hts⟩
  have hS : va_S A s.heap s.heap [] := va_S.rf
  have hl := lv_entry ([.ref (ad (0, 0))]) (n := 4) (Nat.le_of_ble_eq_true rfl)
  rw [lg_entry_eq]
  generalize (lg_sl ([.ref (ad (0, 0))]) ++ List.replicate (4 - (lg_sl ([.ref (ad (0, 0))])).length) Slot.unset).toArray = ls at hl ⊢
  have hl : lv_has ls 4 [(0, .ref (ad (0, 0)))] := hl
  have hn0 := hW.1.1
  have hn1 := hW.1.2.1
  have hn2 := hW.1.2.2.1
  have hn3 := hW.1.2.2.2.1
  have hn4 := hW.1.2.2.2.2
  have L135 : ∀ (n : Nat) (k : Nat) (b : Bool) (z1 : xZ), S.1 0 0 - k < n → (k ≤ S.1 0 0) → (b = (xSnd3 S && allN k (fun k => allN 7 (xDayOK S q k)))) → ∀ (H : Heap) (locs : List Loc), xRX G A S ad z1 H → va_S A s.heap H locs → ∀ (ls : Array Slot), lv_has ls 4 [(2, .int (nI k)), (1, .int (bI b)), (0, .ref (ad (0, 0)))] → W p l e (headSpec (ws_ yX1_isSound cX1_isSound 4 (some .boolean)) ({ frames := 10, cells := 0, slots := 0, locals := 283 } : Room)).room s m ([.ref (ad (0, 0))] : List Value).toArray below meth c H locs 0 0 (MQ below (xQc (some (.int (bI (xSound S q)))) (fun _ H => ∃ z9, xRX G A S ad z9 H) A) ([.ref (ad (0, 0))] : List Value).toArray s 0 0 A) (F0 m 135 ls []) := by
    intro n135
    induction n135 with
    | zero =>
      intro k b z1 hn135
      exact absurd hn135 (Nat.not_lt_zero _)
    | succ n135 ih135 =>
      intro k b z1 hn135 hkn eb H locs hR hS ls hl
      refine lv_iload_n hx hb dX1_isSound_135 rfl (lv_at hl 0 rfl) ?_
      refine lv_aload_n hx hb dX1_isSound_136 rfl (lv_at hl 2 rfl) ?_
      refine g_X1_29 F hK (xw_0 hR) (v := .ref (ad (3, 0))) rfl dX1_isSound_137 ?_
      refine xc_P (va_runV (As := []) (rest := [.int (nI k)]) F (xJ2_size_20 g1 (A := A) (S := S) (ad := ad) (z := z1) ) (cwV 0 hts (lw_V q510 q511 q512 q60 q513) rfl rfl rfl hdV_J2_size ⟨Nat.le_of_ble_eq_true rfl, Nat.le_of_ble_eq_true rfl⟩) (xpreV (xrecv hK (xw_3 hR) rfl) hWK hS hR) rfl rfl hl.1 rfl (lv_room (Nat.le_of_ble_eq_true rfl)) dX1_isSound_140 ⟨Nat.le_of_ble_eq_true rfl, Nat.le_of_ble_eq_true rfl⟩) ?_
      refine xn_ge (tgt := 203) k (S.1 0 0) rfl rfl (by omega) (by omega) hx hb dX1_isSound_143 (by decide) (fun c_143 => ?_) (fun c_143 => ?_)
      · have n_143 := Nat.not_lt.mpr c_143
        refine lv_iload_n hx hb dX1_isSound_203 rfl (lv_at hl 1 rfl) ?_
        exact xr_Cz hx hb hr hlocks (congrArg bI (by have hk9 : k = S.1 0 0 := (by omega); subst hk9; exact eb)) (⟨_, hR⟩) hS (by first | omega | decide) (by first | omega | decide) dX1_isSound_204
      · have n_143 := Nat.not_le.mpr c_143
        refine lv_iload_n hx hb dX1_isSound_146 rfl (lv_at hl 1 rfl) ?_
        refine x_ifeq (tgt := 203) hx hb dX1_isSound_147 (by decide) (fun c_147 => ?_) (fun c_147 => ?_)
        · refine lv_iload_n hx hb dX1_isSound_203 rfl (lv_at hl 1 rfl) ?_
          exact xr_Cz hx hb hr hlocks (congrArg bI (by rw [c_147]; exact (and_all (eb.symm.trans c_147) hkn).symm)) (⟨_, hR⟩) hS (by first | omega | decide) (by first | omega | decide) dX1_isSound_204
        · refine lv_aload_n hx hb dX1_isSound_150 rfl (lv_at hl 2 rfl) ?_
          refine g_X1_215 F hK (xw_0 hR) (v := .int (S.2.1 7 0 0)) rfl dX1_isSound_151 ?_
          refine x_topi hq ?_
          refine lv_istore_n (lv' := [(3, .int (nI (q + 0))), (2, .int (nI k)), (1, .int (bI b)), (0, .ref (ad (0, 0)))]) hx hb dX1_isSound_154 rfl hl (by decide) rfl (fun ls hl => ?_)
          have L155 : ∀ (n : Nat) (d : Nat) (b1 : Bool) (z2 : xZ), 7 - d < n → (d ≤ 7) → (b1 = (true && allN d (xDayOK S q k))) → ∀ (H : Heap) (locs : List Loc), xRX G A S ad z2 H → va_S A s.heap H locs → ∀ (ls : Array Slot), lv_has ls 4 [(3, .int (nI (q + d))), (2, .int (nI k)), (1, .int (bI b1)), (0, .ref (ad (0, 0)))] → W p l e (headSpec (ws_ yX1_isSound cX1_isSound 4 (some .boolean)) ({ frames := 10, cells := 0, slots := 0, locals := 283 } : Room)).room s m ([.ref (ad (0, 0))] : List Value).toArray below meth c H locs 0 0 (MQ below (xQc (some (.int (bI (xSound S q)))) (fun _ H => ∃ z9, xRX G A S ad z9 H) A) ([.ref (ad (0, 0))] : List Value).toArray s 0 0 A) (F0 m 155 ls []) := by
            intro n155
            induction n155 with
            | zero =>
              intro d b1 z2 hn155
              exact absurd hn155 (Nat.not_lt_zero _)
            | succ n155 ih155 =>
              intro d b1 z2 hn155 hd7 ed H locs hR hS ls hl
              have eb0 : true = (xSnd3 S && allN k (fun k => allN 7 (xDayOK S q k))) := (c_147.symm.trans eb)
              refine lv_iload_n hx hb dX1_isSound_155 rfl (lv_at hl 0 rfl) ?_
              refine lv_aload_n hx hb dX1_isSound_156 rfl (lv_at hl 3 rfl) ?_
              refine g_X1_215 F hK (xw_0 hR) (v := .int (S.2.1 7 0 0)) rfl dX1_isSound_157 ?_
              refine lv_bipush (v := 6) hx hb dX1_isSound_160 (by decide) ?_
              refine lv_iadd hx hb dX1_isSound_162 ?_
              refine x_topi (show S.2.1 7 0 0 + 6 = nI (q + 6) from by rw [hq]; exact nI_add _ _) ?_
              refine xn_gt (tgt := 197) (q + d) (q + 6) rfl rfl (by omega) (by omega) hx hb dX1_isSound_163 (by decide) (fun c_163 => ?_) (fun c_163 => ?_)
              · have n_163 := Nat.not_le.mpr c_163
                refine lv_iinc (v := nI (k + 1)) (lv' := [(2, .int (nI (k + 1))), (3, .int (nI (q + d))), (1, .int (bI b1)), (0, .ref (ad (0, 0)))]) hx hb dX1_isSound_197 hl (k := 1) rfl (nI_1 _) (by decide) rfl (fun ls hl => ?_)
                refine lv_goto (tgt := 135) hx hb dX1_isSound_200 (by decide) ?_
                exact ih135 (k + 1) b1 z2 (by omega) (by omega) (by have hd9 : d = 7 := (by omega); subst hd9; show b1 = (xSnd3 S && (allN k (fun k => allN 7 (xDayOK S q k)) && allN 7 (xDayOK S q k))); rw [← Bool.and_assoc, ← eb0]; exact ed) _ _ hR hS ls (lv_sub hl [0, 2, 3] rfl)
              · have n_163 := Nat.not_lt.mpr c_163
                refine lv_iload_n hx hb dX1_isSound_166 rfl (lv_at hl 2 rfl) ?_
                refine x_ifeq (tgt := 197) hx hb dX1_isSound_167 (by decide) (fun c_167 => ?_) (fun c_167 => ?_)
                · refine lv_iinc (v := nI (k + 1)) (lv' := [(2, .int (nI (k + 1))), (3, .int (nI (q + d))), (1, .int (bI b1)), (0, .ref (ad (0, 0)))]) hx hb dX1_isSound_197 hl (k := 1) rfl (nI_1 _) (by decide) rfl (fun ls hl => ?_)
                  refine lv_goto (tgt := 135) hx hb dX1_isSound_200 (by decide) ?_
                  exact ih135 (k + 1) b1 z2 (by omega) (by omega) (by show b1 = (xSnd3 S && (allN k (fun k => allN 7 (xDayOK S q k)) && allN 7 (xDayOK S q k))); rw [← Bool.and_assoc, ← eb0]; rw [c_167]; exact (and_all (ed.symm.trans c_167) hd7).symm) _ _ hR hS ls (lv_sub hl [0, 2, 3] rfl)
                · refine lv_aload_n hx hb dX1_isSound_170 rfl (lv_at hl 3 rfl) ?_
                  refine lv_iload_n hx hb dX1_isSound_171 rfl (lv_at hl 1 rfl) ?_
                  refine lv_iload_n hx hb dX1_isSound_172 rfl (lv_at hl 0 rfl) ?_
                  refine xc_C (va_runV (As := [.int (nI k), .int (nI (q + d))]) (rest := []) F (xX1_usedOn g1 (A := A) (S := S) (ad := ad) (z := z2) (nI k) (nI (q + d)) hW) (cwV 2 hts (lw_V q734 q736 qs11 q56 q737) rfl rfl rfl hdV_X1_usedOn ⟨Nat.le_of_ble_eq_true rfl, Nat.le_of_ble_eq_true rfl⟩) (xpreV (xrecv hK (xw_0 hR) rfl) hWK hS hR) rfl rfl hl.1 rfl (lv_room (Nat.le_of_ble_eq_true rfl)) dX1_isSound_173 ⟨Nat.le_of_ble_eq_true rfl, Nat.le_of_ble_eq_true rfl⟩) hS (fun H locs hR1 hz hk hS => ?_)
                  obtain ⟨z_173, hR⟩ := hR1
                  refine lv_aload_n hx hb dX1_isSound_176 rfl (lv_at hl 3 rfl) ?_
                  refine lv_iload_n hx hb dX1_isSound_177 rfl (lv_at hl 1 rfl) ?_
                  refine lv_iload_n hx hb dX1_isSound_178 rfl (lv_at hl 0 rfl) ?_
                  refine xc_C (va_runV (As := [.int (nI k), .int (nI (q + d))]) (rest := [.int (xUsed S (nI k) (nI (q + d)))]) F (xX1_usedBy g1 (A := A) (S := S) (ad := ad) (z := z_173) (nI k) (nI (q + d)) hW) (cwV 2 hts (lw_V q738 q740 qs12 q56 q741) rfl rfl rfl hdV_X1_usedBy ⟨Nat.le_of_ble_eq_true rfl, Nat.le_of_ble_eq_true rfl⟩) (xpreV (xrecv hK (xw_0 hR) rfl) hWK hS hR) rfl rfl hl.1 rfl (lv_room (Nat.le_of_ble_eq_true rfl)) dX1_isSound_179 ⟨Nat.le_of_ble_eq_true rfl, Nat.le_of_ble_eq_true rfl⟩) hS (fun H locs hR1 hz hk hS => ?_)
                  obtain ⟨z_179, hR⟩ := hR1
                  refine lv_icmp_ne (tgt := 189) hx hb dX1_isSound_182 (by decide) (fun c_182 => ?_) (fun c_182 => ?_)
                  · refine lv_iconst (v := 0) hx hb dX1_isSound_189 (by decide) ?_
                    refine lv_istore_n (lv' := [(1, .int 0), (3, .int (nI (q + d))), (2, .int (nI k)), (0, .ref (ad (0, 0)))]) hx hb dX1_isSound_190 rfl hl (by decide) rfl (fun ls hl => ?_)
                    refine lv_iinc (v := nI (q + d + 1)) (lv' := [(3, .int (nI (q + d + 1))), (1, .int 0), (2, .int (nI k)), (0, .ref (ad (0, 0)))]) hx hb dX1_isSound_191 hl (k := 1) rfl (nI_1 _) (by decide) rfl (fun ls hl => ?_)
                    refine lv_goto (tgt := 155) hx hb dX1_isSound_194 (by decide) ?_
                    exact ih155 (d + 1) false z_179 (by omega) (by omega) (by simp only [Bool.true_and] at ed ⊢; rw [allN, ← ed, c_167, Bool.true_and]; simp [xDayOK, c_182]) _ _ hR hS ls (lv_sub hl [0, 2, 1, 3] rfl)
                  · refine lv_iconst (v := 1) hx hb dX1_isSound_185 (by decide) ?_
                    refine lv_goto (tgt := 190) hx hb dX1_isSound_186 (by decide) ?_
                    refine lv_istore_n (lv' := [(1, .int 1), (3, .int (nI (q + d))), (2, .int (nI k)), (0, .ref (ad (0, 0)))]) hx hb dX1_isSound_190 rfl hl (by decide) rfl (fun ls hl => ?_)
                    refine lv_iinc (v := nI (q + d + 1)) (lv' := [(3, .int (nI (q + d + 1))), (1, .int 1), (2, .int (nI k)), (0, .ref (ad (0, 0)))]) hx hb dX1_isSound_191 hl (k := 1) rfl (nI_1 _) (by decide) rfl (fun ls hl => ?_)
                    refine lv_goto (tgt := 155) hx hb dX1_isSound_194 (by decide) ?_
                    exact ih155 (d + 1) true z_179 (by omega) (by omega) (by simp only [Bool.true_and] at ed ⊢; rw [allN, ← ed, c_167, Bool.true_and]; simp [xDayOK, c_182]) _ _ hR hS ls (lv_sub hl [0, 2, 1, 3] rfl)
          exact L155 8 0 b z1 (by omega) (by omega) (by rw [c_147]; rfl) _ _ hR hS ls (lv_sub hl [0, 1, 2, 3] rfl)
  have L84 : ∀ (n : Nat) (k : Nat) (b : Bool) (z1 : xZ), S.1 1 0 - k < n → (k ≤ S.1 1 0) → (b = (xSnd2 S && allN k (fun m => decide (xOwesBy S m (nI m) = S.2.1 4 m 0 - S.2.1 3 m 0)))) → ∀ (H : Heap) (locs : List Loc), xRX G A S ad z1 H → va_S A s.heap H locs → ∀ (ls : Array Slot), lv_has ls 4 [(2, .int (nI k)), (1, .int (bI b)), (0, .ref (ad (0, 0)))] → W p l e (headSpec (ws_ yX1_isSound cX1_isSound 4 (some .boolean)) ({ frames := 10, cells := 0, slots := 0, locals := 283 } : Room)).room s m ([.ref (ad (0, 0))] : List Value).toArray below meth c H locs 0 0 (MQ below (xQc (some (.int (bI (xSound S q)))) (fun _ H => ∃ z9, xRX G A S ad z9 H) A) ([.ref (ad (0, 0))] : List Value).toArray s 0 0 A) (F0 m 84 ls []) := by
    intro n84
    induction n84 with
    | zero =>
      intro k b z1 hn84
      exact absurd hn84 (Nat.not_lt_zero _)
    | succ n84 ih84 =>
      intro k b z1 hn84 hkn eb H locs hR hS ls hl
      refine lv_iload_n hx hb dX1_isSound_84 rfl (lv_at hl 0 rfl) ?_
      refine lv_aload_n hx hb dX1_isSound_85 rfl (lv_at hl 2 rfl) ?_
      refine g_X1_33 F hK (xw_0 hR) (v := .ref (ad (4, 0))) rfl dX1_isSound_86 ?_
      refine xc_P (va_runV (As := []) (rest := [.int (nI k)]) F (xJ2_size_21 g1 (A := A) (S := S) (ad := ad) (z := z1) ) (cwV 0 hts (lw_V q510 q511 q512 q60 q513) rfl rfl rfl hdV_J2_size ⟨Nat.le_of_ble_eq_true rfl, Nat.le_of_ble_eq_true rfl⟩) (xpreV (xrecv hK (xw_4 hR) rfl) hWK hS hR) rfl rfl hl.1 rfl (lv_room (Nat.le_of_ble_eq_true rfl)) dX1_isSound_89 ⟨Nat.le_of_ble_eq_true rfl, Nat.le_of_ble_eq_true rfl⟩) ?_
      refine xn_ge (tgt := 133) k (S.1 1 0) rfl rfl (by omega) (by omega) hx hb dX1_isSound_92 (by decide) (fun c_92 => ?_) (fun c_92 => ?_)
      · have n_92 := Nat.not_lt.mpr c_92
        refine lv_iconst (v := 0) hx hb dX1_isSound_133 (by decide) ?_
        refine lv_istore_n (lv' := [(2, .int 0), (1, .int (bI b)), (0, .ref (ad (0, 0)))]) hx hb dX1_isSound_134 rfl hl (by decide) rfl (fun ls hl => ?_)
        exact L135 (S.1 0 0 + 1) 0 b z1 (by omega) (by omega) (by have hk9 : k = S.1 1 0 := (by omega); subst hk9; simp only [allN, Bool.and_true]; exact eb) _ _ hR hS ls (lv_sub hl [0, 1, 2] rfl)
      · have n_92 := Nat.not_le.mpr c_92
        refine lv_iload_n hx hb dX1_isSound_95 rfl (lv_at hl 1 rfl) ?_
        refine x_ifeq (tgt := 133) hx hb dX1_isSound_96 (by decide) (fun c_96 => ?_) (fun c_96 => ?_)
        · refine lv_iconst (v := 0) hx hb dX1_isSound_133 (by decide) ?_
          refine lv_istore_n (lv' := [(2, .int 0), (1, .int (bI b)), (0, .ref (ad (0, 0)))]) hx hb dX1_isSound_134 rfl hl (by decide) rfl (fun ls hl => ?_)
          exact L135 (S.1 0 0 + 1) 0 b z1 (by omega) (by omega) (by rw [c_96]; simp only [allN, Bool.and_true]; exact (and_all (eb.symm.trans c_96) hkn).symm) _ _ hR hS ls (lv_sub hl [0, 1, 2] rfl)
        · refine lv_aload_n hx hb dX1_isSound_99 rfl (lv_at hl 2 rfl) ?_
          refine lv_iload_n hx hb dX1_isSound_100 rfl (lv_at hl 0 rfl) ?_
          refine xc_P (va_runV (As := [.int (nI k)]) (rest := []) F (xX1_owesBy g1 (A := A) (S := S) (ad := ad) (z := z1) (xi_nI (n := (S.1 1 0)) (by omega) (by omega)) hW) (cwV 1 hts (lw_V q726 q728 qs10 q56 q729) rfl rfl rfl hdV_X1_owesBy ⟨Nat.le_of_ble_eq_true rfl, Nat.le_of_ble_eq_true rfl⟩) (xpreV (xrecv hK (xw_0 hR) rfl) hWK hS hR) rfl rfl hl.1 rfl (lv_room (Nat.le_of_ble_eq_true rfl)) dX1_isSound_101 ⟨Nat.le_of_ble_eq_true rfl, Nat.le_of_ble_eq_true rfl⟩) ?_
          refine lv_aload_n hx hb dX1_isSound_104 rfl (lv_at hl 2 rfl) ?_
          refine g_X1_33 F hK (xw_0 hR) (v := .ref (ad (4, 0))) rfl dX1_isSound_105 ?_
          refine lv_iload_n hx hb dX1_isSound_108 rfl (lv_at hl 0 rfl) ?_
          refine xc_P (va_runV (As := [.int (nI k)]) (rest := [.int (xOwesBy S k (nI k))]) F (xJ2_get_21 g1 (A := A) (S := S) (ad := ad) (z := z1) (xi_nI (n := (S.1 1 0)) (by omega) (by omega)) (by first | assumption | omega)) (cwV 1 hts (lw_V q486 q487 q488 q60 q489) rfl rfl rfl hdV_J2_get ⟨Nat.le_of_ble_eq_true rfl, Nat.le_of_ble_eq_true rfl⟩) (xpreV (xrecv hK (xw_4 hR) rfl) hWK hS hR) rfl rfl hl.1 rfl (lv_room (Nat.le_of_ble_eq_true rfl)) dX1_isSound_109 ⟨Nat.le_of_ble_eq_true rfl, Nat.le_of_ble_eq_true rfl⟩) ?_
          refine x_castO F hK rfl (xw_21 hR (xi_nI (n := (S.1 1 0)) (by omega) (by omega)).lt) (hts _ q500) dX1_isSound_112 ?_
          refine xc_P (va_runV (As := []) (rest := [.int (xOwesBy S k (nI k))]) F (xX6_owes g1 (A := A) (S := S) (ad := ad) (z := z1) k ((xi_nI (n := (S.1 1 0)) (by omega) (by omega)).lt)) (cwV 0 hts (lw_V q730 q731 q732 q83 q733) rfl rfl rfl hdV_X6_owes ⟨Nat.le_of_ble_eq_true rfl, Nat.le_of_ble_eq_true rfl⟩) (xpreV (xrecv hK (xw_21 hR (xi_nI (n := (S.1 1 0)) (by omega) (by omega)).lt) rfl) hWK hS hR) rfl rfl hl.1 rfl (lv_room (Nat.le_of_ble_eq_true rfl)) dX1_isSound_115 ⟨Nat.le_of_ble_eq_true rfl, Nat.le_of_ble_eq_true rfl⟩) ?_
          refine lv_icmp_ne (tgt := 125) hx hb dX1_isSound_118 (by decide) (fun c_118 => ?_) (fun c_118 => ?_)
          · refine lv_iconst (v := 0) hx hb dX1_isSound_125 (by decide) ?_
            refine lv_istore_n (lv' := [(1, .int 0), (2, .int (nI k)), (0, .ref (ad (0, 0)))]) hx hb dX1_isSound_126 rfl hl (by decide) rfl (fun ls hl => ?_)
            refine lv_iinc (v := nI (k + 1)) (lv' := [(2, .int (nI (k + 1))), (1, .int 0), (0, .ref (ad (0, 0)))]) hx hb dX1_isSound_127 hl (k := 1) rfl (nI_1 _) (by decide) rfl (fun ls hl => ?_)
            refine lv_goto (tgt := 84) hx hb dX1_isSound_130 (by decide) ?_
            exact ih84 (k + 1) false z1 (by omega) (by omega) (by simp [allN, ← Bool.and_assoc, ← eb, c_96, c_118]) _ _ hR hS ls (lv_sub hl [0, 1, 2] rfl)
          · refine lv_iconst (v := 1) hx hb dX1_isSound_121 (by decide) ?_
            refine lv_goto (tgt := 126) hx hb dX1_isSound_122 (by decide) ?_
            refine lv_istore_n (lv' := [(1, .int 1), (2, .int (nI k)), (0, .ref (ad (0, 0)))]) hx hb dX1_isSound_126 rfl hl (by decide) rfl (fun ls hl => ?_)
            refine lv_iinc (v := nI (k + 1)) (lv' := [(2, .int (nI (k + 1))), (1, .int 1), (0, .ref (ad (0, 0)))]) hx hb dX1_isSound_127 hl (k := 1) rfl (nI_1 _) (by decide) rfl (fun ls hl => ?_)
            refine lv_goto (tgt := 84) hx hb dX1_isSound_130 (by decide) ?_
            exact ih84 (k + 1) true z1 (by omega) (by omega) (by simp [allN, ← Bool.and_assoc, ← eb, c_96, c_118]) _ _ hR hS ls (lv_sub hl [0, 1, 2] rfl)
  have L33 : ∀ (n : Nat) (k : Nat) (b : Bool) (z1 : xZ), S.1 3 0 - k < n → (k ≤ S.1 3 0) → (b = (xSnd1 S && allN k (fun b => decide (xFreeBy S b (nI b) (S.1 2 0) = S.2.1 22 b 0)))) → ∀ (H : Heap) (locs : List Loc), xRX G A S ad z1 H → va_S A s.heap H locs → ∀ (ls : Array Slot), lv_has ls 4 [(2, .int (nI k)), (1, .int (bI b)), (0, .ref (ad (0, 0)))] → W p l e (headSpec (ws_ yX1_isSound cX1_isSound 4 (some .boolean)) ({ frames := 10, cells := 0, slots := 0, locals := 283 } : Room)).room s m ([.ref (ad (0, 0))] : List Value).toArray below meth c H locs 0 0 (MQ below (xQc (some (.int (bI (xSound S q)))) (fun _ H => ∃ z9, xRX G A S ad z9 H) A) ([.ref (ad (0, 0))] : List Value).toArray s 0 0 A) (F0 m 33 ls []) := by
    intro n33
    induction n33 with
    | zero =>
      intro k b z1 hn33
      exact absurd hn33 (Nat.not_lt_zero _)
    | succ n33 ih33 =>
      intro k b z1 hn33 hkn eb H locs hR hS ls hl
      refine lv_iload_n hx hb dX1_isSound_33 rfl (lv_at hl 0 rfl) ?_
      refine lv_aload_n hx hb dX1_isSound_34 rfl (lv_at hl 2 rfl) ?_
      refine g_X1_39 F hK (xw_0 hR) (v := .ref (ad (6, 0))) rfl dX1_isSound_35 ?_
      refine xc_P (va_runV (As := []) (rest := [.int (nI k)]) F (xJ2_size_26 g1 (A := A) (S := S) (ad := ad) (z := z1) ) (cwV 0 hts (lw_V q510 q511 q512 q60 q513) rfl rfl rfl hdV_J2_size ⟨Nat.le_of_ble_eq_true rfl, Nat.le_of_ble_eq_true rfl⟩) (xpreV (xrecv hK (xw_6 hR) rfl) hWK hS hR) rfl rfl hl.1 rfl (lv_room (Nat.le_of_ble_eq_true rfl)) dX1_isSound_38 ⟨Nat.le_of_ble_eq_true rfl, Nat.le_of_ble_eq_true rfl⟩) ?_
      refine xn_ge (tgt := 82) k (S.1 3 0) rfl rfl (by omega) (by omega) hx hb dX1_isSound_41 (by decide) (fun c_41 => ?_) (fun c_41 => ?_)
      · have n_41 := Nat.not_lt.mpr c_41
        refine lv_iconst (v := 0) hx hb dX1_isSound_82 (by decide) ?_
        refine lv_istore_n (lv' := [(2, .int 0), (1, .int (bI b)), (0, .ref (ad (0, 0)))]) hx hb dX1_isSound_83 rfl hl (by decide) rfl (fun ls hl => ?_)
        exact L84 (S.1 1 0 + 1) 0 b z1 (by omega) (by omega) (by have hk9 : k = S.1 3 0 := (by omega); subst hk9; simp only [allN, Bool.and_true]; exact eb) _ _ hR hS ls (lv_sub hl [0, 1, 2] rfl)
      · have n_41 := Nat.not_le.mpr c_41
        refine lv_iload_n hx hb dX1_isSound_44 rfl (lv_at hl 1 rfl) ?_
        refine x_ifeq (tgt := 82) hx hb dX1_isSound_45 (by decide) (fun c_45 => ?_) (fun c_45 => ?_)
        · refine lv_iconst (v := 0) hx hb dX1_isSound_82 (by decide) ?_
          refine lv_istore_n (lv' := [(2, .int 0), (1, .int (bI b)), (0, .ref (ad (0, 0)))]) hx hb dX1_isSound_83 rfl hl (by decide) rfl (fun ls hl => ?_)
          exact L84 (S.1 1 0 + 1) 0 b z1 (by omega) (by omega) (by rw [c_45]; simp only [allN, Bool.and_true]; exact (and_all (eb.symm.trans c_45) hkn).symm) _ _ hR hS ls (lv_sub hl [0, 1, 2] rfl)
        · refine lv_aload_n hx hb dX1_isSound_48 rfl (lv_at hl 2 rfl) ?_
          refine lv_iload_n hx hb dX1_isSound_49 rfl (lv_at hl 0 rfl) ?_
          refine xc_P (va_runV (As := [.int (nI k)]) (rest := []) F (xX1_freeBy g1 (A := A) (S := S) (ad := ad) (z := z1) (xi_nI (n := (S.1 3 0)) (by omega) (by omega)) hW) (cwV 1 hts (lw_V q717 q719 qs9 q56 q720) rfl rfl rfl hdV_X1_freeBy ⟨Nat.le_of_ble_eq_true rfl, Nat.le_of_ble_eq_true rfl⟩) (xpreV (xrecv hK (xw_0 hR) rfl) hWK hS hR) rfl rfl hl.1 rfl (lv_room (Nat.le_of_ble_eq_true rfl)) dX1_isSound_50 ⟨Nat.le_of_ble_eq_true rfl, Nat.le_of_ble_eq_true rfl⟩) ?_
          refine lv_aload_n hx hb dX1_isSound_53 rfl (lv_at hl 2 rfl) ?_
          refine g_X1_39 F hK (xw_0 hR) (v := .ref (ad (6, 0))) rfl dX1_isSound_54 ?_
          refine lv_iload_n hx hb dX1_isSound_57 rfl (lv_at hl 0 rfl) ?_
          refine xc_P (va_runV (As := [.int (nI k)]) (rest := [.int (xFreeBy S k (nI k) (S.1 2 0))]) F (xJ2_get_26 g1 (A := A) (S := S) (ad := ad) (z := z1) (xi_nI (n := (S.1 3 0)) (by omega) (by omega)) (by first | assumption | omega)) (cwV 1 hts (lw_V q486 q487 q488 q60 q489) rfl rfl rfl hdV_J2_get ⟨Nat.le_of_ble_eq_true rfl, Nat.le_of_ble_eq_true rfl⟩) (xpreV (xrecv hK (xw_6 hR) rfl) hWK hS hR) rfl rfl hl.1 rfl (lv_room (Nat.le_of_ble_eq_true rfl)) dX1_isSound_58 ⟨Nat.le_of_ble_eq_true rfl, Nat.le_of_ble_eq_true rfl⟩) ?_
          refine x_castO F hK rfl (xw_26 hR (xi_nI (n := (S.1 3 0)) (by omega) (by omega)).lt) (hts _ q721) dX1_isSound_61 ?_
          refine g_X1_326 F hWK g hK (xw_26 hR (xi_nI (n := (S.1 3 0)) (by omega) (by omega)).lt) (v := .int (S.2.1 22 k 0)) rfl dX1_isSound_64 ?_
          refine lv_icmp_ne (tgt := 74) hx hb dX1_isSound_67 (by decide) (fun c_67 => ?_) (fun c_67 => ?_)
          · refine lv_iconst (v := 0) hx hb dX1_isSound_74 (by decide) ?_
            refine lv_istore_n (lv' := [(1, .int 0), (2, .int (nI k)), (0, .ref (ad (0, 0)))]) hx hb dX1_isSound_75 rfl hl (by decide) rfl (fun ls hl => ?_)
            refine lv_iinc (v := nI (k + 1)) (lv' := [(2, .int (nI (k + 1))), (1, .int 0), (0, .ref (ad (0, 0)))]) hx hb dX1_isSound_76 hl (k := 1) rfl (nI_1 _) (by decide) rfl (fun ls hl => ?_)
            refine lv_goto (tgt := 33) hx hb dX1_isSound_79 (by decide) ?_
            exact ih33 (k + 1) false z1 (by omega) (by omega) (by simp [allN, ← Bool.and_assoc, ← eb, c_45, c_67]) _ _ hR hS ls (lv_sub hl [0, 1, 2] rfl)
          · refine lv_iconst (v := 1) hx hb dX1_isSound_70 (by decide) ?_
            refine lv_goto (tgt := 75) hx hb dX1_isSound_71 (by decide) ?_
            refine lv_istore_n (lv' := [(1, .int 1), (2, .int (nI k)), (0, .ref (ad (0, 0)))]) hx hb dX1_isSound_75 rfl hl (by decide) rfl (fun ls hl => ?_)
            refine lv_iinc (v := nI (k + 1)) (lv' := [(2, .int (nI (k + 1))), (1, .int 1), (0, .ref (ad (0, 0)))]) hx hb dX1_isSound_76 hl (k := 1) rfl (nI_1 _) (by decide) rfl (fun ls hl => ?_)
            refine lv_goto (tgt := 33) hx hb dX1_isSound_79 (by decide) ?_
            exact ih33 (k + 1) true z1 (by omega) (by omega) (by simp [allN, ← Bool.and_assoc, ← eb, c_45, c_67]) _ _ hR hS ls (lv_sub hl [0, 1, 2] rfl)
  refine lv_iconst (v := 1) hx hb dX1_isSound_0 (by decide) ?_
  refine lv_istore_n (lv' := [(1, .int 1), (0, .ref (ad (0, 0)))]) hx hb dX1_isSound_1 rfl hl (by decide) rfl (fun ls hl => ?_)
  refine lv_iconst (v := 0) hx hb dX1_isSound_2 (by decide) ?_
  refine lv_istore_n (lv' := [(2, .int 0), (1, .int 1), (0, .ref (ad (0, 0)))]) hx hb dX1_isSound_3 rfl hl (by decide) rfl (fun ls hl => ?_)
  have L4 : ∀ (n : Nat) (k : Nat) (b : Bool) (z1 : xZ), S.1 2 0 - k < n → (k ≤ S.1 2 0) → (b = allN k (xSoundE S)) → ∀ (H : Heap) (locs : List Loc), xRX G A S ad z1 H → va_S A s.heap H locs → ∀ (ls : Array Slot), lv_has ls 4 [(2, .int (nI k)), (1, .int (bI b)), (0, .ref (ad (0, 0)))] → W p l e (headSpec (ws_ yX1_isSound cX1_isSound 4 (some .boolean)) ({ frames := 10, cells := 0, slots := 0, locals := 283 } : Room)).room s m ([.ref (ad (0, 0))] : List Value).toArray below meth c H locs 0 0 (MQ below (xQc (some (.int (bI (xSound S q)))) (fun _ H => ∃ z9, xRX G A S ad z9 H) A) ([.ref (ad (0, 0))] : List Value).toArray s 0 0 A) (F0 m 4 ls []) := by
    intro n4
    induction n4 with
    | zero =>
      intro k b z1 hn4
      exact absurd hn4 (Nat.not_lt_zero _)
    | succ n4 ih4 =>
      intro k b z1 hn4 hkn eb H locs hR hS ls hl
      refine lv_iload_n hx hb dX1_isSound_4 rfl (lv_at hl 0 rfl) ?_
      refine lv_aload_n hx hb dX1_isSound_5 rfl (lv_at hl 2 rfl) ?_
      refine g_X1_36 F hK (xw_0 hR) (v := .ref (ad (5, 0))) rfl dX1_isSound_6 ?_
      refine xc_P (va_runV (As := []) (rest := [.int (nI k)]) F (xJ2_size_23 g1 (A := A) (S := S) (ad := ad) (z := z1) ) (cwV 0 hts (lw_V q510 q511 q512 q60 q513) rfl rfl rfl hdV_J2_size ⟨Nat.le_of_ble_eq_true rfl, Nat.le_of_ble_eq_true rfl⟩) (xpreV (xrecv hK (xw_5 hR) rfl) hWK hS hR) rfl rfl hl.1 rfl (lv_room (Nat.le_of_ble_eq_true rfl)) dX1_isSound_9 ⟨Nat.le_of_ble_eq_true rfl, Nat.le_of_ble_eq_true rfl⟩) ?_
      refine xn_ge (tgt := 31) k (S.1 2 0) rfl rfl (by omega) (by omega) hx hb dX1_isSound_12 (by decide) (fun c_12 => ?_) (fun c_12 => ?_)
      · have n_12 := Nat.not_lt.mpr c_12
        refine lv_iconst (v := 0) hx hb dX1_isSound_31 (by decide) ?_
        refine lv_istore_n (lv' := [(2, .int 0), (1, .int (bI b)), (0, .ref (ad (0, 0)))]) hx hb dX1_isSound_32 rfl hl (by decide) rfl (fun ls hl => ?_)
        exact L33 (S.1 3 0 + 1) 0 b z1 (by omega) (by omega) (by have hk9 : k = S.1 2 0 := (by omega); subst hk9; simp only [allN, Bool.and_true]; exact eb) _ _ hR hS ls (lv_sub hl [0, 1, 2] rfl)
      · have n_12 := Nat.not_le.mpr c_12
        refine lv_iload_n hx hb dX1_isSound_15 rfl (lv_at hl 1 rfl) ?_
        refine x_ifeq (tgt := 31) hx hb dX1_isSound_16 (by decide) (fun c_16 => ?_) (fun c_16 => ?_)
        · refine lv_iconst (v := 0) hx hb dX1_isSound_31 (by decide) ?_
          refine lv_istore_n (lv' := [(2, .int 0), (1, .int (bI b)), (0, .ref (ad (0, 0)))]) hx hb dX1_isSound_32 rfl hl (by decide) rfl (fun ls hl => ?_)
          exact L33 (S.1 3 0 + 1) 0 b z1 (by omega) (by omega) (by rw [c_16]; simp only [allN, Bool.and_true]; exact (allN_false (eb.symm.trans c_16) hkn).symm) _ _ hR hS ls (lv_sub hl [0, 1, 2] rfl)
        · refine lv_aload_n hx hb dX1_isSound_19 rfl (lv_at hl 2 rfl) ?_
          refine lv_iload_n hx hb dX1_isSound_20 rfl (lv_at hl 0 rfl) ?_
          refine xc_C (va_runV (As := [.int (nI k)]) (rest := []) F (xX1_isSoundEntry g1 (A := A) (S := S) (ad := ad) (z := z1) k (by first | assumption | omega) hW hA) (cwV 1 hts (lw_V q670 q672 qs7 q56 q673) rfl rfl rfl hdV_X1_isSoundEntry ⟨Nat.le_of_ble_eq_true rfl, Nat.le_of_ble_eq_true rfl⟩) (xpreV (xrecv hK (xw_0 hR) rfl) hWK hS hR) rfl rfl hl.1 rfl (lv_room (Nat.le_of_ble_eq_true rfl)) dX1_isSound_21 ⟨Nat.le_of_ble_eq_true rfl, Nat.le_of_ble_eq_true rfl⟩) hS (fun H locs hR1 hz hk hS => ?_)
          obtain ⟨z_21, hR⟩ := hR1
          refine lv_istore_n (lv' := [(1, .int (bI (xSoundE S k))), (2, .int (nI k)), (0, .ref (ad (0, 0)))]) hx hb dX1_isSound_24 rfl hl (by decide) rfl (fun ls hl => ?_)
          refine lv_iinc (v := nI (k + 1)) (lv' := [(2, .int (nI (k + 1))), (1, .int (bI (xSoundE S k))), (0, .ref (ad (0, 0)))]) hx hb dX1_isSound_25 hl (k := 1) rfl (nI_1 _) (by decide) rfl (fun ls hl => ?_)
          refine lv_goto (tgt := 4) hx hb dX1_isSound_28 (by decide) ?_
          exact ih4 (k + 1) (xSoundE S k) z_21 (by omega) (by omega) (by rw [allN, ← eb, c_16, Bool.true_and]) _ _ hR hS ls (lv_sub hl [0, 1, 2] rfl)
  exact L4 (S.1 2 0 + 1) 0 true z (by omega) (by omega) rfl _ _ hR hS ls (lv_sub hl [0, 1, 2] rfl)

