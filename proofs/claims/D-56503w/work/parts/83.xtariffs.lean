/-! contracts (printed by gen/mx11.py) -/
set_option maxRecDepth 100000
set_option maxHeartbeats 4000000 in
theorem xX1_setRate {l : Launch} {G : xG} {s0 : State} {b0 : Nat} (g1 : xG1 l G s0 b0) {A : Nat → Prop} {S : xS} {ad : Nat × Nat → Nat} {z : xZ} (kind rate : Int32) (hW : xW S) (hT : xTd S) (hp : xPt S) : vx_Met l yX1_setRate (ws_ yX1_setRate cX1_setRate 4 (some .int)) ({ frames := 7, cells := 2, slots := 8, locals := 3075 } : Room) (xP s0 A [.ref (ad (0, 0)), .int kind, .int rate] (fun H => xRX G A S ad z H)) (xQc (some (.int ((xSetRate S kind rate).2.1))) (fun _ H => (xSetRate S kind rate).1 = 0 ∧ ∃ ad9 z9, xRX G A (xSetRate S kind rate).2.2 ad9 z9 H ∧ ad9 (0, 0) = ad (0, 0)) A) (xXc (fun E _ H => E = xExn (xSetRate S kind rate).1 ∧ ¬ (xSetRate S kind rate).1 = 0 ∧ ∃ z9, xRX G A S ad z9 H) A) 2 8 A := by
  refine vx_ofW (cc := cX1_setRate) (maxL := 4) (ret := (some .int)) (by decide) rfl ?_
  intro p e s m args below meth c s₁ B hml hnt hv
  obtain ⟨rfl, hWK, hR⟩ := hv
  have g := g1.1
  have hx := B.exec
  have hb := B.bytes
  have hr := B.returns
  have hts := atoms_spec (ws := ws_ yX1_setRate cX1_setRate 4 (some .int)) B.pre
  have hts : ∀ w ∈ lw_all, w.before _ s = true := fun w h => hts w (List.mem_cons_of_mem _ h)
  have hown : s.vm.findClass "Lendlathe" = some m.cls := findClass_of_methodNamed B.named
  have hlocks := B.notSynchronized
  have hK := hWK.K g
  have F : CallFix p m c cX1_setRate 4 s _ lw_all "Lendlathe" := ⟨hx, hb, hml, hown, hts⟩
  have hS : va_S A s.heap s.heap [] := va_S.rf
  have hl := lv_entry ([.ref (ad (0, 0)), .int kind, .int rate]) (n := 4) (Nat.le_of_ble_eq_true rfl)
  rw [lg_entry_eq]
  generalize (lg_sl ([.ref (ad (0, 0)), .int kind, .int rate]) ++ List.replicate (4 - (lg_sl ([.ref (ad (0, 0)), .int kind, .int rate])).length) Slot.unset).toArray = ls at hl ⊢
  have hl : lv_has ls 4 [(0, .ref (ad (0, 0))), (1, .int kind), (2, .int rate)] := hl
  have hn0 := hW.1.1
  have hn1 := hW.1.2.1
  have hn2 := hW.1.2.2.1
  have hn3 := hW.1.2.2.2.1
  have hn4 := hW.1.2.2.2.2
  refine lv_iload_n hx hb dX1_setRate_0 rfl (lv_at hl 1 rfl) ?_
  refine xc_P (va_runS (As := [.int kind]) (rest := []) F (xX1_isKind g1 (A := A) kind) (va_cwS 1 hts (lw_S q755 q756 q56 q757) rfl rfl rfl hdS_X1_isKind ⟨Nat.le_of_ble_eq_true rfl, Nat.le_of_ble_eq_true rfl⟩) (xpre hWK hS trivial) rfl rfl hl.1 rfl (lv_room (Nat.le_of_ble_eq_true rfl)) dX1_setRate_1 ⟨Nat.le_of_ble_eq_true rfl, Nat.le_of_ble_eq_true rfl⟩) ?_
  refine x_ifeq (tgt := 21) hx hb dX1_setRate_4 (by decide) (fun c_4 => ?_) (fun c_4 => ?_)
  · refine lv_iconst (v := 0) hx hb dX1_setRate_21 (by decide) ?_
    have e9 : (xSetRate S kind rate).1 = 1 := by simp [xSetRate, xTopS, c_4]
    exact xc_T (vx_runS (As := [.int 0]) (rest := []) F (xX1_want_no g1 (A := A) false rfl) (va_cwS 1 hts (lw_S q761 q762 q56 q763) rfl rfl rfl hdS_X1_want ⟨Nat.le_of_ble_eq_true rfl, Nat.le_of_ble_eq_true rfl⟩) (xpre hWK hS trivial) rfl rfl hl.1 rfl (lv_room (Nat.le_of_ble_eq_true rfl)) dX1_setRate_22 ⟨Nat.le_of_ble_eq_true rfl, Nat.le_of_ble_eq_true rfl⟩) hS (fun E ce q9 H locs hX hz hk hS hq9 hv9 hc9 => vx_out (fun x hx => (hnt x hx).elim) hlocks hq9 hv9 hc9 (fun t ht _ => ⟨by rw [ht]; exact ⟨hX.1.trans (congrArg xExn e9).symm, (by rw [e9]; decide), z, hR.grow hX.2⟩, hS.F ht⟩) hS.2.2 (Nat.le_of_ble_eq_true rfl) (Nat.le_of_ble_eq_true rfl))
  · refine lv_iload_n hx hb dX1_setRate_7 rfl (lv_at hl 2 rfl) ?_
    refine lv_iconst (v := 0) hx hb dX1_setRate_8 (by decide) ?_
    refine lv_bipush (v := 99) hx hb dX1_setRate_9 (by decide) ?_
    refine xc_P (va_runS (As := [.int rate, .int 0, .int 99]) (rest := []) F (xX1_in g1 (A := A) rate 0 99) (va_cwS 3 hts (lw_S q758 q759 q56 q760) rfl rfl rfl hdS_X1_in ⟨Nat.le_of_ble_eq_true rfl, Nat.le_of_ble_eq_true rfl⟩) (xpre hWK hS trivial) rfl rfl hl.1 rfl (lv_room (Nat.le_of_ble_eq_true rfl)) dX1_setRate_11 ⟨Nat.le_of_ble_eq_true rfl, Nat.le_of_ble_eq_true rfl⟩) ?_
    refine x_ifeq (tgt := 21) hx hb dX1_setRate_14 (by decide) (fun c_14 => ?_) (fun c_14 => ?_)
    · refine lv_iconst (v := 0) hx hb dX1_setRate_21 (by decide) ?_
      have e9 : (xSetRate S kind rate).1 = 1 := by simp [xSetRate, xTopS, c_4, c_14]
      exact xc_T (vx_runS (As := [.int 0]) (rest := []) F (xX1_want_no g1 (A := A) false rfl) (va_cwS 1 hts (lw_S q761 q762 q56 q763) rfl rfl rfl hdS_X1_want ⟨Nat.le_of_ble_eq_true rfl, Nat.le_of_ble_eq_true rfl⟩) (xpre hWK hS trivial) rfl rfl hl.1 rfl (lv_room (Nat.le_of_ble_eq_true rfl)) dX1_setRate_22 ⟨Nat.le_of_ble_eq_true rfl, Nat.le_of_ble_eq_true rfl⟩) hS (fun E ce q9 H locs hX hz hk hS hq9 hv9 hc9 => vx_out (fun x hx => (hnt x hx).elim) hlocks hq9 hv9 hc9 (fun t ht _ => ⟨by rw [ht]; exact ⟨hX.1.trans (congrArg xExn e9).symm, (by rw [e9]; decide), z, hR.grow hX.2⟩, hS.F ht⟩) hS.2.2 (Nat.le_of_ble_eq_true rfl) (Nat.le_of_ble_eq_true rfl))
    · refine lv_iconst (v := 1) hx hb dX1_setRate_17 (by decide) ?_
      refine lv_goto (tgt := 22) hx hb dX1_setRate_18 (by decide) ?_
      refine xc_P0 (va_runS (As := [.int 1]) (rest := []) F (xX1_want_ok g1 (A := A) true rfl) (va_cwS 1 hts (lw_S q761 q762 q56 q763) rfl rfl rfl hdS_X1_want ⟨Nat.le_of_ble_eq_true rfl, Nat.le_of_ble_eq_true rfl⟩) (xpre hWK hS trivial) rfl rfl hl.1 rfl (lv_room (Nat.le_of_ble_eq_true rfl)) dX1_setRate_22 ⟨Nat.le_of_ble_eq_true rfl, Nat.le_of_ble_eq_true rfl⟩) ?_
      obtain ⟨kj, hkj, rfl⟩ := inI_of' (n := 4) (by first | rfl | decide) (by first | decide | omega) c_4
      refine lv_aload_n hx hb dX1_setRate_25 rfl (lv_at hl 0 rfl) ?_
      refine g_X1_15 F hK (xw_0 hR) (v := .ref (ad (2, 0))) rfl dX1_setRate_26 ?_
      refine lv_iload_n hx hb dX1_setRate_29 rfl (lv_at hl 1 rfl) ?_
      refine x_iald hx hb hK (xw_2 hR) (v := .int (nI (S.1 5 kj))) (xi_nI (n := 4) (by omega) (by omega)) (rfl) dX1_setRate_30 ?_
      refine lv_istore_n (lv' := [(3, .int (nI (S.1 5 kj))), (0, .ref (ad (0, 0))), (1, .int (nI kj)), (2, .int rate)]) hx hb dX1_setRate_31 rfl hl (by decide) rfl (fun ls hl => ?_)
      refine lv_aload_n hx hb dX1_setRate_32 rfl (lv_at hl 1 rfl) ?_
      refine g_X1_11 F hK (xw_0 hR) (v := .ref (ad (1, 0))) rfl dX1_setRate_33 ?_
      refine lv_iload_n hx hb dX1_setRate_36 rfl (lv_at hl 2 rfl) ?_
      refine lv_iload_n hx hb dX1_setRate_37 rfl (lv_at hl 3 rfl) ?_
      have hsz9 := xmk3 g1 hWK
      refine x_indy (vals := [.int rate]) (rest := [.int (nI kj), .ref (ad (1, 0))]) hx hb hml B.named hsz9.1 (xMk.cls (hsz9.2 s.vm (State.WarmedH.refl s))) rfl rfl (xfit1 rate) hl.1 (Nat.le_of_ble_eq_true rfl) (Nat.le_of_ble_eq_true rfl) (Nat.le_of_ble_eq_true rfl) dX1_setRate_38 (fun H1 hO hz hg => ?_)
      show W _ _ _ _ _ _ _ _ _ _ _ _ (0 + 1) (0 + 1) _ _
      have hfq := hR.fresh
      have hA9 : A (Array.size s.heap) := hWK.2.2.2.1 _ hS.1
      have ho9 := hg.2
      have hS := hg.S hS
      clear hz hg
      generalize Array.size s.heap = q at hO hA9 hfq ⊢
      have hR : xRX G A (xTarS S 0 0 rate) (xAd ad (xN1 27 (S.1 8 0) q)) z H1 := xg_tar hR hp hT.top (Nat.zero_le _) hfq hA9 hO ho9
      clear ho9
      generalize H1 = H at hO hR hS ⊢
      refine x_topr (xtr_new (ad := ad) (n := S.1 8 0) (q := q)).symm ?_
      obtain ⟨sg9, xs9, pc9, ix9, hs9, hi9, hk9⟩ := xTsite g1 hWK (c := 0) (by first | assumption | decide)
      refine x_aastL hx hb hK hS (xw_1 (ad := (xAd ad (xN1 27 (S.1 8 0) q))) hR) (xa_1 (ad := (xAd ad (xN1 27 (S.1 8 0) q))) hR) hs9 hk9 (by rw [hi9]; rfl) (xi_nI (n := 4) (by omega) (by omega)) (show _ = some _ from by have h9 := xw_27 (ad := (xAd ad (xN1 27 (S.1 8 0) q))) (i := S.1 8 0) hR (Nat.lt_succ_self _); exact h9) (by simp [xTarS, nset]) rfl dX1_setRate_43 (fun H locs hat hof hS => ?_)
      have hR := xs_1_a (u := S.1 8 0 + 1) hR hof hat
      refine lv_aload_n hx hb dX1_setRate_44 rfl (lv_at hl 1 rfl) ?_
      refine g_X1_15 F hK (xw_0 (ad := (xAd ad (xN1 27 (S.1 8 0) q))) hR) (v := .ref (ad (2, 0))) rfl dX1_setRate_45 ?_
      refine lv_iload_n hx hb dX1_setRate_48 rfl (lv_at hl 2 rfl) ?_
      refine lv_iconst (v := 1) hx hb dX1_setRate_49 (by decide) ?_
      refine x_topi (show (1 : Int32) = nI 1 by decide) ?_
      refine x_iast hx hb hK hS (xw_2 (ad := (xAd ad (xN1 27 (S.1 8 0) q))) hR) (xa_2 hR) (xi_nI (n := 4) (by omega) (by omega)) dX1_setRate_50 (fun H locs hat hof hS => ?_)
      have hR := xs_2_a hR hof hat
      refine lv_iload_n hx hb dX1_setRate_51 rfl (lv_at hl 0 rfl) ?_
      have e9 : xSetRate S (nI kj) rate = (0, nI (S.1 5 kj), (sN (sN (xTarS S 0 0 rate) 11 kj (S.1 8 0 + 1)) 5 kj 1)) := by simp [xSetRate, xTopS, c_4, c_14, nI_clamp (show kj < 2 ^ 31 by omega)]
      exact vx_ret (xr_Ci hx hb hr hlocks ((congrArg (fun q => q.2.1) e9).symm) (⟨congrArg Prod.fst e9, (xAd ad (xN1 27 (S.1 8 0) q)), z, by rw [show (xSetRate S (nI kj) rate).2.2 = (sN (sN (xTarS S 0 0 rate) 11 kj (S.1 8 0 + 1)) 5 kj 1) from congrArg (fun q => q.2.2) e9]; exact hR, rfl⟩) hS (by first | omega | decide) (by first | omega | decide) dX1_setRate_52)

set_option maxHeartbeats 4000000 in
theorem xX1_adds {l : Launch} {G : xG} {s0 : State} {b0 : Nat} (g1 : xG1 l G s0 b0) {A : Nat → Prop} {S : xS} {ad : Nat × Nat → Nat} {z : xZ} (kj t : Nat) (hkj : kj < 4) (ht : t < S.1 8 0) (h59 : S.1 9 t < 5) (hW : xW S) : Met l yX1_adds (ws_ yX1_adds cX1_adds 3 (some .int)) ({ frames := 0, cells := 0, slots := 0, locals := 0 } : Room) (xP s0 A [.ref (ad (0, 0)), .int (nI kj), .ref (xtr ad (t + 1))] (fun H => xRX G A S ad z H)) (xQc (some (.int (nI (S.1 5 kj + 1)))) (fun _ H => xRX G A (sN (sN S 11 kj (t + 1)) 5 kj (S.1 5 kj + 1)) ad z H) A) 0 0 A := by
  refine Met.ofW (cc := cX1_adds) (maxL := 3) (ret := (some .int)) (by decide) rfl ?_
  intro p e s m args below meth c s₁ B hml hv
  obtain ⟨rfl, hWK, hR⟩ := hv
  have g := g1.1
  have hx := B.exec
  have hb := B.bytes
  have hr := B.returns
  have hts := atoms_spec (ws := ws_ yX1_adds cX1_adds 3 (some .int)) B.pre
  have hts : ∀ w ∈ lw_all, w.before _ s = true := fun w h => hts w (List.mem_cons_of_mem _ h)
  have hown : s.vm.findClass "Lendlathe" = some m.cls := findClass_of_methodNamed B.named
  have hlocks := B.notSynchronized
  have hK := hWK.K g
  have F : CallFix p m c cX1_adds 3 s _ lw_all "Lendlathe" := ⟨hx, hb, hml, hown, hts⟩
  have hS : va_S A s.heap s.heap [] := va_S.rf
  have hl := lv_entry ([.ref (ad (0, 0)), .int (nI kj), .ref (xtr ad (t + 1))]) (n := 3) (Nat.le_of_ble_eq_true rfl)
  rw [lg_entry_eq]
  generalize (lg_sl ([.ref (ad (0, 0)), .int (nI kj), .ref (xtr ad (t + 1))]) ++ List.replicate (3 - (lg_sl ([.ref (ad (0, 0)), .int (nI kj), .ref (xtr ad (t + 1))])).length) Slot.unset).toArray = ls at hl ⊢
  have hl : lv_has ls 3 [(0, .ref (ad (0, 0))), (1, .int (nI kj)), (2, .ref (xtr ad (t + 1)))] := hl
  have hn0 := hW.1.1
  have hn1 := hW.1.2.1
  have hn2 := hW.1.2.2.1
  have hn3 := hW.1.2.2.2.1
  have hn4 := hW.1.2.2.2.2
  have h6k := hW.lay hkj
  refine lv_aload_n hx hb dX1_adds_0 rfl (lv_at hl 0 rfl) ?_
  refine g_X1_11 F hK (xw_0 hR) (v := .ref (ad (1, 0))) rfl dX1_adds_1 ?_
  refine lv_iload_n hx hb dX1_adds_4 rfl (lv_at hl 1 rfl) ?_
  refine lv_aload_n hx hb dX1_adds_5 rfl (lv_at hl 2 rfl) ?_
  obtain ⟨sg9, xs9, pc9, ix9, hs9, hi9, hk9⟩ := xTsite g1 hWK (c := S.1 9 t) (by first | assumption | decide)
  refine x_aastL hx hb hK hS (xw_1 (ad := ad) hR) (xa_1 (ad := ad) hR) hs9 hk9 (by rw [hi9]; rfl) (xi_nI (n := 4) (by omega) (by omega)) (show _ = some _ from xw_27 hR ht) rfl rfl dX1_adds_6 (fun H locs hat hof hS => ?_)
  have hR := xs_1_a (u := t + 1) hR hof hat
  refine lv_aload_n hx hb dX1_adds_7 rfl (lv_at hl 0 rfl) ?_
  refine g_X1_15 F hK (xw_0 hR) (v := .ref (ad (2, 0))) rfl dX1_adds_8 ?_
  refine lv_iload_n hx hb dX1_adds_11 rfl (lv_at hl 1 rfl) ?_
  refine lv_dup2_11 hx hb dX1_adds_12 rfl rfl ?_
  refine x_iald hx hb hK (xw_2 hR) (v := .int (nI (S.1 5 kj))) (xi_nI (n := 4) (by omega) (by omega)) (rfl) dX1_adds_13 ?_
  refine lv_iconst (v := 1) hx hb dX1_adds_14 (by decide) ?_
  refine lv_iadd hx hb dX1_adds_15 ?_
  refine x_topi (nI_1 _) ?_
  refine x_iast hx hb hK hS (xw_2 hR) (xa_2 hR) (xi_nI (n := 4) (by omega) (by omega)) dX1_adds_16 (fun H locs hat hof hS => ?_)
  have hR := xs_2_a hR hof hat
  refine lv_aload_n hx hb dX1_adds_17 rfl (lv_at hl 0 rfl) ?_
  refine g_X1_15 F hK (xw_0 hR) (v := .ref (ad (2, 0))) rfl dX1_adds_18 ?_
  refine lv_iload_n hx hb dX1_adds_21 rfl (lv_at hl 1 rfl) ?_
  refine x_iald hx hb hK (xw_2 hR) (v := .int (nI (S.1 5 kj + 1))) (xi_nI (n := 4) (by omega) (by omega)) ((by simp [fset, nset, lset])) dX1_adds_22 ?_
  exact xr_Ci hx hb hr hlocks ((by simp [nset])) (hR) hS (by first | omega | decide) (by first | omega | decide) dX1_adds_23

set_option maxHeartbeats 4000000 in
theorem xX1_addFee {l : Launch} {G : xG} {s0 : State} {b0 : Nat} (g1 : xG1 l G s0 b0) {A : Nat → Prop} {S : xS} {ad : Nat × Nat → Nat} {z : xZ} (kind v : Int32) (hW : xW S) (hT : xTd S) (hp : xPt S) : vx_Met l yX1_addFee (ws_ yX1_addFee cX1_addFee 4 (some .int)) ({ frames := 8, cells := 2, slots := 8, locals := 3076 } : Room) (xP s0 A [.ref (ad (0, 0)), .int kind, .int v] (fun H => xRX G A S ad z H)) (xQc (some (.int ((xAddT 1 999 S kind v).2.1))) (fun _ H => (xAddT 1 999 S kind v).1 = 0 ∧ ∃ ad9 z9, xRX G A (xAddT 1 999 S kind v).2.2 ad9 z9 H ∧ ad9 (0, 0) = ad (0, 0)) A) (xXc (fun E _ H => E = xExn (xAddT 1 999 S kind v).1 ∧ ¬ (xAddT 1 999 S kind v).1 = 0 ∧ ∃ z9, xRX G A S ad z9 H) A) 2 8 A := by
  refine vx_ofW (cc := cX1_addFee) (maxL := 4) (ret := (some .int)) (by decide) rfl ?_
  intro p e s m args below meth c s₁ B hml hnt hv
  obtain ⟨rfl, hWK, hR⟩ := hv
  have g := g1.1
  have hx := B.exec
  have hb := B.bytes
  have hr := B.returns
  have hts := atoms_spec (ws := ws_ yX1_addFee cX1_addFee 4 (some .int)) B.pre
  have hts : ∀ w ∈ lw_all, w.before _ s = true := fun w h => hts w (List.mem_cons_of_mem _ h)
  have hown : s.vm.findClass "Lendlathe" = some m.cls := findClass_of_methodNamed B.named
  have hlocks := B.notSynchronized
  have hK := hWK.K g
  have F : CallFix p m c cX1_addFee 4 s _ lw_all "Lendlathe" := ⟨hx, hb, hml, hown, hts⟩
  have hS : va_S A s.heap s.heap [] := va_S.rf
  have hl := lv_entry ([.ref (ad (0, 0)), .int kind, .int v]) (n := 4) (Nat.le_of_ble_eq_true rfl)
  rw [lg_entry_eq]
  generalize (lg_sl ([.ref (ad (0, 0)), .int kind, .int v]) ++ List.replicate (4 - (lg_sl ([.ref (ad (0, 0)), .int kind, .int v])).length) Slot.unset).toArray = ls at hl ⊢
  have hl : lv_has ls 4 [(0, .ref (ad (0, 0))), (1, .int kind), (2, .int v)] := hl
  have hn0 := hW.1.1
  have hn1 := hW.1.2.1
  have hn2 := hW.1.2.2.1
  have hn3 := hW.1.2.2.2.1
  have hn4 := hW.1.2.2.2.2
  refine lv_aload_n hx hb dX1_addFee_0 rfl (lv_at hl 0 rfl) ?_
  refine lv_iload_n hx hb dX1_addFee_1 rfl (lv_at hl 1 rfl) ?_
  refine lv_iload_n hx hb dX1_addFee_2 rfl (lv_at hl 2 rfl) ?_
  refine lv_sipush (v := 999) hx hb dX1_addFee_3 (by decide) ?_
  rcases Decidable.em (xMayAdd S kind v 999 = 0) with c_6 | c_6
  · refine xc_P0 (va_runV (As := [.int kind, .int v, .int 999]) (rest := []) F (xX1_mayAdd_ok g1 (A := A) (S := S) (ad := ad) (z := z) kind v 999 hW c_6) (cwV 3 hts (lw_V q1300 q1302 qs28 q56 q1303) rfl rfl rfl hdV_X1_mayAdd ⟨Nat.le_of_ble_eq_true rfl, Nat.le_of_ble_eq_true rfl⟩) (xpreV (xrecv hK (xw_0 hR) rfl) hWK hS hR) rfl rfl hl.1 rfl (lv_room (Nat.le_of_ble_eq_true rfl)) dX1_addFee_6 ⟨Nat.le_of_ble_eq_true rfl, Nat.le_of_ble_eq_true rfl⟩) ?_
    obtain ⟨kj, hkj, rfl⟩ := inI_of' (n := 4) (by first | rfl | decide) (by first | decide | omega) (xMayAdd_in c_6)
    refine lv_aload_n hx hb dX1_addFee_9 rfl (lv_at hl 0 rfl) ?_
    refine g_X1_11 F hK (xw_0 hR) (v := .ref (ad (1, 0))) rfl dX1_addFee_10 ?_
    refine lv_iload_n hx hb dX1_addFee_13 rfl (lv_at hl 1 rfl) ?_
    refine x_aald hx hb hK (xw_1 hR) rfl rfl (v := .ref (xtr ad (S.1 11 kj))) (xi_nI (n := 4) (by omega) (by omega)) (rfl) dX1_addFee_14 ?_
    refine lv_astore_n (lv' := [(3, .ref (xtr ad (S.1 11 kj))), (0, .ref (ad (0, 0))), (1, .int (nI kj)), (2, .int v)]) hx hb dX1_addFee_15 rfl hl (by decide) rfl (fun ls hl => ?_)
    refine lv_aload_n hx hb dX1_addFee_16 rfl (lv_at hl 1 rfl) ?_
    refine lv_iload_n hx hb dX1_addFee_17 rfl (lv_at hl 2 rfl) ?_
    refine lv_aload_n hx hb dX1_addFee_18 rfl (lv_at hl 0 rfl) ?_
    refine lv_iload_n hx hb dX1_addFee_19 rfl (lv_at hl 3 rfl) ?_
    have hsz9 := xmk4 g1 hWK
    refine x_indy (vals := [.ref (xtr ad (S.1 11 kj)), .int v]) (rest := [.int (nI kj), .ref (ad (0, 0))]) hx hb hml B.named hsz9.1 (xMk.cls (hsz9.2 s.vm (State.WarmedH.refl s))) rfl rfl (xfit2 _ v) hl.1 (Nat.le_of_ble_eq_true rfl) (Nat.le_of_ble_eq_true rfl) (Nat.le_of_ble_eq_true rfl) dX1_addFee_20 (fun H1 hO hz hg => ?_)
    show W _ _ _ _ _ _ _ _ _ _ _ _ (0 + 1) (0 + 2) _ _
    have hfq := hR.fresh
    have hA9 : A (Array.size s.heap) := hWK.2.2.2.1 _ hS.1
    have ho9 := hg.2
    have hS := hg.S hS
    clear hz hg
    generalize Array.size s.heap = q at hO hA9 hfq ⊢
    have hR : xRX G A (xTarS S 1 (S.1 11 kj) v) (xAd ad (xN1 27 (S.1 8 0) q)) z H1 := xg_tar hR hp hT.top (hT.top kj hkj) hfq hA9 hO ho9
    clear ho9
    generalize H1 = H at hO hR hS ⊢
    refine x_topr (xtr_new (ad := ad) (n := S.1 8 0) (q := q)).symm ?_
    refine xc_C (va_runV (As := [.int (nI kj), .ref (xtr (xAd ad (xN1 27 (S.1 8 0) q)) (S.1 8 0 + 1))]) (rest := []) F (xX1_adds g1 (A := A) (S := (xTarS S 1 (S.1 11 kj) v)) (ad := (xAd ad (xN1 27 (S.1 8 0) q))) (z := z) kj (S.1 8 0) hkj (Nat.lt_succ_self _) (by simp [xTarS, nset]) (xW_tar hW _ _ _)) (cwV 2 hts (lw_V q1308 q1310 qs29 q56 q1311) rfl rfl rfl hdV_X1_adds ⟨Nat.le_of_ble_eq_true rfl, Nat.le_of_ble_eq_true rfl⟩) (xpreV (xrecv hK (xw_0 (ad := (xAd ad (xN1 27 (S.1 8 0) q))) hR) rfl) hWK hS hR) rfl rfl hl.1 rfl (lv_room (Nat.le_of_ble_eq_true rfl)) dX1_addFee_25 ⟨Nat.le_of_ble_eq_true rfl, Nat.le_of_ble_eq_true rfl⟩) hS (fun H locs hR hz hk hS => ?_)
    have e9 : xAddT 1 999 S (nI kj) v = (0, nI (S.1 5 kj + 1), (sN (sN (xTarS S 1 (S.1 11 kj) v) 11 kj (S.1 8 0 + 1)) 5 kj (S.1 5 kj + 1))) := by simp [xAddT, xTopS, c_6, nI_clamp (show kj < 2 ^ 31 by omega)]
    exact vx_ret (xr_Ci hx hb hr hlocks ((congrArg (fun q => q.2.1) e9).symm) (⟨congrArg Prod.fst e9, (xAd ad (xN1 27 (S.1 8 0) q)), z, by rw [show (xAddT 1 999 S (nI kj) v).2.2 = (sN (sN (xTarS S 1 (S.1 11 kj) v) 11 kj (S.1 8 0 + 1)) 5 kj (S.1 5 kj + 1)) from congrArg (fun q => q.2.2) e9]; exact hR, rfl⟩) hS (by first | omega | decide) (by first | omega | decide) dX1_addFee_28)
  · have e9 : (xAddT 1 999 S kind v).1 = xMayAdd S kind v 999 := by simp [xAddT, xTopS, c_6]
    exact xc_T (vx_runV (As := [.int kind, .int v, .int 999]) (rest := []) F (xX1_mayAdd_no g1 (A := A) (S := S) (ad := ad) (z := z) kind v 999 hW c_6) (cwV 3 hts (lw_V q1300 q1302 qs28 q56 q1303) rfl rfl rfl hdV_X1_mayAdd ⟨Nat.le_of_ble_eq_true rfl, Nat.le_of_ble_eq_true rfl⟩) (xpreV (xrecv hK (xw_0 hR) rfl) hWK hS hR) rfl rfl hl.1 rfl (lv_room (Nat.le_of_ble_eq_true rfl)) dX1_addFee_6 ⟨Nat.le_of_ble_eq_true rfl, Nat.le_of_ble_eq_true rfl⟩) hS (fun E ce q9 H locs hX hz hk hS hq9 hv9 hc9 => vx_out (fun x hx => (hnt x hx).elim) hlocks hq9 hv9 hc9 (fun t ht _ => ⟨by rw [ht]; exact ⟨hX.1.trans (congrArg xExn e9).symm, (by rw [e9]; exact c_6), z, hR.grow hX.2⟩, hS.F ht⟩) hS.2.2 (Nat.le_of_ble_eq_true rfl) (Nat.le_of_ble_eq_true rfl))

set_option maxHeartbeats 4000000 in
theorem xX1_addCap {l : Launch} {G : xG} {s0 : State} {b0 : Nat} (g1 : xG1 l G s0 b0) {A : Nat → Prop} {S : xS} {ad : Nat × Nat → Nat} {z : xZ} (kind v : Int32) (hW : xW S) (hT : xTd S) (hp : xPt S) : vx_Met l yX1_addCap (ws_ yX1_addCap cX1_addCap 4 (some .int)) ({ frames := 8, cells := 2, slots := 8, locals := 3076 } : Room) (xP s0 A [.ref (ad (0, 0)), .int kind, .int v] (fun H => xRX G A S ad z H)) (xQc (some (.int ((xAddT 2 9999 S kind v).2.1))) (fun _ H => (xAddT 2 9999 S kind v).1 = 0 ∧ ∃ ad9 z9, xRX G A (xAddT 2 9999 S kind v).2.2 ad9 z9 H ∧ ad9 (0, 0) = ad (0, 0)) A) (xXc (fun E _ H => E = xExn (xAddT 2 9999 S kind v).1 ∧ ¬ (xAddT 2 9999 S kind v).1 = 0 ∧ ∃ z9, xRX G A S ad z9 H) A) 2 8 A := by
  refine vx_ofW (cc := cX1_addCap) (maxL := 4) (ret := (some .int)) (by decide) rfl ?_
  intro p e s m args below meth c s₁ B hml hnt hv
  obtain ⟨rfl, hWK, hR⟩ := hv
  have g := g1.1
  have hx := B.exec
  have hb := B.bytes
  have hr := B.returns
  have hts := atoms_spec (ws := ws_ yX1_addCap cX1_addCap 4 (some .int)) B.pre
  have hts : ∀ w ∈ lw_all, w.before _ s = true := fun w h => hts w (List.mem_cons_of_mem _ h)
  have hown : s.vm.findClass "Lendlathe" = some m.cls := findClass_of_methodNamed B.named
  have hlocks := B.notSynchronized
  have hK := hWK.K g
  have F : CallFix p m c cX1_addCap 4 s _ lw_all "Lendlathe" := ⟨hx, hb, hml, hown, hts⟩
  have hS : va_S A s.heap s.heap [] := va_S.rf
  have hl := lv_entry ([.ref (ad (0, 0)), .int kind, .int v]) (n := 4) (Nat.le_of_ble_eq_true rfl)
  rw [lg_entry_eq]
  generalize (lg_sl ([.ref (ad (0, 0)), .int kind, .int v]) ++ List.replicate (4 - (lg_sl ([.ref (ad (0, 0)), .int kind, .int v])).length) Slot.unset).toArray = ls at hl ⊢
  have hl : lv_has ls 4 [(0, .ref (ad (0, 0))), (1, .int kind), (2, .int v)] := hl
  have hn0 := hW.1.1
  have hn1 := hW.1.2.1
  have hn2 := hW.1.2.2.1
  have hn3 := hW.1.2.2.2.1
  have hn4 := hW.1.2.2.2.2
  refine lv_aload_n hx hb dX1_addCap_0 rfl (lv_at hl 0 rfl) ?_
  refine lv_iload_n hx hb dX1_addCap_1 rfl (lv_at hl 1 rfl) ?_
  refine lv_iload_n hx hb dX1_addCap_2 rfl (lv_at hl 2 rfl) ?_
  refine lv_sipush (v := 9999) hx hb dX1_addCap_3 (by decide) ?_
  rcases Decidable.em (xMayAdd S kind v 9999 = 0) with c_6 | c_6
  · refine xc_P0 (va_runV (As := [.int kind, .int v, .int 9999]) (rest := []) F (xX1_mayAdd_ok g1 (A := A) (S := S) (ad := ad) (z := z) kind v 9999 hW c_6) (cwV 3 hts (lw_V q1300 q1302 qs28 q56 q1303) rfl rfl rfl hdV_X1_mayAdd ⟨Nat.le_of_ble_eq_true rfl, Nat.le_of_ble_eq_true rfl⟩) (xpreV (xrecv hK (xw_0 hR) rfl) hWK hS hR) rfl rfl hl.1 rfl (lv_room (Nat.le_of_ble_eq_true rfl)) dX1_addCap_6 ⟨Nat.le_of_ble_eq_true rfl, Nat.le_of_ble_eq_true rfl⟩) ?_
    obtain ⟨kj, hkj, rfl⟩ := inI_of' (n := 4) (by first | rfl | decide) (by first | decide | omega) (xMayAdd_in c_6)
    refine lv_aload_n hx hb dX1_addCap_9 rfl (lv_at hl 0 rfl) ?_
    refine g_X1_11 F hK (xw_0 hR) (v := .ref (ad (1, 0))) rfl dX1_addCap_10 ?_
    refine lv_iload_n hx hb dX1_addCap_13 rfl (lv_at hl 1 rfl) ?_
    refine x_aald hx hb hK (xw_1 hR) rfl rfl (v := .ref (xtr ad (S.1 11 kj))) (xi_nI (n := 4) (by omega) (by omega)) (rfl) dX1_addCap_14 ?_
    refine lv_astore_n (lv' := [(3, .ref (xtr ad (S.1 11 kj))), (0, .ref (ad (0, 0))), (1, .int (nI kj)), (2, .int v)]) hx hb dX1_addCap_15 rfl hl (by decide) rfl (fun ls hl => ?_)
    refine lv_aload_n hx hb dX1_addCap_16 rfl (lv_at hl 1 rfl) ?_
    refine lv_iload_n hx hb dX1_addCap_17 rfl (lv_at hl 2 rfl) ?_
    refine lv_aload_n hx hb dX1_addCap_18 rfl (lv_at hl 0 rfl) ?_
    refine lv_iload_n hx hb dX1_addCap_19 rfl (lv_at hl 3 rfl) ?_
    have hsz9 := xmk5 g1 hWK
    refine x_indy (vals := [.ref (xtr ad (S.1 11 kj)), .int v]) (rest := [.int (nI kj), .ref (ad (0, 0))]) hx hb hml B.named hsz9.1 (xMk.cls (hsz9.2 s.vm (State.WarmedH.refl s))) rfl rfl (xfit2 _ v) hl.1 (Nat.le_of_ble_eq_true rfl) (Nat.le_of_ble_eq_true rfl) (Nat.le_of_ble_eq_true rfl) dX1_addCap_20 (fun H1 hO hz hg => ?_)
    show W _ _ _ _ _ _ _ _ _ _ _ _ (0 + 1) (0 + 2) _ _
    have hfq := hR.fresh
    have hA9 : A (Array.size s.heap) := hWK.2.2.2.1 _ hS.1
    have ho9 := hg.2
    have hS := hg.S hS
    clear hz hg
    generalize Array.size s.heap = q at hO hA9 hfq ⊢
    have hR : xRX G A (xTarS S 2 (S.1 11 kj) v) (xAd ad (xN1 27 (S.1 8 0) q)) z H1 := xg_tar hR hp hT.top (hT.top kj hkj) hfq hA9 hO ho9
    clear ho9
    generalize H1 = H at hO hR hS ⊢
    refine x_topr (xtr_new (ad := ad) (n := S.1 8 0) (q := q)).symm ?_
    refine xc_C (va_runV (As := [.int (nI kj), .ref (xtr (xAd ad (xN1 27 (S.1 8 0) q)) (S.1 8 0 + 1))]) (rest := []) F (xX1_adds g1 (A := A) (S := (xTarS S 2 (S.1 11 kj) v)) (ad := (xAd ad (xN1 27 (S.1 8 0) q))) (z := z) kj (S.1 8 0) hkj (Nat.lt_succ_self _) (by simp [xTarS, nset]) (xW_tar hW _ _ _)) (cwV 2 hts (lw_V q1308 q1310 qs29 q56 q1311) rfl rfl rfl hdV_X1_adds ⟨Nat.le_of_ble_eq_true rfl, Nat.le_of_ble_eq_true rfl⟩) (xpreV (xrecv hK (xw_0 (ad := (xAd ad (xN1 27 (S.1 8 0) q))) hR) rfl) hWK hS hR) rfl rfl hl.1 rfl (lv_room (Nat.le_of_ble_eq_true rfl)) dX1_addCap_25 ⟨Nat.le_of_ble_eq_true rfl, Nat.le_of_ble_eq_true rfl⟩) hS (fun H locs hR hz hk hS => ?_)
    have e9 : xAddT 2 9999 S (nI kj) v = (0, nI (S.1 5 kj + 1), (sN (sN (xTarS S 2 (S.1 11 kj) v) 11 kj (S.1 8 0 + 1)) 5 kj (S.1 5 kj + 1))) := by simp [xAddT, xTopS, c_6, nI_clamp (show kj < 2 ^ 31 by omega)]
    exact vx_ret (xr_Ci hx hb hr hlocks ((congrArg (fun q => q.2.1) e9).symm) (⟨congrArg Prod.fst e9, (xAd ad (xN1 27 (S.1 8 0) q)), z, by rw [show (xAddT 2 9999 S (nI kj) v).2.2 = (sN (sN (xTarS S 2 (S.1 11 kj) v) 11 kj (S.1 8 0 + 1)) 5 kj (S.1 5 kj + 1)) from congrArg (fun q => q.2.2) e9]; exact hR, rfl⟩) hS (by first | omega | decide) (by first | omega | decide) dX1_addCap_28)
  · have e9 : (xAddT 2 9999 S kind v).1 = xMayAdd S kind v 9999 := by simp [xAddT, xTopS, c_6]
    exact xc_T (vx_runV (As := [.int kind, .int v, .int 9999]) (rest := []) F (xX1_mayAdd_no g1 (A := A) (S := S) (ad := ad) (z := z) kind v 9999 hW c_6) (cwV 3 hts (lw_V q1300 q1302 qs28 q56 q1303) rfl rfl rfl hdV_X1_mayAdd ⟨Nat.le_of_ble_eq_true rfl, Nat.le_of_ble_eq_true rfl⟩) (xpreV (xrecv hK (xw_0 hR) rfl) hWK hS hR) rfl rfl hl.1 rfl (lv_room (Nat.le_of_ble_eq_true rfl)) dX1_addCap_6 ⟨Nat.le_of_ble_eq_true rfl, Nat.le_of_ble_eq_true rfl⟩) hS (fun E ce q9 H locs hX hz hk hS hq9 hv9 hc9 => vx_out (fun x hx => (hnt x hx).elim) hlocks hq9 hv9 hc9 (fun t ht _ => ⟨by rw [ht]; exact ⟨hX.1.trans (congrArg xExn e9).symm, (by rw [e9]; exact c_6), z, hR.grow hX.2⟩, hS.F ht⟩) hS.2.2 (Nat.le_of_ble_eq_true rfl) (Nat.le_of_ble_eq_true rfl))

set_option maxHeartbeats 4000000 in
theorem xX1_addDouble {l : Launch} {G : xG} {s0 : State} {b0 : Nat} (g1 : xG1 l G s0 b0) {A : Nat → Prop} {S : xS} {ad : Nat × Nat → Nat} {z : xZ} (kind v : Int32) (hW : xW S) (hT : xTd S) (hp : xPt S) : vx_Met l yX1_addDouble (ws_ yX1_addDouble cX1_addDouble 4 (some .int)) ({ frames := 8, cells := 2, slots := 8, locals := 3076 } : Room) (xP s0 A [.ref (ad (0, 0)), .int kind, .int v] (fun H => xRX G A S ad z H)) (xQc (some (.int ((xAddT 3 240 S kind v).2.1))) (fun _ H => (xAddT 3 240 S kind v).1 = 0 ∧ ∃ ad9 z9, xRX G A (xAddT 3 240 S kind v).2.2 ad9 z9 H ∧ ad9 (0, 0) = ad (0, 0)) A) (xXc (fun E _ H => E = xExn (xAddT 3 240 S kind v).1 ∧ ¬ (xAddT 3 240 S kind v).1 = 0 ∧ ∃ z9, xRX G A S ad z9 H) A) 2 8 A := by
  refine vx_ofW (cc := cX1_addDouble) (maxL := 4) (ret := (some .int)) (by decide) rfl ?_
  intro p e s m args below meth c s₁ B hml hnt hv
  obtain ⟨rfl, hWK, hR⟩ := hv
  have g := g1.1
  have hx := B.exec
  have hb := B.bytes
  have hr := B.returns
  have hts := atoms_spec (ws := ws_ yX1_addDouble cX1_addDouble 4 (some .int)) B.pre
  have hts : ∀ w ∈ lw_all, w.before _ s = true := fun w h => hts w (List.mem_cons_of_mem _ h)
  have hown : s.vm.findClass "Lendlathe" = some m.cls := findClass_of_methodNamed B.named
  have hlocks := B.notSynchronized
  have hK := hWK.K g
  have F : CallFix p m c cX1_addDouble 4 s _ lw_all "Lendlathe" := ⟨hx, hb, hml, hown, hts⟩
  have hS : va_S A s.heap s.heap [] := va_S.rf
  have hl := lv_entry ([.ref (ad (0, 0)), .int kind, .int v]) (n := 4) (Nat.le_of_ble_eq_true rfl)
  rw [lg_entry_eq]
  generalize (lg_sl ([.ref (ad (0, 0)), .int kind, .int v]) ++ List.replicate (4 - (lg_sl ([.ref (ad (0, 0)), .int kind, .int v])).length) Slot.unset).toArray = ls at hl ⊢
  have hl : lv_has ls 4 [(0, .ref (ad (0, 0))), (1, .int kind), (2, .int v)] := hl
  have hn0 := hW.1.1
  have hn1 := hW.1.2.1
  have hn2 := hW.1.2.2.1
  have hn3 := hW.1.2.2.2.1
  have hn4 := hW.1.2.2.2.2
  refine lv_aload_n hx hb dX1_addDouble_0 rfl (lv_at hl 0 rfl) ?_
  refine lv_iload_n hx hb dX1_addDouble_1 rfl (lv_at hl 1 rfl) ?_
  refine lv_iload_n hx hb dX1_addDouble_2 rfl (lv_at hl 2 rfl) ?_
  refine lv_sipush (v := 240) hx hb dX1_addDouble_3 (by decide) ?_
  rcases Decidable.em (xMayAdd S kind v 240 = 0) with c_6 | c_6
  · refine xc_P0 (va_runV (As := [.int kind, .int v, .int 240]) (rest := []) F (xX1_mayAdd_ok g1 (A := A) (S := S) (ad := ad) (z := z) kind v 240 hW c_6) (cwV 3 hts (lw_V q1300 q1302 qs28 q56 q1303) rfl rfl rfl hdV_X1_mayAdd ⟨Nat.le_of_ble_eq_true rfl, Nat.le_of_ble_eq_true rfl⟩) (xpreV (xrecv hK (xw_0 hR) rfl) hWK hS hR) rfl rfl hl.1 rfl (lv_room (Nat.le_of_ble_eq_true rfl)) dX1_addDouble_6 ⟨Nat.le_of_ble_eq_true rfl, Nat.le_of_ble_eq_true rfl⟩) ?_
    obtain ⟨kj, hkj, rfl⟩ := inI_of' (n := 4) (by first | rfl | decide) (by first | decide | omega) (xMayAdd_in c_6)
    refine lv_aload_n hx hb dX1_addDouble_9 rfl (lv_at hl 0 rfl) ?_
    refine g_X1_11 F hK (xw_0 hR) (v := .ref (ad (1, 0))) rfl dX1_addDouble_10 ?_
    refine lv_iload_n hx hb dX1_addDouble_13 rfl (lv_at hl 1 rfl) ?_
    refine x_aald hx hb hK (xw_1 hR) rfl rfl (v := .ref (xtr ad (S.1 11 kj))) (xi_nI (n := 4) (by omega) (by omega)) (rfl) dX1_addDouble_14 ?_
    refine lv_astore_n (lv' := [(3, .ref (xtr ad (S.1 11 kj))), (0, .ref (ad (0, 0))), (1, .int (nI kj)), (2, .int v)]) hx hb dX1_addDouble_15 rfl hl (by decide) rfl (fun ls hl => ?_)
    refine lv_aload_n hx hb dX1_addDouble_16 rfl (lv_at hl 1 rfl) ?_
    refine lv_iload_n hx hb dX1_addDouble_17 rfl (lv_at hl 2 rfl) ?_
    refine lv_aload_n hx hb dX1_addDouble_18 rfl (lv_at hl 0 rfl) ?_
    refine lv_iload_n hx hb dX1_addDouble_19 rfl (lv_at hl 3 rfl) ?_
    have hsz9 := xmk6 g1 hWK
    refine x_indy (vals := [.ref (xtr ad (S.1 11 kj)), .int v]) (rest := [.int (nI kj), .ref (ad (0, 0))]) hx hb hml B.named hsz9.1 (xMk.cls (hsz9.2 s.vm (State.WarmedH.refl s))) rfl rfl (xfit2 _ v) hl.1 (Nat.le_of_ble_eq_true rfl) (Nat.le_of_ble_eq_true rfl) (Nat.le_of_ble_eq_true rfl) dX1_addDouble_20 (fun H1 hO hz hg => ?_)
    show W _ _ _ _ _ _ _ _ _ _ _ _ (0 + 1) (0 + 2) _ _
    have hfq := hR.fresh
    have hA9 : A (Array.size s.heap) := hWK.2.2.2.1 _ hS.1
    have ho9 := hg.2
    have hS := hg.S hS
    clear hz hg
    generalize Array.size s.heap = q at hO hA9 hfq ⊢
    have hR : xRX G A (xTarS S 3 (S.1 11 kj) v) (xAd ad (xN1 27 (S.1 8 0) q)) z H1 := xg_tar hR hp hT.top (hT.top kj hkj) hfq hA9 hO ho9
    clear ho9
    generalize H1 = H at hO hR hS ⊢
    refine x_topr (xtr_new (ad := ad) (n := S.1 8 0) (q := q)).symm ?_
    refine xc_C (va_runV (As := [.int (nI kj), .ref (xtr (xAd ad (xN1 27 (S.1 8 0) q)) (S.1 8 0 + 1))]) (rest := []) F (xX1_adds g1 (A := A) (S := (xTarS S 3 (S.1 11 kj) v)) (ad := (xAd ad (xN1 27 (S.1 8 0) q))) (z := z) kj (S.1 8 0) hkj (Nat.lt_succ_self _) (by simp [xTarS, nset]) (xW_tar hW _ _ _)) (cwV 2 hts (lw_V q1308 q1310 qs29 q56 q1311) rfl rfl rfl hdV_X1_adds ⟨Nat.le_of_ble_eq_true rfl, Nat.le_of_ble_eq_true rfl⟩) (xpreV (xrecv hK (xw_0 (ad := (xAd ad (xN1 27 (S.1 8 0) q))) hR) rfl) hWK hS hR) rfl rfl hl.1 rfl (lv_room (Nat.le_of_ble_eq_true rfl)) dX1_addDouble_25 ⟨Nat.le_of_ble_eq_true rfl, Nat.le_of_ble_eq_true rfl⟩) hS (fun H locs hR hz hk hS => ?_)
    have e9 : xAddT 3 240 S (nI kj) v = (0, nI (S.1 5 kj + 1), (sN (sN (xTarS S 3 (S.1 11 kj) v) 11 kj (S.1 8 0 + 1)) 5 kj (S.1 5 kj + 1))) := by simp [xAddT, xTopS, c_6, nI_clamp (show kj < 2 ^ 31 by omega)]
    exact vx_ret (xr_Ci hx hb hr hlocks ((congrArg (fun q => q.2.1) e9).symm) (⟨congrArg Prod.fst e9, (xAd ad (xN1 27 (S.1 8 0) q)), z, by rw [show (xAddT 3 240 S (nI kj) v).2.2 = (sN (sN (xTarS S 3 (S.1 11 kj) v) 11 kj (S.1 8 0 + 1)) 5 kj (S.1 5 kj + 1)) from congrArg (fun q => q.2.2) e9]; exact hR, rfl⟩) hS (by first | omega | decide) (by first | omega | decide) dX1_addDouble_28)
  · have e9 : (xAddT 3 240 S kind v).1 = xMayAdd S kind v 240 := by simp [xAddT, xTopS, c_6]
    exact xc_T (vx_runV (As := [.int kind, .int v, .int 240]) (rest := []) F (xX1_mayAdd_no g1 (A := A) (S := S) (ad := ad) (z := z) kind v 240 hW c_6) (cwV 3 hts (lw_V q1300 q1302 qs28 q56 q1303) rfl rfl rfl hdV_X1_mayAdd ⟨Nat.le_of_ble_eq_true rfl, Nat.le_of_ble_eq_true rfl⟩) (xpreV (xrecv hK (xw_0 hR) rfl) hWK hS hR) rfl rfl hl.1 rfl (lv_room (Nat.le_of_ble_eq_true rfl)) dX1_addDouble_6 ⟨Nat.le_of_ble_eq_true rfl, Nat.le_of_ble_eq_true rfl⟩) hS (fun E ce q9 H locs hX hz hk hS hq9 hv9 hc9 => vx_out (fun x hx => (hnt x hx).elim) hlocks hq9 hv9 hc9 (fun t ht _ => ⟨by rw [ht]; exact ⟨hX.1.trans (congrArg xExn e9).symm, (by rw [e9]; exact c_6), z, hR.grow hX.2⟩, hS.F ht⟩) hS.2.2 (Nat.le_of_ble_eq_true rfl) (Nat.le_of_ble_eq_true rfl))

set_option maxHeartbeats 4000000 in
theorem xX1_addDiscount {l : Launch} {G : xG} {s0 : State} {b0 : Nat} (g1 : xG1 l G s0 b0) {A : Nat → Prop} {S : xS} {ad : Nat × Nat → Nat} {z : xZ} (kind v : Int32) (hW : xW S) (hT : xTd S) (hp : xPt S) : vx_Met l yX1_addDiscount (ws_ yX1_addDiscount cX1_addDiscount 4 (some .int)) ({ frames := 8, cells := 2, slots := 8, locals := 3076 } : Room) (xP s0 A [.ref (ad (0, 0)), .int kind, .int v] (fun H => xRX G A S ad z H)) (xQc (some (.int ((xAddT 4 100 S kind v).2.1))) (fun _ H => (xAddT 4 100 S kind v).1 = 0 ∧ ∃ ad9 z9, xRX G A (xAddT 4 100 S kind v).2.2 ad9 z9 H ∧ ad9 (0, 0) = ad (0, 0)) A) (xXc (fun E _ H => E = xExn (xAddT 4 100 S kind v).1 ∧ ¬ (xAddT 4 100 S kind v).1 = 0 ∧ ∃ z9, xRX G A S ad z9 H) A) 2 8 A := by
  refine vx_ofW (cc := cX1_addDiscount) (maxL := 4) (ret := (some .int)) (by decide) rfl ?_
  intro p e s m args below meth c s₁ B hml hnt hv
  obtain ⟨rfl, hWK, hR⟩ := hv
  have g := g1.1
  have hx := B.exec
  have hb := B.bytes
  have hr := B.returns
  have hts := atoms_spec (ws := ws_ yX1_addDiscount cX1_addDiscount 4 (some .int)) B.pre
  have hts : ∀ w ∈ lw_all, w.before _ s = true := fun w h => hts w (List.mem_cons_of_mem _ h)
  have hown : s.vm.findClass "Lendlathe" = some m.cls := findClass_of_methodNamed B.named
  have hlocks := B.notSynchronized
  have hK := hWK.K g
  have F : CallFix p m c cX1_addDiscount 4 s _ lw_all "Lendlathe" := ⟨hx, hb, hml, hown, hts⟩
  have hS : va_S A s.heap s.heap [] := va_S.rf
  have hl := lv_entry ([.ref (ad (0, 0)), .int kind, .int v]) (n := 4) (Nat.le_of_ble_eq_true rfl)
  rw [lg_entry_eq]
  generalize (lg_sl ([.ref (ad (0, 0)), .int kind, .int v]) ++ List.replicate (4 - (lg_sl ([.ref (ad (0, 0)), .int kind, .int v])).length) Slot.unset).toArray = ls at hl ⊢
  have hl : lv_has ls 4 [(0, .ref (ad (0, 0))), (1, .int kind), (2, .int v)] := hl
  have hn0 := hW.1.1
  have hn1 := hW.1.2.1
  have hn2 := hW.1.2.2.1
  have hn3 := hW.1.2.2.2.1
  have hn4 := hW.1.2.2.2.2
  refine lv_aload_n hx hb dX1_addDiscount_0 rfl (lv_at hl 0 rfl) ?_
  refine lv_iload_n hx hb dX1_addDiscount_1 rfl (lv_at hl 1 rfl) ?_
  refine lv_iload_n hx hb dX1_addDiscount_2 rfl (lv_at hl 2 rfl) ?_
  refine lv_bipush (v := 100) hx hb dX1_addDiscount_3 (by decide) ?_
  rcases Decidable.em (xMayAdd S kind v 100 = 0) with c_5 | c_5
  · refine xc_P0 (va_runV (As := [.int kind, .int v, .int 100]) (rest := []) F (xX1_mayAdd_ok g1 (A := A) (S := S) (ad := ad) (z := z) kind v 100 hW c_5) (cwV 3 hts (lw_V q1300 q1302 qs28 q56 q1303) rfl rfl rfl hdV_X1_mayAdd ⟨Nat.le_of_ble_eq_true rfl, Nat.le_of_ble_eq_true rfl⟩) (xpreV (xrecv hK (xw_0 hR) rfl) hWK hS hR) rfl rfl hl.1 rfl (lv_room (Nat.le_of_ble_eq_true rfl)) dX1_addDiscount_5 ⟨Nat.le_of_ble_eq_true rfl, Nat.le_of_ble_eq_true rfl⟩) ?_
    obtain ⟨kj, hkj, rfl⟩ := inI_of' (n := 4) (by first | rfl | decide) (by first | decide | omega) (xMayAdd_in c_5)
    refine lv_aload_n hx hb dX1_addDiscount_8 rfl (lv_at hl 0 rfl) ?_
    refine g_X1_11 F hK (xw_0 hR) (v := .ref (ad (1, 0))) rfl dX1_addDiscount_9 ?_
    refine lv_iload_n hx hb dX1_addDiscount_12 rfl (lv_at hl 1 rfl) ?_
    refine x_aald hx hb hK (xw_1 hR) rfl rfl (v := .ref (xtr ad (S.1 11 kj))) (xi_nI (n := 4) (by omega) (by omega)) (rfl) dX1_addDiscount_13 ?_
    refine lv_astore_n (lv' := [(3, .ref (xtr ad (S.1 11 kj))), (0, .ref (ad (0, 0))), (1, .int (nI kj)), (2, .int v)]) hx hb dX1_addDiscount_14 rfl hl (by decide) rfl (fun ls hl => ?_)
    refine lv_aload_n hx hb dX1_addDiscount_15 rfl (lv_at hl 1 rfl) ?_
    refine lv_iload_n hx hb dX1_addDiscount_16 rfl (lv_at hl 2 rfl) ?_
    refine lv_aload_n hx hb dX1_addDiscount_17 rfl (lv_at hl 0 rfl) ?_
    refine lv_iload_n hx hb dX1_addDiscount_18 rfl (lv_at hl 3 rfl) ?_
    have hsz9 := xmk7 g1 hWK
    refine x_indy (vals := [.ref (xtr ad (S.1 11 kj)), .int v]) (rest := [.int (nI kj), .ref (ad (0, 0))]) hx hb hml B.named hsz9.1 (xMk.cls (hsz9.2 s.vm (State.WarmedH.refl s))) rfl rfl (xfit2 _ v) hl.1 (Nat.le_of_ble_eq_true rfl) (Nat.le_of_ble_eq_true rfl) (Nat.le_of_ble_eq_true rfl) dX1_addDiscount_19 (fun H1 hO hz hg => ?_)
    show W _ _ _ _ _ _ _ _ _ _ _ _ (0 + 1) (0 + 2) _ _
    have hfq := hR.fresh
    have hA9 : A (Array.size s.heap) := hWK.2.2.2.1 _ hS.1
    have ho9 := hg.2
    have hS := hg.S hS
    clear hz hg
    generalize Array.size s.heap = q at hO hA9 hfq ⊢
    have hR : xRX G A (xTarS S 4 (S.1 11 kj) v) (xAd ad (xN1 27 (S.1 8 0) q)) z H1 := xg_tar hR hp hT.top (hT.top kj hkj) hfq hA9 hO ho9
    clear ho9
    generalize H1 = H at hO hR hS ⊢
    refine x_topr (xtr_new (ad := ad) (n := S.1 8 0) (q := q)).symm ?_
    refine xc_C (va_runV (As := [.int (nI kj), .ref (xtr (xAd ad (xN1 27 (S.1 8 0) q)) (S.1 8 0 + 1))]) (rest := []) F (xX1_adds g1 (A := A) (S := (xTarS S 4 (S.1 11 kj) v)) (ad := (xAd ad (xN1 27 (S.1 8 0) q))) (z := z) kj (S.1 8 0) hkj (Nat.lt_succ_self _) (by simp [xTarS, nset]) (xW_tar hW _ _ _)) (cwV 2 hts (lw_V q1308 q1310 qs29 q56 q1311) rfl rfl rfl hdV_X1_adds ⟨Nat.le_of_ble_eq_true rfl, Nat.le_of_ble_eq_true rfl⟩) (xpreV (xrecv hK (xw_0 (ad := (xAd ad (xN1 27 (S.1 8 0) q))) hR) rfl) hWK hS hR) rfl rfl hl.1 rfl (lv_room (Nat.le_of_ble_eq_true rfl)) dX1_addDiscount_24 ⟨Nat.le_of_ble_eq_true rfl, Nat.le_of_ble_eq_true rfl⟩) hS (fun H locs hR hz hk hS => ?_)
    have e9 : xAddT 4 100 S (nI kj) v = (0, nI (S.1 5 kj + 1), (sN (sN (xTarS S 4 (S.1 11 kj) v) 11 kj (S.1 8 0 + 1)) 5 kj (S.1 5 kj + 1))) := by simp [xAddT, xTopS, c_5, nI_clamp (show kj < 2 ^ 31 by omega)]
    exact vx_ret (xr_Ci hx hb hr hlocks ((congrArg (fun q => q.2.1) e9).symm) (⟨congrArg Prod.fst e9, (xAd ad (xN1 27 (S.1 8 0) q)), z, by rw [show (xAddT 4 100 S (nI kj) v).2.2 = (sN (sN (xTarS S 4 (S.1 11 kj) v) 11 kj (S.1 8 0 + 1)) 5 kj (S.1 5 kj + 1)) from congrArg (fun q => q.2.2) e9]; exact hR, rfl⟩) hS (by first | omega | decide) (by first | omega | decide) dX1_addDiscount_27)
  · have e9 : (xAddT 4 100 S kind v).1 = xMayAdd S kind v 100 := by simp [xAddT, xTopS, c_5]
    exact xc_T (vx_runV (As := [.int kind, .int v, .int 100]) (rest := []) F (xX1_mayAdd_no g1 (A := A) (S := S) (ad := ad) (z := z) kind v 100 hW c_5) (cwV 3 hts (lw_V q1300 q1302 qs28 q56 q1303) rfl rfl rfl hdV_X1_mayAdd ⟨Nat.le_of_ble_eq_true rfl, Nat.le_of_ble_eq_true rfl⟩) (xpreV (xrecv hK (xw_0 hR) rfl) hWK hS hR) rfl rfl hl.1 rfl (lv_room (Nat.le_of_ble_eq_true rfl)) dX1_addDiscount_5 ⟨Nat.le_of_ble_eq_true rfl, Nat.le_of_ble_eq_true rfl⟩) hS (fun E ce q9 H locs hX hz hk hS hq9 hv9 hc9 => vx_out (fun x hx => (hnt x hx).elim) hlocks hq9 hv9 hc9 (fun t ht _ => ⟨by rw [ht]; exact ⟨hX.1.trans (congrArg xExn e9).symm, (by rw [e9]; exact c_5), z, hR.grow hX.2⟩, hS.F ht⟩) hS.2.2 (Nat.le_of_ble_eq_true rfl) (Nat.le_of_ble_eq_true rfl))

