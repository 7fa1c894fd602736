/-! contracts (printed by gen/mx5.py) -/
set_option maxRecDepth 100000
set_option maxHeartbeats 4000000 in
theorem xX2_of {l : Launch} {G : xG} {s0 : State} {b0 : Nat} (g1 : xG1 l G s0 b0) {A : Nat → Prop} {S : xS} {ad : Nat × Nat → Nat} {z : xZ} (n : Int32) : Met l yX2_of (ws_ yX2_of cX2_of 2 (some .int)) ({ frames := 0, cells := 0, slots := 0, locals := 0 } : Room) (xP s0 A [.ref (ad (29, 0)), .int n] (fun H => xRX G A S ad z H)) (xQp (some (.int 0))) 0 0 (fun _ => False) := by
  refine Met.ofW (cc := cX2_of) (maxL := 2) (ret := (some .int)) (by decide) rfl ?_
  intro p e s m args below meth c s₁ B hml hv
  obtain ⟨rfl, hWK, hR⟩ := hv
  have g := g1.1
  have hx := B.exec
  have hb := B.bytes
  have hr := B.returns
  have hts := atoms_spec (ws := ws_ yX2_of cX2_of 2 (some .int)) B.pre
  have hts : ∀ w ∈ lw_all, w.before _ s = true := fun w h => hts w (List.mem_cons_of_mem _ h)
  have hown : s.vm.findClass "Lendlathe$1" = some m.cls := findClass_of_methodNamed B.named
  have hlocks := B.notSynchronized
  have hK := hWK.K g
  have F : CallFix p m c cX2_of 2 s _ lw_all "Lendlathe$1" := ⟨hx, hb, hml, hown, hts⟩
  have hS : va_S A s.heap s.heap [] := va_S.rf
  have hl := lv_entry ([.ref (ad (29, 0)), .int n]) (n := 2) (Nat.le_of_ble_eq_true rfl)
  rw [lg_entry_eq]
  generalize (lg_sl ([.ref (ad (29, 0)), .int n]) ++ List.replicate (2 - (lg_sl ([.ref (ad (29, 0)), .int n])).length) Slot.unset).toArray = ls at hl ⊢
  have hl : lv_has ls 2 [(0, .ref (ad (29, 0))), (1, .int n)] := hl
  refine lv_iconst (v := 0) hx hb dX2_of_0 (by decide) ?_
  exact xr_Pi hx hb hr hlocks (rfl) dX2_of_1

set_option maxHeartbeats 4000000 in
theorem xX1_lambda_setRate_0 {l : Launch} {G : xG} {s0 : State} {b0 : Nat} (g1 : xG1 l G s0 b0) {A : Nat → Prop} (v n : Int32) : Met l yX1_lambda_setRate_0 (ws_ yX1_lambda_setRate_0 cX1_lambda_setRate_0 2 (some .int)) ({ frames := 0, cells := 0, slots := 0, locals := 0 } : Room) (xP s0 A [.int v, .int n] (fun H => True)) (xQp (some (.int (v * n)))) 0 0 (fun _ => False) := by
  refine Met.ofW (cc := cX1_lambda_setRate_0) (maxL := 2) (ret := (some .int)) (by decide) rfl ?_
  intro p e s m args below meth c s₁ B hml hv
  obtain ⟨rfl, hWK, hR⟩ := hv
  have g := g1.1
  have hx := B.exec
  have hb := B.bytes
  have hr := B.returns
  have hts := atoms_spec (ws := ws_ yX1_lambda_setRate_0 cX1_lambda_setRate_0 2 (some .int)) B.pre
  have hts : ∀ w ∈ lw_all, w.before _ s = true := fun w h => hts w (List.mem_cons_of_mem _ h)
  have hown : s.vm.findClass "Lendlathe" = some m.cls := findClass_of_methodNamed B.named
  have hlocks := B.notSynchronized
  have hK := hWK.K g
  have F : CallFix p m c cX1_lambda_setRate_0 2 s _ lw_all "Lendlathe" := ⟨hx, hb, hml, hown, hts⟩
  have hS : va_S A s.heap s.heap [] := va_S.rf
  have hl := lv_entry ([.int v, .int n]) (n := 2) (Nat.le_of_ble_eq_true rfl)
  rw [lg_entry_eq]
  generalize (lg_sl ([.int v, .int n]) ++ List.replicate (2 - (lg_sl ([.int v, .int n])).length) Slot.unset).toArray = ls at hl ⊢
  have hl : lv_has ls 2 [(0, .int v), (1, .int n)] := hl
  refine lv_iload_n hx hb dX1_lambda_setRate_0_0 rfl (lv_at hl 0 rfl) ?_
  refine lv_iload_n hx hb dX1_lambda_setRate_0_1 rfl (lv_at hl 1 rfl) ?_
  refine lv_imul hx hb dX1_lambda_setRate_0_2 ?_
  exact xr_Pi hx hb hr hlocks (rfl) dX1_lambda_setRate_0_3

set_option maxHeartbeats 4000000 in
theorem xX1_lambda_addFee_1 {l : Launch} {G : xG} {s0 : State} {b0 : Nat} (g1 : xG1 l G s0 b0) {A : Nat → Prop} {S : xS} {ad : Nat × Nat → Nat} {z : xZ} {d u : Nat} (v n : Int32) (hd : xDp S d u) (ih : xCallOf l G s0 A S ad z d) : Met l yX1_lambda_addFee_1 (ws_ yX1_lambda_addFee_1 cX1_lambda_addFee_1 3 (some .int)) ({ frames := 2 * d + 1, cells := 0, slots := 0, locals := 56 * d + 40 } : Room) (xP s0 A [.ref (xtr ad u), .int v, .int n] (fun H => xRX G A S ad z H)) (xQp (some (.int (xStep 1 v (xOf S d u) n)))) 0 0 (fun _ => False) := by
  refine Met.ofW (cc := cX1_lambda_addFee_1) (maxL := 3) (ret := (some .int)) (by decide) rfl ?_
  intro p e s m args below meth c s₁ B hml hv
  obtain ⟨rfl, hWK, hR⟩ := hv
  have g := g1.1
  have hx := B.exec
  have hb := B.bytes
  have hr := B.returns
  have hts := atoms_spec (ws := ws_ yX1_lambda_addFee_1 cX1_lambda_addFee_1 3 (some .int)) B.pre
  have hts : ∀ w ∈ lw_all, w.before _ s = true := fun w h => hts w (List.mem_cons_of_mem _ h)
  have hown : s.vm.findClass "Lendlathe" = some m.cls := findClass_of_methodNamed B.named
  have hlocks := B.notSynchronized
  have hK := hWK.K g
  have F : CallFix p m c cX1_lambda_addFee_1 3 s _ lw_all "Lendlathe" := ⟨hx, hb, hml, hown, hts⟩
  have hS : va_S A s.heap s.heap [] := va_S.rf
  have hl := lv_entry ([.ref (xtr ad u), .int v, .int n]) (n := 3) (Nat.le_of_ble_eq_true rfl)
  rw [lg_entry_eq]
  generalize (lg_sl ([.ref (xtr ad u), .int v, .int n]) ++ List.replicate (3 - (lg_sl ([.ref (xtr ad u), .int v, .int n])).length) Slot.unset).toArray = ls at hl ⊢
  have hl : lv_has ls 3 [(0, .ref (xtr ad u)), (1, .int v), (2, .int n)] := hl
  refine lv_aload_n hx hb dX1_lambda_addFee_1_0 rfl (lv_at hl 0 rfl) ?_
  refine lv_iload_n hx hb dX1_lambda_addFee_1_1 rfl (lv_at hl 2 rfl) ?_
  refine xc5_P (ih u hd n _ _ _ _ _ _ _ _ _ _ _ _ _ _ _ _ _ [] _ _ _ F hWK hS hR q1307 hl.1 (by decide) (by simp only [headSpec]; omega) (by simp only [headSpec]; omega) ⟨by simp only [headSpec]; omega, by simp only [headSpec]; omega⟩ dX1_lambda_addFee_1_2) ?_
  refine lv_iload_n hx hb dX1_lambda_addFee_1_7 rfl (lv_at hl 1 rfl) ?_
  refine lv_iadd hx hb dX1_lambda_addFee_1_8 ?_
  exact xr_Pi hx hb hr hlocks ((by rfl)) dX1_lambda_addFee_1_9

set_option maxHeartbeats 4000000 in
theorem xX1_lambda_addCap_2 {l : Launch} {G : xG} {s0 : State} {b0 : Nat} (g1 : xG1 l G s0 b0) {A : Nat → Prop} {S : xS} {ad : Nat × Nat → Nat} {z : xZ} {d u : Nat} (v n : Int32) (hd : xDp S d u) (ih : xCallOf l G s0 A S ad z d) : Met l yX1_lambda_addCap_2 (ws_ yX1_lambda_addCap_2 cX1_lambda_addCap_2 3 (some .int)) ({ frames := 2 * d + 1, cells := 0, slots := 0, locals := 56 * d + 40 } : Room) (xP s0 A [.ref (xtr ad u), .int v, .int n] (fun H => xRX G A S ad z H)) (xQp (some (.int (xStep 2 v (xOf S d u) n)))) 0 0 (fun _ => False) := by
  refine Met.ofW (cc := cX1_lambda_addCap_2) (maxL := 3) (ret := (some .int)) (by decide) rfl ?_
  intro p e s m args below meth c s₁ B hml hv
  obtain ⟨rfl, hWK, hR⟩ := hv
  have g := g1.1
  have hx := B.exec
  have hb := B.bytes
  have hr := B.returns
  have hts := atoms_spec (ws := ws_ yX1_lambda_addCap_2 cX1_lambda_addCap_2 3 (some .int)) B.pre
  have hts : ∀ w ∈ lw_all, w.before _ s = true := fun w h => hts w (List.mem_cons_of_mem _ h)
  have hown : s.vm.findClass "Lendlathe" = some m.cls := findClass_of_methodNamed B.named
  have hlocks := B.notSynchronized
  have hK := hWK.K g
  have F : CallFix p m c cX1_lambda_addCap_2 3 s _ lw_all "Lendlathe" := ⟨hx, hb, hml, hown, hts⟩
  have hS : va_S A s.heap s.heap [] := va_S.rf
  have hl := lv_entry ([.ref (xtr ad u), .int v, .int n]) (n := 3) (Nat.le_of_ble_eq_true rfl)
  rw [lg_entry_eq]
  generalize (lg_sl ([.ref (xtr ad u), .int v, .int n]) ++ List.replicate (3 - (lg_sl ([.ref (xtr ad u), .int v, .int n])).length) Slot.unset).toArray = ls at hl ⊢
  have hl : lv_has ls 3 [(0, .ref (xtr ad u)), (1, .int v), (2, .int n)] := hl
  refine lv_aload_n hx hb dX1_lambda_addCap_2_0 rfl (lv_at hl 0 rfl) ?_
  refine lv_iload_n hx hb dX1_lambda_addCap_2_1 rfl (lv_at hl 2 rfl) ?_
  refine xc5_P (ih u hd n _ _ _ _ _ _ _ _ _ _ _ _ _ _ _ _ _ [] _ _ _ F hWK hS hR q1307 hl.1 (by decide) (by simp only [headSpec]; omega) (by simp only [headSpec]; omega) ⟨by simp only [headSpec]; omega, by simp only [headSpec]; omega⟩ dX1_lambda_addCap_2_2) ?_
  refine lv_iload_n hx hb dX1_lambda_addCap_2_7 rfl (lv_at hl 1 rfl) ?_
  refine va_mmin hx hb (hml.trans hl.1.symm) hown (hts _ q1321) (hts _ q248) (hts _ q70) (hts _ q249) (by first | exact Nat.le_of_ble_eq_true rfl | (simp only [headSpec]; omega) | (simp [headSpec]; omega)) (by first | exact Nat.le_of_ble_eq_true rfl | (simp only [headSpec]; omega) | (simp [headSpec]; omega)) (by first | exact Nat.le_of_ble_eq_true rfl | (simp only [headSpec]; omega) | (simp [headSpec]; omega)) (by first | exact Nat.le_of_ble_eq_true rfl | (simp only [headSpec]; omega) | (simp [headSpec]; omega)) dX1_lambda_addCap_2_8 ?_
  exact xr_Pi hx hb hr hlocks ((by rfl)) dX1_lambda_addCap_2_11

set_option maxHeartbeats 4000000 in
theorem xX1_lambda_addDouble_3 {l : Launch} {G : xG} {s0 : State} {b0 : Nat} (g1 : xG1 l G s0 b0) {A : Nat → Prop} {S : xS} {ad : Nat × Nat → Nat} {z : xZ} {d u : Nat} (v n : Int32) (hd : xDp S d u) (ih : xCallOf l G s0 A S ad z d) : Met l yX1_lambda_addDouble_3 (ws_ yX1_lambda_addDouble_3 cX1_lambda_addDouble_3 3 (some .int)) ({ frames := 2 * d + 1, cells := 0, slots := 0, locals := 56 * d + 40 } : Room) (xP s0 A [.ref (xtr ad u), .int v, .int n] (fun H => xRX G A S ad z H)) (xQp (some (.int (xStep 3 v (xOf S d u) n)))) 0 0 (fun _ => False) := by
  refine Met.ofW (cc := cX1_lambda_addDouble_3) (maxL := 3) (ret := (some .int)) (by decide) rfl ?_
  intro p e s m args below meth c s₁ B hml hv
  obtain ⟨rfl, hWK, hR⟩ := hv
  have g := g1.1
  have hx := B.exec
  have hb := B.bytes
  have hr := B.returns
  have hts := atoms_spec (ws := ws_ yX1_lambda_addDouble_3 cX1_lambda_addDouble_3 3 (some .int)) B.pre
  have hts : ∀ w ∈ lw_all, w.before _ s = true := fun w h => hts w (List.mem_cons_of_mem _ h)
  have hown : s.vm.findClass "Lendlathe" = some m.cls := findClass_of_methodNamed B.named
  have hlocks := B.notSynchronized
  have hK := hWK.K g
  have F : CallFix p m c cX1_lambda_addDouble_3 3 s _ lw_all "Lendlathe" := ⟨hx, hb, hml, hown, hts⟩
  have hS : va_S A s.heap s.heap [] := va_S.rf
  have hl := lv_entry ([.ref (xtr ad u), .int v, .int n]) (n := 3) (Nat.le_of_ble_eq_true rfl)
  rw [lg_entry_eq]
  generalize (lg_sl ([.ref (xtr ad u), .int v, .int n]) ++ List.replicate (3 - (lg_sl ([.ref (xtr ad u), .int v, .int n])).length) Slot.unset).toArray = ls at hl ⊢
  have hl : lv_has ls 3 [(0, .ref (xtr ad u)), (1, .int v), (2, .int n)] := hl
  refine lv_aload_n hx hb dX1_lambda_addDouble_3_0 rfl (lv_at hl 0 rfl) ?_
  refine lv_iload_n hx hb dX1_lambda_addDouble_3_1 rfl (lv_at hl 2 rfl) ?_
  refine lv_iconst (v := 0) hx hb dX1_lambda_addDouble_3_2 (by decide) ?_
  refine lv_iload_n hx hb dX1_lambda_addDouble_3_3 rfl (lv_at hl 2 rfl) ?_
  refine lv_iload_n hx hb dX1_lambda_addDouble_3_4 rfl (lv_at hl 1 rfl) ?_
  refine lv_isub hx hb dX1_lambda_addDouble_3_5 ?_
  refine va_mmax hx hb (hml.trans hl.1.symm) hown (hts _ q1331) (hts _ q230) (hts _ q70) (hts _ q231) (by first | exact Nat.le_of_ble_eq_true rfl | (simp only [headSpec]; omega) | (simp [headSpec]; omega)) (by first | exact Nat.le_of_ble_eq_true rfl | (simp only [headSpec]; omega) | (simp [headSpec]; omega)) (by first | exact Nat.le_of_ble_eq_true rfl | (simp only [headSpec]; omega) | (simp [headSpec]; omega)) (by first | exact Nat.le_of_ble_eq_true rfl | (simp only [headSpec]; omega) | (simp [headSpec]; omega)) dX1_lambda_addDouble_3_6 ?_
  refine lv_iadd hx hb dX1_lambda_addDouble_3_9 ?_
  refine xc5_P (ih u hd (n + (if 0 < (n - v) then (n - v) else 0)) _ _ _ _ _ _ _ _ _ _ _ _ _ _ _ _ _ [] _ _ _ F hWK hS hR q1307 hl.1 (by decide) (by simp only [headSpec]; omega) (by simp only [headSpec]; omega) ⟨by simp only [headSpec]; omega, by simp only [headSpec]; omega⟩ dX1_lambda_addDouble_3_10) ?_
  exact xr_Pi hx hb hr hlocks ((by rfl)) dX1_lambda_addDouble_3_15

set_option maxHeartbeats 4000000 in
theorem xX1_lambda_addDiscount_4 {l : Launch} {G : xG} {s0 : State} {b0 : Nat} (g1 : xG1 l G s0 b0) {A : Nat → Prop} {S : xS} {ad : Nat × Nat → Nat} {z : xZ} {d u : Nat} (v n : Int32) (hd : xDp S d u) (ih : xCallOf l G s0 A S ad z d) : Met l yX1_lambda_addDiscount_4 (ws_ yX1_lambda_addDiscount_4 cX1_lambda_addDiscount_4 4 (some .int)) ({ frames := 2 * d + 1, cells := 0, slots := 0, locals := 56 * d + 40 } : Room) (xP s0 A [.ref (xtr ad u), .int v, .int n] (fun H => xRX G A S ad z H)) (xQp (some (.int (xStep 4 v (xOf S d u) n)))) 0 0 (fun _ => False) := by
  refine Met.ofW (cc := cX1_lambda_addDiscount_4) (maxL := 4) (ret := (some .int)) (by decide) rfl ?_
  intro p e s m args below meth c s₁ B hml hv
  obtain ⟨rfl, hWK, hR⟩ := hv
  have g := g1.1
  have hx := B.exec
  have hb := B.bytes
  have hr := B.returns
  have hts := atoms_spec (ws := ws_ yX1_lambda_addDiscount_4 cX1_lambda_addDiscount_4 4 (some .int)) B.pre
  have hts : ∀ w ∈ lw_all, w.before _ s = true := fun w h => hts w (List.mem_cons_of_mem _ h)
  have hown : s.vm.findClass "Lendlathe" = some m.cls := findClass_of_methodNamed B.named
  have hlocks := B.notSynchronized
  have hK := hWK.K g
  have F : CallFix p m c cX1_lambda_addDiscount_4 4 s _ lw_all "Lendlathe" := ⟨hx, hb, hml, hown, hts⟩
  have hS : va_S A s.heap s.heap [] := va_S.rf
  have hl := lv_entry ([.ref (xtr ad u), .int v, .int n]) (n := 4) (Nat.le_of_ble_eq_true rfl)
  rw [lg_entry_eq]
  generalize (lg_sl ([.ref (xtr ad u), .int v, .int n]) ++ List.replicate (4 - (lg_sl ([.ref (xtr ad u), .int v, .int n])).length) Slot.unset).toArray = ls at hl ⊢
  have hl : lv_has ls 4 [(0, .ref (xtr ad u)), (1, .int v), (2, .int n)] := hl
  refine lv_aload_n hx hb dX1_lambda_addDiscount_4_0 rfl (lv_at hl 0 rfl) ?_
  refine lv_iload_n hx hb dX1_lambda_addDiscount_4_1 rfl (lv_at hl 2 rfl) ?_
  refine xc5_P (ih u hd n _ _ _ _ _ _ _ _ _ _ _ _ _ _ _ _ _ [] _ _ _ F hWK hS hR q1307 hl.1 (by decide) (by simp only [headSpec]; omega) (by simp only [headSpec]; omega) ⟨by simp only [headSpec]; omega, by simp only [headSpec]; omega⟩ dX1_lambda_addDiscount_4_2) ?_
  refine lv_istore_n (lv' := [(3, .int (xOf S d u n)), (0, .ref (xtr ad u)), (1, .int v), (2, .int n)]) hx hb dX1_lambda_addDiscount_4_7 rfl hl (by decide) rfl (fun ls hl => ?_)
  refine lv_iload_n hx hb dX1_lambda_addDiscount_4_8 rfl (lv_at hl 0 rfl) ?_
  refine lv_iload_n hx hb dX1_lambda_addDiscount_4_9 rfl (lv_at hl 0 rfl) ?_
  refine lv_iload_n hx hb dX1_lambda_addDiscount_4_10 rfl (lv_at hl 2 rfl) ?_
  refine lv_imul hx hb dX1_lambda_addDiscount_4_11 ?_
  refine lv_bipush (v := 100) hx hb dX1_lambda_addDiscount_4_12 (by decide) ?_
  refine lv_idiv hx hb dX1_lambda_addDiscount_4_14 (by decide) ?_
  refine lv_isub hx hb dX1_lambda_addDiscount_4_15 ?_
  exact xr_Pi hx hb hr hlocks ((by rfl)) dX1_lambda_addDiscount_4_16

