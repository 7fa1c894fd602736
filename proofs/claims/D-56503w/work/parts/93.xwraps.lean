/-! THE LAW's WRAPPERS (printed by gen/wrap.py) -/
set_option maxRecDepth 100000
theorem xX0_addMachine {l : Launch} {G : xG} {s0 : State} {b0 : Nat} (g2 : xG2 l G s0 b0) {A : Nat → Prop} {S : xS} {ad : Nat × Nat → Nat} {z : xZ} (o : Nat) (f : Nat → Value) (kind setup : Int32) (hW : xW S) (hC : (xAddMachine S kind setup).1 = 0 ∨ (xAddMachine S kind setup).1 = 1 ∨ (xAddMachine S kind setup).1 = 2) : vx_Met l yX0_addMachine (wsW_ yX0_addMachine cX0_addMachine 5 (some .int) [(0, 10, 13, 13), (0, 10, 17, 15)]) ({ frames := 8, cells := 2, slots := 12, locals := 136 } : Room) (xP s0 A [.ref (ad (0, 0)), .int kind, .int setup, .ref o] (fun H => xRX G (xA1 A o) S ad z H ∧ xat G o (xA 1 1 f) H ∧ A o)) (xQc (some (.int (xCd [1, 2] (xAddMachine S kind setup).1))) (fun _ H => ∃ ad9 z9 f9, xRX G (xA1 A o) (if (xAddMachine S kind setup).1 = 0 then (xAddMachine S kind setup).2.2 else S) ad9 z9 H ∧ ad9 (0, 0) = ad (0, 0) ∧ xat G o (xA 1 1 f9) H ∧ ((xAddMachine S kind setup).1 = 0 → f9 0 = .long (xAddMachine S kind setup).2.1.toInt64)) A) (xXc (fun _ _ _ => False) A) 2 12 A := by
  refine vx_ofWH (cc := cX0_addMachine) (maxL := 5) (ret := (some .int)) (by decide) rfl ?_
  intro p e s m args below meth c s₁ B hml hv
  obtain ⟨rfl, hWK, hR, hO, hA9⟩ := hv
  have g := g2.1.1
  have hx := B.exec
  have hb := B.bytes
  have hr := B.returns
  have hts := atoms_spec (ws := wsW_ yX0_addMachine cX0_addMachine 5 (some .int) [(0, 10, 13, 13), (0, 10, 17, 15)]) B.pre
  have htb := vx_table (x := yX0_addMachine) B (hts _ List.mem_cons_self)
  have hts : ∀ w ∈ lw_all, w.before _ s = true := fun w h => hts w (List.mem_cons_of_mem _ h)
  have hown : s.vm.findClass "LendlatheLaw" = some m.cls := findClass_of_methodNamed B.named
  have hlocks := B.notSynchronized
  have hK := hWK.K g
  have F : CallFix p m c cX0_addMachine 5 s _ lw_all "LendlatheLaw" := ⟨hx, hb, hml, hown, hts⟩
  have hWK1 := hWK.less hO.lt
  have hS1 : va_S (xA1 A o) s.heap s.heap [] := va_S.rf
  have hl := lv_entry ([.ref (ad (0, 0)), .int kind, .int setup, .ref o]) (n := 5) (Nat.le_of_ble_eq_true rfl)
  rw [lg_entry_eq]
  generalize (lg_sl ([.ref (ad (0, 0)), .int kind, .int setup, .ref o]) ++ List.replicate (5 - (lg_sl ([.ref (ad (0, 0)), .int kind, .int setup, .ref o])).length) Slot.unset).toArray = ls at hl ⊢
  have hl : lv_has ls 5 [(0, .ref (ad (0, 0))), (1, .int kind), (2, .int setup), (3, .ref o)] := hl
  refine lv_aload_n hx hb dX0_addMachine_0 rfl (lv_at hl 3 rfl) ?_
  refine lv_iconst (v := 0) hx hb dX0_addMachine_1 (by decide) ?_
  refine lv_aload_n hx hb dX0_addMachine_2 rfl (lv_at hl 0 rfl) ?_
  refine lv_iload_n hx hb dX0_addMachine_3 rfl (lv_at hl 1 rfl) ?_
  refine lv_iload_n hx hb dX0_addMachine_4 rfl (lv_at hl 2 rfl) ?_
  refine xc_X (vx_runV (As := [.int kind, .int setup]) (rest := [.int 0, .ref o]) F (xX1_addMachine g2.1 (A := xA1 A o) (S := S) (ad := ad) (z := z) kind setup hW) (cwV 2 hts (lw_V q751 q752 q753 q56 q754) rfl rfl rfl hdV_X1_addMachine ⟨Nat.le_of_ble_eq_true rfl, Nat.le_of_ble_eq_true rfl⟩) (xpreV (xrecv hK (xw_0 hR) rfl) hWK1 hS1 hR) rfl rfl hl.1 rfl (lv_room (Nat.le_of_ble_eq_true rfl)) dX0_addMachine_5 ⟨Nat.le_of_ble_eq_true rfl, Nat.le_of_ble_eq_true rfl⟩) hS1 (fun E ce q9 H locs hX hz hk hS hq9 hv9 hc9 => ?_) (fun H locs hP hz hk hS => ?_)
  · have hO := hO.kept (hk o hO.lt (fun c => c.2 rfl))
    have hS := xS.more (A := A) hS (fun q c => c.1)
    rcases hC with e1 | e1 | e1
    · exact absurd e1 hX.2.1
    · rw [e1] at hX
      obtain ⟨rfl, -, z9, hR⟩ := hX
      refine xw_catch (name := xExn 1) hown [(0, 10, 13, 13), (0, 10, 17, 15)] (by rw [htb]; rfl) 0 rfl (fun i hi => absurd hi (Nat.not_lt_zero i)) (by decide) (by decide) (by decide) (hts _ q749) ((xnC hWK g q131).use rfl) hq9 hv9 hc9 ?_
      refine lv_astore (lv' := [(4, .ref q9), (0, .ref (ad (0, 0))), (1, .int kind), (2, .int setup), (3, .ref o)]) hx hb dX0_addMachine_13 hl (by decide) rfl (fun ls hl => ?_)
      refine lv_iconst (v := 1) hx hb dX0_addMachine_15 (by decide) ?_
      exact vx_ret (xr_Ci hx hb hr hlocks (by rw [e1]; rfl) ⟨ad, z9, f, by rw [e1]; exact hR, rfl, hO, fun c => by rw [e1] at c; cases c⟩ hS (by first | omega | decide) (by first | omega | decide) dX0_addMachine_16)
    · rw [e1] at hX
      obtain ⟨rfl, -, z9, hR⟩ := hX
      refine xw_catch (name := xExn 2) hown [(0, 10, 13, 13), (0, 10, 17, 15)] (by rw [htb]; rfl) 1 rfl (fun i hi r hr9 => by rcases (show i = 0 by omega) with hi0 <;> subst hi0 <;> cases hr9 <;> first | exact ⟨by decide, xExn 1, hts _ q749, xNcAt (i := 2) (j := 1) hWK g2.2 (by decide) (by decide) (by decide) (by decide) (by decide)⟩) (by decide) (by decide) (by decide) (hts _ q750) ((xnC hWK g q774).use rfl) hq9 hv9 hc9 ?_
      refine lv_astore (lv' := [(4, .ref q9), (0, .ref (ad (0, 0))), (1, .int kind), (2, .int setup), (3, .ref o)]) hx hb dX0_addMachine_17 hl (by decide) rfl (fun ls hl => ?_)
      refine lv_iconst (v := 2) hx hb dX0_addMachine_19 (by decide) ?_
      exact vx_ret (xr_Ci hx hb hr hlocks (by rw [e1]; rfl) ⟨ad, z9, f, by rw [e1]; exact hR, rfl, hO, fun c => by rw [e1] at c; cases c⟩ hS (by first | omega | decide) (by first | omega | decide) dX0_addMachine_20)
  · have hO := hO.kept (hk o hO.lt (fun c => c.2 rfl))
    have hS := xS.more (A := A) hS (fun q c => c.1)
    obtain ⟨e1, ad9, z9, hR, e2⟩ := hP
    refine lv_i2l hx hb dX0_addMachine_8 rfl ?_
    refine x_last hx hb hK hS hO hA9 (⟨by unfold vp_in; decide, by decide⟩ : xi 0 0 1) dX0_addMachine_9 (fun H locs hat hof hS => ?_)
    refine lv_goto (tgt := 21) hx hb dX0_addMachine_10 (by decide) ?_
    refine lv_iconst (v := 0) hx hb dX0_addMachine_21 (by decide) ?_
    exact vx_ret (xr_Ci hx hb hr hlocks (by rw [e1]; rfl) ⟨ad9, z9, _, by rw [e1]; exact hR.off (fun k i b e hb hi he c => (hR.A k i hb hi he).2 c) hof, e2, hat, fun _ => rfl⟩ hS (by first | omega | decide) (by first | omega | decide) dX0_addMachine_22)
theorem xX0_addMember {l : Launch} {G : xG} {s0 : State} {b0 : Nat} (g2 : xG2 l G s0 b0) {A : Nat → Prop} {S : xS} {ad : Nat × Nat → Nat} {z : xZ} (o : Nat) (f : Nat → Value)  (hW : xW S) (hC : (xAddMember S).1 = 0 ∨ (xAddMember S).1 = 2) : vx_Met l yX0_addMember (wsW_ yX0_addMember cX0_addMember 3 (some .int) [(0, 8, 11, 15)]) ({ frames := 8, cells := 3, slots := 16, locals := 134 } : Room) (xP s0 A [.ref (ad (0, 0)), .ref o] (fun H => xRX G (xA1 A o) S ad z H ∧ xat G o (xA 1 1 f) H ∧ A o)) (xQc (some (.int (xCd [2] (xAddMember S).1))) (fun _ H => ∃ ad9 z9 f9, xRX G (xA1 A o) (if (xAddMember S).1 = 0 then (xAddMember S).2.2 else S) ad9 z9 H ∧ ad9 (0, 0) = ad (0, 0) ∧ xat G o (xA 1 1 f9) H ∧ ((xAddMember S).1 = 0 → f9 0 = .long (xAddMember S).2.1.toInt64)) A) (xXc (fun _ _ _ => False) A) 3 16 A := by
  refine vx_ofWH (cc := cX0_addMember) (maxL := 3) (ret := (some .int)) (by decide) rfl ?_
  intro p e s m args below meth c s₁ B hml hv
  obtain ⟨rfl, hWK, hR, hO, hA9⟩ := hv
  have g := g2.1.1
  have hx := B.exec
  have hb := B.bytes
  have hr := B.returns
  have hts := atoms_spec (ws := wsW_ yX0_addMember cX0_addMember 3 (some .int) [(0, 8, 11, 15)]) B.pre
  have htb := vx_table (x := yX0_addMember) B (hts _ List.mem_cons_self)
  have hts : ∀ w ∈ lw_all, w.before _ s = true := fun w h => hts w (List.mem_cons_of_mem _ h)
  have hown : s.vm.findClass "LendlatheLaw" = some m.cls := findClass_of_methodNamed B.named
  have hlocks := B.notSynchronized
  have hK := hWK.K g
  have F : CallFix p m c cX0_addMember 3 s _ lw_all "LendlatheLaw" := ⟨hx, hb, hml, hown, hts⟩
  have hWK1 := hWK.less hO.lt
  have hS1 : va_S (xA1 A o) s.heap s.heap [] := va_S.rf
  have hl := lv_entry ([.ref (ad (0, 0)), .ref o]) (n := 3) (Nat.le_of_ble_eq_true rfl)
  rw [lg_entry_eq]
  generalize (lg_sl ([.ref (ad (0, 0)), .ref o]) ++ List.replicate (3 - (lg_sl ([.ref (ad (0, 0)), .ref o])).length) Slot.unset).toArray = ls at hl ⊢
  have hl : lv_has ls 3 [(0, .ref (ad (0, 0))), (1, .ref o)] := hl
  refine lv_aload_n hx hb dX0_addMember_0 rfl (lv_at hl 1 rfl) ?_
  refine lv_iconst (v := 0) hx hb dX0_addMember_1 (by decide) ?_
  refine lv_aload_n hx hb dX0_addMember_2 rfl (lv_at hl 0 rfl) ?_
  refine xc_X (vx_runV (As := []) (rest := [.int 0, .ref o]) F (xX1_addMember g2.1 (A := xA1 A o) (S := S) (ad := ad) (z := z) hW) (cwV 0 hts (lw_V q856 q857 q858 q56 q859) rfl rfl rfl hdV_X1_addMember ⟨Nat.le_of_ble_eq_true rfl, Nat.le_of_ble_eq_true rfl⟩) (xpreV (xrecv hK (xw_0 hR) rfl) hWK1 hS1 hR) rfl rfl hl.1 rfl (lv_room (Nat.le_of_ble_eq_true rfl)) dX0_addMember_3 ⟨Nat.le_of_ble_eq_true rfl, Nat.le_of_ble_eq_true rfl⟩) hS1 (fun E ce q9 H locs hX hz hk hS hq9 hv9 hc9 => ?_) (fun H locs hP hz hk hS => ?_)
  · have hO := hO.kept (hk o hO.lt (fun c => c.2 rfl))
    have hS := xS.more (A := A) hS (fun q c => c.1)
    rcases hC with e1 | e1
    · exact absurd e1 hX.2.1
    · rw [e1] at hX
      obtain ⟨rfl, -, z9, hR⟩ := hX
      refine xw_catch (name := xExn 2) hown [(0, 8, 11, 15)] (by rw [htb]; rfl) 0 rfl (fun i hi => absurd hi (Nat.not_lt_zero i)) (by decide) (by decide) (by decide) (hts _ q750) ((xnC hWK g q774).use rfl) hq9 hv9 hc9 ?_
      refine lv_astore_n (lv' := [(2, .ref q9), (0, .ref (ad (0, 0))), (1, .ref o)]) hx hb dX0_addMember_11 rfl hl (by decide) rfl (fun ls hl => ?_)
      refine lv_iconst (v := 1) hx hb dX0_addMember_12 (by decide) ?_
      exact vx_ret (xr_Ci hx hb hr hlocks (by rw [e1]; rfl) ⟨ad, z9, f, by rw [e1]; exact hR, rfl, hO, fun c => by rw [e1] at c; cases c⟩ hS (by first | omega | decide) (by first | omega | decide) dX0_addMember_13)
  · have hO := hO.kept (hk o hO.lt (fun c => c.2 rfl))
    have hS := xS.more (A := A) hS (fun q c => c.1)
    obtain ⟨e1, ad9, z9, hR, e2⟩ := hP
    refine lv_i2l hx hb dX0_addMember_6 rfl ?_
    refine x_last hx hb hK hS hO hA9 (⟨by unfold vp_in; decide, by decide⟩ : xi 0 0 1) dX0_addMember_7 (fun H locs hat hof hS => ?_)
    refine lv_goto (tgt := 14) hx hb dX0_addMember_8 (by decide) ?_
    refine lv_iconst (v := 0) hx hb dX0_addMember_14 (by decide) ?_
    exact vx_ret (xr_Ci hx hb hr hlocks (by rw [e1]; rfl) ⟨ad9, z9, _, by rw [e1]; exact hR.off (fun k i b e hb hi he c => (hR.A k i hb hi he).2 c) hof, e2, hat, fun _ => rfl⟩ hS (by first | omega | decide) (by first | omega | decide) dX0_addMember_15)
theorem xX0_addNeed {l : Launch} {G : xG} {s0 : State} {b0 : Nat} (g2 : xG2 l G s0 b0) {A : Nat → Prop} {S : xS} {ad : Nat × Nat → Nat} {z : xZ} (o : Nat) (f : Nat → Value) (kind other : Int32) (hW : xW S) (hA : ∃ rk, rkOK S.2.1 rk ∧ ∀ i, rk i < 4) (hC : (xAddNeed S kind other).1 = 0 ∨ (xAddNeed S kind other).1 = 1 ∨ (xAddNeed S kind other).1 = 2) : vx_Met l yX0_addNeed (wsW_ yX0_addNeed cX0_addNeed 5 (some .int) [(0, 17, 20, 13), (0, 17, 24, 15)]) ({ frames := 12, cells := 1, slots := 6, locals := 335 } : Room) (xP s0 A [.ref (ad (0, 0)), .int kind, .int other, .ref o] (fun H => xRX G (xA1 A o) S ad z H ∧ xat G o (xA 1 1 f) H ∧ A o)) (xQc (some (.int (xCd [1, 2] (xAddNeed S kind other).1))) (fun _ H => ∃ ad9 z9 f9, xRX G (xA1 A o) (if (xAddNeed S kind other).1 = 0 then (xAddNeed S kind other).2.2 else S) ad9 z9 H ∧ ad9 (0, 0) = ad (0, 0) ∧ xat G o (xA 1 1 f9) H ∧ ((xAddNeed S kind other).1 = 0 → f9 0 = .long (if (xAddNeed S kind other).2.1 = true then 1 else 0))) A) (xXc (fun _ _ _ => False) A) 1 6 A := by
  refine vx_ofWH (cc := cX0_addNeed) (maxL := 5) (ret := (some .int)) (by decide) rfl ?_
  intro p e s m args below meth c s₁ B hml hv
  obtain ⟨rfl, hWK, hR, hO, hA9⟩ := hv
  have g := g2.1.1
  have hx := B.exec
  have hb := B.bytes
  have hr := B.returns
  have hts := atoms_spec (ws := wsW_ yX0_addNeed cX0_addNeed 5 (some .int) [(0, 17, 20, 13), (0, 17, 24, 15)]) B.pre
  have htb := vx_table (x := yX0_addNeed) B (hts _ List.mem_cons_self)
  have hts : ∀ w ∈ lw_all, w.before _ s = true := fun w h => hts w (List.mem_cons_of_mem _ h)
  have hown : s.vm.findClass "LendlatheLaw" = some m.cls := findClass_of_methodNamed B.named
  have hlocks := B.notSynchronized
  have hK := hWK.K g
  have F : CallFix p m c cX0_addNeed 5 s _ lw_all "LendlatheLaw" := ⟨hx, hb, hml, hown, hts⟩
  have hWK1 := hWK.less hO.lt
  have hS1 : va_S (xA1 A o) s.heap s.heap [] := va_S.rf
  have hl := lv_entry ([.ref (ad (0, 0)), .int kind, .int other, .ref o]) (n := 5) (Nat.le_of_ble_eq_true rfl)
  rw [lg_entry_eq]
  generalize (lg_sl ([.ref (ad (0, 0)), .int kind, .int other, .ref o]) ++ List.replicate (5 - (lg_sl ([.ref (ad (0, 0)), .int kind, .int other, .ref o])).length) Slot.unset).toArray = ls at hl ⊢
  have hl : lv_has ls 5 [(0, .ref (ad (0, 0))), (1, .int kind), (2, .int other), (3, .ref o)] := hl
  refine lv_aload_n hx hb dX0_addNeed_0 rfl (lv_at hl 3 rfl) ?_
  refine lv_iconst (v := 0) hx hb dX0_addNeed_1 (by decide) ?_
  refine lv_aload_n hx hb dX0_addNeed_2 rfl (lv_at hl 0 rfl) ?_
  refine lv_iload_n hx hb dX0_addNeed_3 rfl (lv_at hl 1 rfl) ?_
  refine lv_iload_n hx hb dX0_addNeed_4 rfl (lv_at hl 2 rfl) ?_
  refine xc_X (vx_runV (As := [.int kind, .int other]) (rest := [.int 0, .ref o]) F (xX1_addNeed g2.1 (A := xA1 A o) (S := S) (ad := ad) (z := z) kind other hW hA) (cwV 2 hts (lw_V q885 q886 q887 q56 q888) rfl rfl rfl hdV_X1_addNeed ⟨Nat.le_of_ble_eq_true rfl, Nat.le_of_ble_eq_true rfl⟩) (xpreV (xrecv hK (xw_0 hR) rfl) hWK1 hS1 hR) rfl rfl hl.1 rfl (lv_room (Nat.le_of_ble_eq_true rfl)) dX0_addNeed_5 ⟨Nat.le_of_ble_eq_true rfl, Nat.le_of_ble_eq_true rfl⟩) hS1 (fun E ce q9 H locs hX hz hk hS hq9 hv9 hc9 => ?_) (fun H locs hP hz hk hS => ?_)
  · have hO := hO.kept (hk o hO.lt (fun c => c.2 rfl))
    have hS := xS.more (A := A) hS (fun q c => c.1)
    rcases hC with e1 | e1 | e1
    · exact absurd e1 hX.2.1
    · rw [e1] at hX
      obtain ⟨rfl, -, z9, hR⟩ := hX
      refine xw_catch (name := xExn 1) hown [(0, 17, 20, 13), (0, 17, 24, 15)] (by rw [htb]; rfl) 0 rfl (fun i hi => absurd hi (Nat.not_lt_zero i)) (by decide) (by decide) (by decide) (hts _ q749) ((xnC hWK g q131).use rfl) hq9 hv9 hc9 ?_
      refine lv_astore (lv' := [(4, .ref q9), (0, .ref (ad (0, 0))), (1, .int kind), (2, .int other), (3, .ref o)]) hx hb dX0_addNeed_20 hl (by decide) rfl (fun ls hl => ?_)
      refine lv_iconst (v := 1) hx hb dX0_addNeed_22 (by decide) ?_
      exact vx_ret (xr_Ci hx hb hr hlocks (by rw [e1]; rfl) ⟨ad, z9, f, by rw [e1]; exact hR, rfl, hO, fun c => by rw [e1] at c; cases c⟩ hS (by first | omega | decide) (by first | omega | decide) dX0_addNeed_23)
    · rw [e1] at hX
      obtain ⟨rfl, -, z9, hR⟩ := hX
      refine xw_catch (name := xExn 2) hown [(0, 17, 20, 13), (0, 17, 24, 15)] (by rw [htb]; rfl) 1 rfl (fun i hi r hr9 => by rcases (show i = 0 by omega) with hi0 <;> subst hi0 <;> cases hr9 <;> first | exact ⟨by decide, xExn 1, hts _ q749, xNcAt (i := 2) (j := 1) hWK g2.2 (by decide) (by decide) (by decide) (by decide) (by decide)⟩) (by decide) (by decide) (by decide) (hts _ q750) ((xnC hWK g q774).use rfl) hq9 hv9 hc9 ?_
      refine lv_astore (lv' := [(4, .ref q9), (0, .ref (ad (0, 0))), (1, .int kind), (2, .int other), (3, .ref o)]) hx hb dX0_addNeed_24 hl (by decide) rfl (fun ls hl => ?_)
      refine lv_iconst (v := 2) hx hb dX0_addNeed_26 (by decide) ?_
      exact vx_ret (xr_Ci hx hb hr hlocks (by rw [e1]; rfl) ⟨ad, z9, f, by rw [e1]; exact hR, rfl, hO, fun c => by rw [e1] at c; cases c⟩ hS (by first | omega | decide) (by first | omega | decide) dX0_addNeed_27)
  · have hO := hO.kept (hk o hO.lt (fun c => c.2 rfl))
    have hS := xS.more (A := A) hS (fun q c => c.1)
    obtain ⟨e1, ad9, z9, hR, e2⟩ := hP
    refine x_ifeq (tgt := 15) hx hb dX0_addNeed_8 (by decide) (fun c9 => ?_) (fun c9 => ?_)
    · skip
      refine lv_lconst (v := 0) hx hb dX0_addNeed_15 (by decide) ?_
      refine x_last hx hb hK hS hO hA9 (⟨by unfold vp_in; decide, by decide⟩ : xi 0 0 1) dX0_addNeed_16 (fun H locs hat hof hS => ?_)
      refine lv_goto (tgt := 28) hx hb dX0_addNeed_17 (by decide) ?_
      refine lv_iconst (v := 0) hx hb dX0_addNeed_28 (by decide) ?_
      exact vx_ret (xr_Ci hx hb hr hlocks (by rw [e1]; rfl) ⟨ad9, z9, _, by rw [e1]; exact hR.off (fun k i b e hb hi he c => (hR.A k i hb hi he).2 c) hof, e2, hat, fun _ => by rw [c9]; rfl⟩ hS (by first | omega | decide) (by first | omega | decide) dX0_addNeed_29)
    · skip
      refine lv_lconst (v := 1) hx hb dX0_addNeed_11 (by decide) ?_
      refine lv_goto (tgt := 16) hx hb dX0_addNeed_12 (by decide) ?_
      refine x_last hx hb hK hS hO hA9 (⟨by unfold vp_in; decide, by decide⟩ : xi 0 0 1) dX0_addNeed_16 (fun H locs hat hof hS => ?_)
      refine lv_goto (tgt := 28) hx hb dX0_addNeed_17 (by decide) ?_
      refine lv_iconst (v := 0) hx hb dX0_addNeed_28 (by decide) ?_
      exact vx_ret (xr_Ci hx hb hr hlocks (by rw [e1]; rfl) ⟨ad9, z9, _, by rw [e1]; exact hR.off (fun k i b e hb hi he c => (hR.A k i hb hi he).2 c) hof, e2, hat, fun _ => by rw [c9]; rfl⟩ hS (by first | omega | decide) (by first | omega | decide) dX0_addNeed_29)
theorem xX0_induct {l : Launch} {G : xG} {s0 : State} {b0 : Nat} (g2 : xG2 l G s0 b0) {A : Nat → Prop} {S : xS} {ad : Nat × Nat → Nat} {z : xZ} (o : Nat) (f : Nat → Value) (member kind : Int32) (hW : xW S) (hA : ∃ rk, rkOK S.2.1 rk ∧ ∀ i, rk i < 4) (hC : (xInduct S member kind).1 = 0 ∨ (xInduct S member kind).1 = 4 ∨ (xInduct S member kind).1 = 1 ∨ (xInduct S member kind).1 = 5) : vx_Met l yX0_induct (wsW_ yX0_induct cX0_induct 5 (some .int) [(0, 10, 13, 28), (0, 10, 17, 13), (0, 10, 21, 30)]) ({ frames := 12, cells := 1, slots := 6, locals := 335 } : Room) (xP s0 A [.ref (ad (0, 0)), .int member, .int kind, .ref o] (fun H => xRX G (xA1 A o) S ad z H ∧ xat G o (xA 1 1 f) H ∧ A o)) (xQc (some (.int (xCd [4, 1, 5] (xInduct S member kind).1))) (fun _ H => ∃ ad9 z9 f9, xRX G (xA1 A o) (if (xInduct S member kind).1 = 0 then (xInduct S member kind).2.2 else S) ad9 z9 H ∧ ad9 (0, 0) = ad (0, 0) ∧ xat G o (xA 1 1 f9) H ∧ ((xInduct S member kind).1 = 0 → f9 0 = .long (xInduct S member kind).2.1.toInt64)) A) (xXc (fun _ _ _ => False) A) 1 6 A := by
  refine vx_ofWH (cc := cX0_induct) (maxL := 5) (ret := (some .int)) (by decide) rfl ?_
  intro p e s m args below meth c s₁ B hml hv
  obtain ⟨rfl, hWK, hR, hO, hA9⟩ := hv
  have g := g2.1.1
  have hx := B.exec
  have hb := B.bytes
  have hr := B.returns
  have hts := atoms_spec (ws := wsW_ yX0_induct cX0_induct 5 (some .int) [(0, 10, 13, 28), (0, 10, 17, 13), (0, 10, 21, 30)]) B.pre
  have htb := vx_table (x := yX0_induct) B (hts _ List.mem_cons_self)
  have hts : ∀ w ∈ lw_all, w.before _ s = true := fun w h => hts w (List.mem_cons_of_mem _ h)
  have hown : s.vm.findClass "LendlatheLaw" = some m.cls := findClass_of_methodNamed B.named
  have hlocks := B.notSynchronized
  have hK := hWK.K g
  have F : CallFix p m c cX0_induct 5 s _ lw_all "LendlatheLaw" := ⟨hx, hb, hml, hown, hts⟩
  have hWK1 := hWK.less hO.lt
  have hS1 : va_S (xA1 A o) s.heap s.heap [] := va_S.rf
  have hl := lv_entry ([.ref (ad (0, 0)), .int member, .int kind, .ref o]) (n := 5) (Nat.le_of_ble_eq_true rfl)
  rw [lg_entry_eq]
  generalize (lg_sl ([.ref (ad (0, 0)), .int member, .int kind, .ref o]) ++ List.replicate (5 - (lg_sl ([.ref (ad (0, 0)), .int member, .int kind, .ref o])).length) Slot.unset).toArray = ls at hl ⊢
  have hl : lv_has ls 5 [(0, .ref (ad (0, 0))), (1, .int member), (2, .int kind), (3, .ref o)] := hl
  refine lv_aload_n hx hb dX0_induct_0 rfl (lv_at hl 3 rfl) ?_
  refine lv_iconst (v := 0) hx hb dX0_induct_1 (by decide) ?_
  refine lv_aload_n hx hb dX0_induct_2 rfl (lv_at hl 0 rfl) ?_
  refine lv_iload_n hx hb dX0_induct_3 rfl (lv_at hl 1 rfl) ?_
  refine lv_iload_n hx hb dX0_induct_4 rfl (lv_at hl 2 rfl) ?_
  refine xc_X (vx_runV (As := [.int member, .int kind]) (rest := [.int 0, .ref o]) F (xX1_induct g2.1 (A := xA1 A o) (S := S) (ad := ad) (z := z) member kind hW hA) (cwV 2 hts (lw_V q929 q930 q931 q56 q932) rfl rfl rfl hdV_X1_induct ⟨Nat.le_of_ble_eq_true rfl, Nat.le_of_ble_eq_true rfl⟩) (xpreV (xrecv hK (xw_0 hR) rfl) hWK1 hS1 hR) rfl rfl hl.1 rfl (lv_room (Nat.le_of_ble_eq_true rfl)) dX0_induct_5 ⟨Nat.le_of_ble_eq_true rfl, Nat.le_of_ble_eq_true rfl⟩) hS1 (fun E ce q9 H locs hX hz hk hS hq9 hv9 hc9 => ?_) (fun H locs hP hz hk hS => ?_)
  · have hO := hO.kept (hk o hO.lt (fun c => c.2 rfl))
    have hS := xS.more (A := A) hS (fun q c => c.1)
    rcases hC with e1 | e1 | e1 | e1
    · exact absurd e1 hX.2.1
    · rw [e1] at hX
      obtain ⟨rfl, -, z9, hR⟩ := hX
      refine xw_catch (name := xExn 4) hown [(0, 10, 13, 28), (0, 10, 17, 13), (0, 10, 21, 30)] (by rw [htb]; rfl) 0 rfl (fun i hi => absurd hi (Nat.not_lt_zero i)) (by decide) (by decide) (by decide) (hts _ q909) ((xnC hWK g q942).use rfl) hq9 hv9 hc9 ?_
      refine lv_astore (lv' := [(4, .ref q9), (0, .ref (ad (0, 0))), (1, .int member), (2, .int kind), (3, .ref o)]) hx hb dX0_induct_13 hl (by decide) rfl (fun ls hl => ?_)
      refine lv_iconst (v := 1) hx hb dX0_induct_15 (by decide) ?_
      exact vx_ret (xr_Ci hx hb hr hlocks (by rw [e1]; rfl) ⟨ad, z9, f, by rw [e1]; exact hR, rfl, hO, fun c => by rw [e1] at c; cases c⟩ hS (by first | omega | decide) (by first | omega | decide) dX0_induct_16)
    · rw [e1] at hX
      obtain ⟨rfl, -, z9, hR⟩ := hX
      refine xw_catch (name := xExn 1) hown [(0, 10, 13, 28), (0, 10, 17, 13), (0, 10, 21, 30)] (by rw [htb]; rfl) 1 rfl (fun i hi r hr9 => by rcases (show i = 0 by omega) with hi0 <;> subst hi0 <;> cases hr9 <;> first | exact ⟨by decide, xExn 4, hts _ q909, xNcAt (i := 1) (j := 4) hWK g2.2 (by decide) (by decide) (by decide) (by decide) (by decide)⟩) (by decide) (by decide) (by decide) (hts _ q749) ((xnC hWK g q131).use rfl) hq9 hv9 hc9 ?_
      refine lv_astore (lv' := [(4, .ref q9), (0, .ref (ad (0, 0))), (1, .int member), (2, .int kind), (3, .ref o)]) hx hb dX0_induct_17 hl (by decide) rfl (fun ls hl => ?_)
      refine lv_iconst (v := 2) hx hb dX0_induct_19 (by decide) ?_
      exact vx_ret (xr_Ci hx hb hr hlocks (by rw [e1]; rfl) ⟨ad, z9, f, by rw [e1]; exact hR, rfl, hO, fun c => by rw [e1] at c; cases c⟩ hS (by first | omega | decide) (by first | omega | decide) dX0_induct_20)
    · rw [e1] at hX
      obtain ⟨rfl, -, z9, hR⟩ := hX
      refine xw_catch (name := xExn 5) hown [(0, 10, 13, 28), (0, 10, 17, 13), (0, 10, 21, 30)] (by rw [htb]; rfl) 2 rfl (fun i hi r hr9 => by rcases (show i = 0 ∨ i = 1 by omega) with hi0 | hi0 <;> subst hi0 <;> cases hr9 <;> first | exact ⟨by decide, xExn 4, hts _ q909, xNcAt (i := 5) (j := 4) hWK g2.2 (by decide) (by decide) (by decide) (by decide) (by decide)⟩ | exact ⟨by decide, xExn 1, hts _ q749, xNcAt (i := 5) (j := 1) hWK g2.2 (by decide) (by decide) (by decide) (by decide) (by decide)⟩) (by decide) (by decide) (by decide) (hts _ q928) ((xnC hWK g q957).use rfl) hq9 hv9 hc9 ?_
      refine lv_astore (lv' := [(4, .ref q9), (0, .ref (ad (0, 0))), (1, .int member), (2, .int kind), (3, .ref o)]) hx hb dX0_induct_21 hl (by decide) rfl (fun ls hl => ?_)
      refine lv_iconst (v := 3) hx hb dX0_induct_23 (by decide) ?_
      exact vx_ret (xr_Ci hx hb hr hlocks (by rw [e1]; rfl) ⟨ad, z9, f, by rw [e1]; exact hR, rfl, hO, fun c => by rw [e1] at c; cases c⟩ hS (by first | omega | decide) (by first | omega | decide) dX0_induct_24)
  · have hO := hO.kept (hk o hO.lt (fun c => c.2 rfl))
    have hS := xS.more (A := A) hS (fun q c => c.1)
    obtain ⟨e1, ad9, z9, hR, e2⟩ := hP
    refine lv_i2l hx hb dX0_induct_8 rfl ?_
    refine x_last hx hb hK hS hO hA9 (⟨by unfold vp_in; decide, by decide⟩ : xi 0 0 1) dX0_induct_9 (fun H locs hat hof hS => ?_)
    refine lv_goto (tgt := 25) hx hb dX0_induct_10 (by decide) ?_
    refine lv_iconst (v := 0) hx hb dX0_induct_25 (by decide) ?_
    exact vx_ret (xr_Ci hx hb hr hlocks (by rw [e1]; rfl) ⟨ad9, z9, _, by rw [e1]; exact hR.off (fun k i b e hb hi he c => (hR.A k i hb hi he).2 c) hof, e2, hat, fun _ => rfl⟩ hS (by first | omega | decide) (by first | omega | decide) dX0_induct_26)
theorem xX0_isLive {l : Launch} {G : xG} {s0 : State} {b0 : Nat} (g2 : xG2 l G s0 b0) {A : Nat → Prop} {S : xS} {ad : Nat × Nat → Nat} {z : xZ} (o : Nat) (f : Nat → Value) (member kind on : Int32) (hW : xW S) (hA : ∃ rk, rkOK S.2.1 rk ∧ ∀ i, rk i < 4) (hC : (xIsLive S member kind on).1 = 0 ∨ (xIsLive S member kind on).1 = 4 ∨ (xIsLive S member kind on).1 = 1) : vx_Met l yX0_isLive (wsW_ yX0_isLive cX0_isLive 6 (some .int) [(0, 19, 22, 28), (0, 19, 26, 13)]) ({ frames := 8, cells := 1, slots := 6, locals := 180 } : Room) (xP s0 A [.ref (ad (0, 0)), .int member, .int kind, .int on, .ref o] (fun H => xRX G (xA1 A o) S ad z H ∧ xat G o (xA 1 1 f) H ∧ A o)) (xQc (some (.int (xCd [4, 1] (xIsLive S member kind on).1))) (fun _ H => ∃ ad9 z9 f9, xRX G (xA1 A o) (if (xIsLive S member kind on).1 = 0 then (xIsLive S member kind on).2.2 else S) ad9 z9 H ∧ ad9 (0, 0) = ad (0, 0) ∧ xat G o (xA 1 1 f9) H ∧ ((xIsLive S member kind on).1 = 0 → f9 0 = .long (if (xIsLive S member kind on).2.1 = true then 1 else 0))) A) (xXc (fun _ _ _ => False) A) 1 6 A := by
  refine vx_ofWH (cc := cX0_isLive) (maxL := 6) (ret := (some .int)) (by decide) rfl ?_
  intro p e s m args below meth c s₁ B hml hv
  obtain ⟨rfl, hWK, hR, hO, hA9⟩ := hv
  have g := g2.1.1
  have hx := B.exec
  have hb := B.bytes
  have hr := B.returns
  have hts := atoms_spec (ws := wsW_ yX0_isLive cX0_isLive 6 (some .int) [(0, 19, 22, 28), (0, 19, 26, 13)]) B.pre
  have htb := vx_table (x := yX0_isLive) B (hts _ List.mem_cons_self)
  have hts : ∀ w ∈ lw_all, w.before _ s = true := fun w h => hts w (List.mem_cons_of_mem _ h)
  have hown : s.vm.findClass "LendlatheLaw" = some m.cls := findClass_of_methodNamed B.named
  have hlocks := B.notSynchronized
  have hK := hWK.K g
  have F : CallFix p m c cX0_isLive 6 s _ lw_all "LendlatheLaw" := ⟨hx, hb, hml, hown, hts⟩
  have hWK1 := hWK.less hO.lt
  have hS1 : va_S (xA1 A o) s.heap s.heap [] := va_S.rf
  have hl := lv_entry ([.ref (ad (0, 0)), .int member, .int kind, .int on, .ref o]) (n := 6) (Nat.le_of_ble_eq_true rfl)
  rw [lg_entry_eq]
  generalize (lg_sl ([.ref (ad (0, 0)), .int member, .int kind, .int on, .ref o]) ++ List.replicate (6 - (lg_sl ([.ref (ad (0, 0)), .int member, .int kind, .int on, .ref o])).length) Slot.unset).toArray = ls at hl ⊢
  have hl : lv_has ls 6 [(0, .ref (ad (0, 0))), (1, .int member), (2, .int kind), (3, .int on), (4, .ref o)] := hl
  refine lv_aload hx hb dX0_isLive_0 (lv_at hl 4 rfl) ?_
  refine lv_iconst (v := 0) hx hb dX0_isLive_2 (by decide) ?_
  refine lv_aload_n hx hb dX0_isLive_3 rfl (lv_at hl 0 rfl) ?_
  refine lv_iload_n hx hb dX0_isLive_4 rfl (lv_at hl 1 rfl) ?_
  refine lv_iload_n hx hb dX0_isLive_5 rfl (lv_at hl 2 rfl) ?_
  refine lv_iload_n hx hb dX0_isLive_6 rfl (lv_at hl 3 rfl) ?_
  refine xc_X (vx_runV (As := [.int member, .int kind, .int on]) (rest := [.int 0, .ref o]) F (xX1_isLive g2.1 (A := xA1 A o) (S := S) (ad := ad) (z := z) member kind on hW hA) (cwV 3 hts (lw_V q973 q974 q975 q56 q976) rfl rfl rfl hdV_X1_isLive ⟨Nat.le_of_ble_eq_true rfl, Nat.le_of_ble_eq_true rfl⟩) (xpreV (xrecv hK (xw_0 hR) rfl) hWK1 hS1 hR) rfl rfl hl.1 rfl (lv_room (Nat.le_of_ble_eq_true rfl)) dX0_isLive_7 ⟨Nat.le_of_ble_eq_true rfl, Nat.le_of_ble_eq_true rfl⟩) hS1 (fun E ce q9 H locs hX hz hk hS hq9 hv9 hc9 => ?_) (fun H locs hP hz hk hS => ?_)
  · have hO := hO.kept (hk o hO.lt (fun c => c.2 rfl))
    have hS := xS.more (A := A) hS (fun q c => c.1)
    rcases hC with e1 | e1 | e1
    · exact absurd e1 hX.2.1
    · rw [e1] at hX
      obtain ⟨rfl, -, z9, hR⟩ := hX
      refine xw_catch (name := xExn 4) hown [(0, 19, 22, 28), (0, 19, 26, 13)] (by rw [htb]; rfl) 0 rfl (fun i hi => absurd hi (Nat.not_lt_zero i)) (by decide) (by decide) (by decide) (hts _ q909) ((xnC hWK g q942).use rfl) hq9 hv9 hc9 ?_
      refine lv_astore (lv' := [(5, .ref q9), (0, .ref (ad (0, 0))), (1, .int member), (2, .int kind), (3, .int on), (4, .ref o)]) hx hb dX0_isLive_22 hl (by decide) rfl (fun ls hl => ?_)
      refine lv_iconst (v := 1) hx hb dX0_isLive_24 (by decide) ?_
      exact vx_ret (xr_Ci hx hb hr hlocks (by rw [e1]; rfl) ⟨ad, z9, f, by rw [e1]; exact hR, rfl, hO, fun c => by rw [e1] at c; cases c⟩ hS (by first | omega | decide) (by first | omega | decide) dX0_isLive_25)
    · rw [e1] at hX
      obtain ⟨rfl, -, z9, hR⟩ := hX
      refine xw_catch (name := xExn 1) hown [(0, 19, 22, 28), (0, 19, 26, 13)] (by rw [htb]; rfl) 1 rfl (fun i hi r hr9 => by rcases (show i = 0 by omega) with hi0 <;> subst hi0 <;> cases hr9 <;> first | exact ⟨by decide, xExn 4, hts _ q909, xNcAt (i := 1) (j := 4) hWK g2.2 (by decide) (by decide) (by decide) (by decide) (by decide)⟩) (by decide) (by decide) (by decide) (hts _ q749) ((xnC hWK g q131).use rfl) hq9 hv9 hc9 ?_
      refine lv_astore (lv' := [(5, .ref q9), (0, .ref (ad (0, 0))), (1, .int member), (2, .int kind), (3, .int on), (4, .ref o)]) hx hb dX0_isLive_26 hl (by decide) rfl (fun ls hl => ?_)
      refine lv_iconst (v := 2) hx hb dX0_isLive_28 (by decide) ?_
      exact vx_ret (xr_Ci hx hb hr hlocks (by rw [e1]; rfl) ⟨ad, z9, f, by rw [e1]; exact hR, rfl, hO, fun c => by rw [e1] at c; cases c⟩ hS (by first | omega | decide) (by first | omega | decide) dX0_isLive_29)
  · have hO := hO.kept (hk o hO.lt (fun c => c.2 rfl))
    have hS := xS.more (A := A) hS (fun q c => c.1)
    obtain ⟨e1, ad9, z9, hR, e2⟩ := hP
    refine x_ifeq (tgt := 17) hx hb dX0_isLive_10 (by decide) (fun c9 => ?_) (fun c9 => ?_)
    · skip
      refine lv_lconst (v := 0) hx hb dX0_isLive_17 (by decide) ?_
      refine x_last hx hb hK hS hO hA9 (⟨by unfold vp_in; decide, by decide⟩ : xi 0 0 1) dX0_isLive_18 (fun H locs hat hof hS => ?_)
      refine lv_goto (tgt := 30) hx hb dX0_isLive_19 (by decide) ?_
      refine lv_iconst (v := 0) hx hb dX0_isLive_30 (by decide) ?_
      exact vx_ret (xr_Ci hx hb hr hlocks (by rw [e1]; rfl) ⟨ad9, z9, _, by rw [e1]; exact hR.off (fun k i b e hb hi he c => (hR.A k i hb hi he).2 c) hof, e2, hat, fun _ => by rw [c9]; rfl⟩ hS (by first | omega | decide) (by first | omega | decide) dX0_isLive_31)
    · skip
      refine lv_lconst (v := 1) hx hb dX0_isLive_13 (by decide) ?_
      refine lv_goto (tgt := 18) hx hb dX0_isLive_14 (by decide) ?_
      refine x_last hx hb hK hS hO hA9 (⟨by unfold vp_in; decide, by decide⟩ : xi 0 0 1) dX0_isLive_18 (fun H locs hat hof hS => ?_)
      refine lv_goto (tgt := 30) hx hb dX0_isLive_19 (by decide) ?_
      refine lv_iconst (v := 0) hx hb dX0_isLive_30 (by decide) ?_
      exact vx_ret (xr_Ci hx hb hr hlocks (by rw [e1]; rfl) ⟨ad9, z9, _, by rw [e1]; exact hR.off (fun k i b e hb hi he c => (hR.A k i hb hi he).2 c) hof, e2, hat, fun _ => by rw [c9]; rfl⟩ hS (by first | omega | decide) (by first | omega | decide) dX0_isLive_31)
theorem xX0_book {l : Launch} {G : xG} {s0 : State} {b0 : Nat} (g2 : xG2 l G s0 b0) {A : Nat → Prop} {S : xS} {ad : Nat × Nat → Nat} {z : xZ} (o : Nat) (f : Nat → Value) (member machine on start minutes work : Int32) (hW : xW S) (hA : ∃ rk, rkOK S.2.1 rk ∧ ∀ i, rk i < 4) (hC : (xBook S member machine on start minutes work).1 = 0 ∨ (xBook S member machine on start minutes work).1 = 4 ∨ (xBook S member machine on start minutes work).1 = 1 ∨ (xBook S member machine on start minutes work).1 = 5 ∨ (xBook S member machine on start minutes work).1 = 6 ∨ (xBook S member machine on start minutes work).1 = 3 ∨ (xBook S member machine on start minutes work).1 = 2) : vx_Met l yX0_book (wsW_ yX0_book cX0_book 9 (some .int) [(0, 18, 21, 28), (0, 18, 25, 13), (0, 18, 29, 30), (0, 18, 33, 40), (0, 18, 37, 42), (0, 18, 41, 15)]) ({ frames := 13, cells := 3, slots := 22, locals := 366 } : Room) (xP s0 A [.ref (ad (0, 0)), .int member, .int machine, .int on, .int start, .int minutes, .int work, .ref o] (fun H => xRX G (xA1 A o) S ad z H ∧ xat G o (xA 1 1 f) H ∧ A o)) (xQc (some (.int (xCd [4, 1, 5, 6, 3, 2] (xBook S member machine on start minutes work).1))) (fun _ H => ∃ ad9 z9 f9, xRX G (xA1 A o) (if (xBook S member machine on start minutes work).1 = 0 then (xBook S member machine on start minutes work).2.2 else S) ad9 z9 H ∧ ad9 (0, 0) = ad (0, 0) ∧ xat G o (xA 1 1 f9) H ∧ ((xBook S member machine on start minutes work).1 = 0 → f9 0 = .long (xBook S member machine on start minutes work).2.1.toInt64)) A) (xXc (fun _ _ _ => False) A) 3 22 A := by
  refine vx_ofWH (cc := cX0_book) (maxL := 9) (ret := (some .int)) (by decide) rfl ?_
  intro p e s m args below meth c s₁ B hml hv
  obtain ⟨rfl, hWK, hR, hO, hA9⟩ := hv
  have g := g2.1.1
  have hx := B.exec
  have hb := B.bytes
  have hr := B.returns
  have hts := atoms_spec (ws := wsW_ yX0_book cX0_book 9 (some .int) [(0, 18, 21, 28), (0, 18, 25, 13), (0, 18, 29, 30), (0, 18, 33, 40), (0, 18, 37, 42), (0, 18, 41, 15)]) B.pre
  have htb := vx_table (x := yX0_book) B (hts _ List.mem_cons_self)
  have hts : ∀ w ∈ lw_all, w.before _ s = true := fun w h => hts w (List.mem_cons_of_mem _ h)
  have hown : s.vm.findClass "LendlatheLaw" = some m.cls := findClass_of_methodNamed B.named
  have hlocks := B.notSynchronized
  have hK := hWK.K g
  have F : CallFix p m c cX0_book 9 s _ lw_all "LendlatheLaw" := ⟨hx, hb, hml, hown, hts⟩
  have hWK1 := hWK.less hO.lt
  have hS1 : va_S (xA1 A o) s.heap s.heap [] := va_S.rf
  have hl := lv_entry ([.ref (ad (0, 0)), .int member, .int machine, .int on, .int start, .int minutes, .int work, .ref o]) (n := 9) (Nat.le_of_ble_eq_true rfl)
  rw [lg_entry_eq]
  generalize (lg_sl ([.ref (ad (0, 0)), .int member, .int machine, .int on, .int start, .int minutes, .int work, .ref o]) ++ List.replicate (9 - (lg_sl ([.ref (ad (0, 0)), .int member, .int machine, .int on, .int start, .int minutes, .int work, .ref o])).length) Slot.unset).toArray = ls at hl ⊢
  have hl : lv_has ls 9 [(0, .ref (ad (0, 0))), (1, .int member), (2, .int machine), (3, .int on), (4, .int start), (5, .int minutes), (6, .int work), (7, .ref o)] := hl
  refine lv_aload hx hb dX0_book_0 (lv_at hl 7 rfl) ?_
  refine lv_iconst (v := 0) hx hb dX0_book_2 (by decide) ?_
  refine lv_aload_n hx hb dX0_book_3 rfl (lv_at hl 0 rfl) ?_
  refine lv_iload_n hx hb dX0_book_4 rfl (lv_at hl 1 rfl) ?_
  refine lv_iload_n hx hb dX0_book_5 rfl (lv_at hl 2 rfl) ?_
  refine lv_iload_n hx hb dX0_book_6 rfl (lv_at hl 3 rfl) ?_
  refine lv_iload hx hb dX0_book_7 (lv_at hl 4 rfl) ?_
  refine lv_iload hx hb dX0_book_9 (lv_at hl 5 rfl) ?_
  refine lv_iload hx hb dX0_book_11 (lv_at hl 6 rfl) ?_
  refine xc_X (vx_runV (As := [.int member, .int machine, .int on, .int start, .int minutes, .int work]) (rest := [.int 0, .ref o]) F (xX1_book g2.1 (A := xA1 A o) (S := S) (ad := ad) (z := z) member machine on start minutes work hW hA) (cwV 6 hts (lw_V q995 q996 q997 q56 q998) rfl rfl rfl hdV_X1_book ⟨Nat.le_of_ble_eq_true rfl, Nat.le_of_ble_eq_true rfl⟩) (xpreV (xrecv hK (xw_0 hR) rfl) hWK1 hS1 hR) rfl rfl hl.1 rfl (lv_room (Nat.le_of_ble_eq_true rfl)) dX0_book_13 ⟨Nat.le_of_ble_eq_true rfl, Nat.le_of_ble_eq_true rfl⟩) hS1 (fun E ce q9 H locs hX hz hk hS hq9 hv9 hc9 => ?_) (fun H locs hP hz hk hS => ?_)
  · have hO := hO.kept (hk o hO.lt (fun c => c.2 rfl))
    have hS := xS.more (A := A) hS (fun q c => c.1)
    rcases hC with e1 | e1 | e1 | e1 | e1 | e1 | e1
    · exact absurd e1 hX.2.1
    · rw [e1] at hX
      obtain ⟨rfl, -, z9, hR⟩ := hX
      refine xw_catch (name := xExn 4) hown [(0, 18, 21, 28), (0, 18, 25, 13), (0, 18, 29, 30), (0, 18, 33, 40), (0, 18, 37, 42), (0, 18, 41, 15)] (by rw [htb]; rfl) 0 rfl (fun i hi => absurd hi (Nat.not_lt_zero i)) (by decide) (by decide) (by decide) (hts _ q909) ((xnC hWK g q942).use rfl) hq9 hv9 hc9 ?_
      refine lv_astore (lv' := [(8, .ref q9), (0, .ref (ad (0, 0))), (1, .int member), (2, .int machine), (3, .int on), (4, .int start), (5, .int minutes), (6, .int work), (7, .ref o)]) hx hb dX0_book_21 hl (by decide) rfl (fun ls hl => ?_)
      refine lv_iconst (v := 1) hx hb dX0_book_23 (by decide) ?_
      exact vx_ret (xr_Ci hx hb hr hlocks (by rw [e1]; rfl) ⟨ad, z9, f, by rw [e1]; exact hR, rfl, hO, fun c => by rw [e1] at c; cases c⟩ hS (by first | omega | decide) (by first | omega | decide) dX0_book_24)
    · rw [e1] at hX
      obtain ⟨rfl, -, z9, hR⟩ := hX
      refine xw_catch (name := xExn 1) hown [(0, 18, 21, 28), (0, 18, 25, 13), (0, 18, 29, 30), (0, 18, 33, 40), (0, 18, 37, 42), (0, 18, 41, 15)] (by rw [htb]; rfl) 1 rfl (fun i hi r hr9 => by rcases (show i = 0 by omega) with hi0 <;> subst hi0 <;> cases hr9 <;> first | exact ⟨by decide, xExn 4, hts _ q909, xNcAt (i := 1) (j := 4) hWK g2.2 (by decide) (by decide) (by decide) (by decide) (by decide)⟩) (by decide) (by decide) (by decide) (hts _ q749) ((xnC hWK g q131).use rfl) hq9 hv9 hc9 ?_
      refine lv_astore (lv' := [(8, .ref q9), (0, .ref (ad (0, 0))), (1, .int member), (2, .int machine), (3, .int on), (4, .int start), (5, .int minutes), (6, .int work), (7, .ref o)]) hx hb dX0_book_25 hl (by decide) rfl (fun ls hl => ?_)
      refine lv_iconst (v := 2) hx hb dX0_book_27 (by decide) ?_
      exact vx_ret (xr_Ci hx hb hr hlocks (by rw [e1]; rfl) ⟨ad, z9, f, by rw [e1]; exact hR, rfl, hO, fun c => by rw [e1] at c; cases c⟩ hS (by first | omega | decide) (by first | omega | decide) dX0_book_28)
    · rw [e1] at hX
      obtain ⟨rfl, -, z9, hR⟩ := hX
      refine xw_catch (name := xExn 5) hown [(0, 18, 21, 28), (0, 18, 25, 13), (0, 18, 29, 30), (0, 18, 33, 40), (0, 18, 37, 42), (0, 18, 41, 15)] (by rw [htb]; rfl) 2 rfl (fun i hi r hr9 => by rcases (show i = 0 ∨ i = 1 by omega) with hi0 | hi0 <;> subst hi0 <;> cases hr9 <;> first | exact ⟨by decide, xExn 4, hts _ q909, xNcAt (i := 5) (j := 4) hWK g2.2 (by decide) (by decide) (by decide) (by decide) (by decide)⟩ | exact ⟨by decide, xExn 1, hts _ q749, xNcAt (i := 5) (j := 1) hWK g2.2 (by decide) (by decide) (by decide) (by decide) (by decide)⟩) (by decide) (by decide) (by decide) (hts _ q928) ((xnC hWK g q957).use rfl) hq9 hv9 hc9 ?_
      refine lv_astore (lv' := [(8, .ref q9), (0, .ref (ad (0, 0))), (1, .int member), (2, .int machine), (3, .int on), (4, .int start), (5, .int minutes), (6, .int work), (7, .ref o)]) hx hb dX0_book_29 hl (by decide) rfl (fun ls hl => ?_)
      refine lv_iconst (v := 3) hx hb dX0_book_31 (by decide) ?_
      exact vx_ret (xr_Ci hx hb hr hlocks (by rw [e1]; rfl) ⟨ad, z9, f, by rw [e1]; exact hR, rfl, hO, fun c => by rw [e1] at c; cases c⟩ hS (by first | omega | decide) (by first | omega | decide) dX0_book_32)
    · rw [e1] at hX
      obtain ⟨rfl, -, z9, hR⟩ := hX
      refine xw_catch (name := xExn 6) hown [(0, 18, 21, 28), (0, 18, 25, 13), (0, 18, 29, 30), (0, 18, 33, 40), (0, 18, 37, 42), (0, 18, 41, 15)] (by rw [htb]; rfl) 3 rfl (fun i hi r hr9 => by rcases (show i = 0 ∨ i = 1 ∨ i = 2 by omega) with hi0 | hi0 | hi0 <;> subst hi0 <;> cases hr9 <;> first | exact ⟨by decide, xExn 4, hts _ q909, xNcAt (i := 6) (j := 4) hWK g2.2 (by decide) (by decide) (by decide) (by decide) (by decide)⟩ | exact ⟨by decide, xExn 1, hts _ q749, xNcAt (i := 6) (j := 1) hWK g2.2 (by decide) (by decide) (by decide) (by decide) (by decide)⟩ | exact ⟨by decide, xExn 5, hts _ q928, xNcAt (i := 6) (j := 5) hWK g2.2 (by decide) (by decide) (by decide) (by decide) (by decide)⟩) (by decide) (by decide) (by decide) (hts _ q980) ((xnC hWK g q992).use rfl) hq9 hv9 hc9 ?_
      refine lv_astore (lv' := [(8, .ref q9), (0, .ref (ad (0, 0))), (1, .int member), (2, .int machine), (3, .int on), (4, .int start), (5, .int minutes), (6, .int work), (7, .ref o)]) hx hb dX0_book_33 hl (by decide) rfl (fun ls hl => ?_)
      refine lv_iconst (v := 4) hx hb dX0_book_35 (by decide) ?_
      exact vx_ret (xr_Ci hx hb hr hlocks (by rw [e1]; rfl) ⟨ad, z9, f, by rw [e1]; exact hR, rfl, hO, fun c => by rw [e1] at c; cases c⟩ hS (by first | omega | decide) (by first | omega | decide) dX0_book_36)
    · rw [e1] at hX
      obtain ⟨rfl, -, z9, hR⟩ := hX
      refine xw_catch (name := xExn 3) hown [(0, 18, 21, 28), (0, 18, 25, 13), (0, 18, 29, 30), (0, 18, 33, 40), (0, 18, 37, 42), (0, 18, 41, 15)] (by rw [htb]; rfl) 4 rfl (fun i hi r hr9 => by rcases (show i = 0 ∨ i = 1 ∨ i = 2 ∨ i = 3 by omega) with hi0 | hi0 | hi0 | hi0 <;> subst hi0 <;> cases hr9 <;> first | exact ⟨by decide, xExn 4, hts _ q909, xNcAt (i := 3) (j := 4) hWK g2.2 (by decide) (by decide) (by decide) (by decide) (by decide)⟩ | exact ⟨by decide, xExn 1, hts _ q749, xNcAt (i := 3) (j := 1) hWK g2.2 (by decide) (by decide) (by decide) (by decide) (by decide)⟩ | exact ⟨by decide, xExn 5, hts _ q928, xNcAt (i := 3) (j := 5) hWK g2.2 (by decide) (by decide) (by decide) (by decide) (by decide)⟩ | exact ⟨by decide, xExn 6, hts _ q980, xNcAt (i := 3) (j := 6) hWK g2.2 (by decide) (by decide) (by decide) (by decide) (by decide)⟩) (by decide) (by decide) (by decide) (hts _ q994) ((xnC hWK g q572).use rfl) hq9 hv9 hc9 ?_
      refine lv_astore (lv' := [(8, .ref q9), (0, .ref (ad (0, 0))), (1, .int member), (2, .int machine), (3, .int on), (4, .int start), (5, .int minutes), (6, .int work), (7, .ref o)]) hx hb dX0_book_37 hl (by decide) rfl (fun ls hl => ?_)
      refine lv_iconst (v := 5) hx hb dX0_book_39 (by decide) ?_
      exact vx_ret (xr_Ci hx hb hr hlocks (by rw [e1]; rfl) ⟨ad, z9, f, by rw [e1]; exact hR, rfl, hO, fun c => by rw [e1] at c; cases c⟩ hS (by first | omega | decide) (by first | omega | decide) dX0_book_40)
    · rw [e1] at hX
      obtain ⟨rfl, -, z9, hR⟩ := hX
      refine xw_catch (name := xExn 2) hown [(0, 18, 21, 28), (0, 18, 25, 13), (0, 18, 29, 30), (0, 18, 33, 40), (0, 18, 37, 42), (0, 18, 41, 15)] (by rw [htb]; rfl) 5 rfl (fun i hi r hr9 => by rcases (show i = 0 ∨ i = 1 ∨ i = 2 ∨ i = 3 ∨ i = 4 by omega) with hi0 | hi0 | hi0 | hi0 | hi0 <;> subst hi0 <;> cases hr9 <;> first | exact ⟨by decide, xExn 4, hts _ q909, xNcAt (i := 2) (j := 4) hWK g2.2 (by decide) (by decide) (by decide) (by decide) (by decide)⟩ | exact ⟨by decide, xExn 1, hts _ q749, xNcAt (i := 2) (j := 1) hWK g2.2 (by decide) (by decide) (by decide) (by decide) (by decide)⟩ | exact ⟨by decide, xExn 5, hts _ q928, xNcAt (i := 2) (j := 5) hWK g2.2 (by decide) (by decide) (by decide) (by decide) (by decide)⟩ | exact ⟨by decide, xExn 6, hts _ q980, xNcAt (i := 2) (j := 6) hWK g2.2 (by decide) (by decide) (by decide) (by decide) (by decide)⟩ | exact ⟨by decide, xExn 3, hts _ q994, xNcAt (i := 2) (j := 3) hWK g2.2 (by decide) (by decide) (by decide) (by decide) (by decide)⟩) (by decide) (by decide) (by decide) (hts _ q750) ((xnC hWK g q774).use rfl) hq9 hv9 hc9 ?_
      refine lv_astore (lv' := [(8, .ref q9), (0, .ref (ad (0, 0))), (1, .int member), (2, .int machine), (3, .int on), (4, .int start), (5, .int minutes), (6, .int work), (7, .ref o)]) hx hb dX0_book_41 hl (by decide) rfl (fun ls hl => ?_)
      refine lv_bipush (v := 6) hx hb dX0_book_43 (by decide) ?_
      exact vx_ret (xr_Ci hx hb hr hlocks (by rw [e1]; rfl) ⟨ad, z9, f, by rw [e1]; exact hR, rfl, hO, fun c => by rw [e1] at c; cases c⟩ hS (by first | omega | decide) (by first | omega | decide) dX0_book_45)
  · have hO := hO.kept (hk o hO.lt (fun c => c.2 rfl))
    have hS := xS.more (A := A) hS (fun q c => c.1)
    obtain ⟨e1, ad9, z9, hR, e2⟩ := hP
    refine lv_i2l hx hb dX0_book_16 rfl ?_
    refine x_last hx hb hK hS hO hA9 (⟨by unfold vp_in; decide, by decide⟩ : xi 0 0 1) dX0_book_17 (fun H locs hat hof hS => ?_)
    refine lv_goto (tgt := 46) hx hb dX0_book_18 (by decide) ?_
    refine lv_iconst (v := 0) hx hb dX0_book_46 (by decide) ?_
    exact vx_ret (xr_Ci hx hb hr hlocks (by rw [e1]; rfl) ⟨ad9, z9, _, by rw [e1]; exact hR.off (fun k i b e hb hi he c => (hR.A k i hb hi he).2 c) hof, e2, hat, fun _ => rfl⟩ hS (by first | omega | decide) (by first | omega | decide) dX0_book_47)
theorem xX0_await {l : Launch} {G : xG} {s0 : State} {b0 : Nat} (g2 : xG2 l G s0 b0) {A : Nat → Prop} {S : xS} {ad : Nat × Nat → Nat} {z : xZ} (o : Nat) (f : Nat → Value) (member machine on start minutes work : Int32) (hW : xW S) (hA : ∃ rk, rkOK S.2.1 rk ∧ ∀ i, rk i < 4) (hC : (xAwait S member machine on start minutes work).1 = 0 ∨ (xAwait S member machine on start minutes work).1 = 4 ∨ (xAwait S member machine on start minutes work).1 = 1 ∨ (xAwait S member machine on start minutes work).1 = 5 ∨ (xAwait S member machine on start minutes work).1 = 2) : vx_Met l yX0_await (wsW_ yX0_await cX0_await 9 (some .int) [(0, 18, 21, 28), (0, 18, 25, 13), (0, 18, 29, 30), (0, 18, 33, 15)]) ({ frames := 13, cells := 3, slots := 22, locals := 366 } : Room) (xP s0 A [.ref (ad (0, 0)), .int member, .int machine, .int on, .int start, .int minutes, .int work, .ref o] (fun H => xRX G (xA1 A o) S ad z H ∧ xat G o (xA 1 1 f) H ∧ A o)) (xQc (some (.int (xCd [4, 1, 5, 2] (xAwait S member machine on start minutes work).1))) (fun _ H => ∃ ad9 z9 f9, xRX G (xA1 A o) (if (xAwait S member machine on start minutes work).1 = 0 then (xAwait S member machine on start minutes work).2.2 else S) ad9 z9 H ∧ ad9 (0, 0) = ad (0, 0) ∧ xat G o (xA 1 1 f9) H ∧ ((xAwait S member machine on start minutes work).1 = 0 → f9 0 = .long (xAwait S member machine on start minutes work).2.1.toInt64)) A) (xXc (fun _ _ _ => False) A) 3 22 A := by
  refine vx_ofWH (cc := cX0_await) (maxL := 9) (ret := (some .int)) (by decide) rfl ?_
  intro p e s m args below meth c s₁ B hml hv
  obtain ⟨rfl, hWK, hR, hO, hA9⟩ := hv
  have g := g2.1.1
  have hx := B.exec
  have hb := B.bytes
  have hr := B.returns
  have hts := atoms_spec (ws := wsW_ yX0_await cX0_await 9 (some .int) [(0, 18, 21, 28), (0, 18, 25, 13), (0, 18, 29, 30), (0, 18, 33, 15)]) B.pre
  have htb := vx_table (x := yX0_await) B (hts _ List.mem_cons_self)
  have hts : ∀ w ∈ lw_all, w.before _ s = true := fun w h => hts w (List.mem_cons_of_mem _ h)
  have hown : s.vm.findClass "LendlatheLaw" = some m.cls := findClass_of_methodNamed B.named
  have hlocks := B.notSynchronized
  have hK := hWK.K g
  have F : CallFix p m c cX0_await 9 s _ lw_all "LendlatheLaw" := ⟨hx, hb, hml, hown, hts⟩
  have hWK1 := hWK.less hO.lt
  have hS1 : va_S (xA1 A o) s.heap s.heap [] := va_S.rf
  have hl := lv_entry ([.ref (ad (0, 0)), .int member, .int machine, .int on, .int start, .int minutes, .int work, .ref o]) (n := 9) (Nat.le_of_ble_eq_true rfl)
  rw [lg_entry_eq]
  generalize (lg_sl ([.ref (ad (0, 0)), .int member, .int machine, .int on, .int start, .int minutes, .int work, .ref o]) ++ List.replicate (9 - (lg_sl ([.ref (ad (0, 0)), .int member, .int machine, .int on, .int start, .int minutes, .int work, .ref o])).length) Slot.unset).toArray = ls at hl ⊢
  have hl : lv_has ls 9 [(0, .ref (ad (0, 0))), (1, .int member), (2, .int machine), (3, .int on), (4, .int start), (5, .int minutes), (6, .int work), (7, .ref o)] := hl
  refine lv_aload hx hb dX0_await_0 (lv_at hl 7 rfl) ?_
  refine lv_iconst (v := 0) hx hb dX0_await_2 (by decide) ?_
  refine lv_aload_n hx hb dX0_await_3 rfl (lv_at hl 0 rfl) ?_
  refine lv_iload_n hx hb dX0_await_4 rfl (lv_at hl 1 rfl) ?_
  refine lv_iload_n hx hb dX0_await_5 rfl (lv_at hl 2 rfl) ?_
  refine lv_iload_n hx hb dX0_await_6 rfl (lv_at hl 3 rfl) ?_
  refine lv_iload hx hb dX0_await_7 (lv_at hl 4 rfl) ?_
  refine lv_iload hx hb dX0_await_9 (lv_at hl 5 rfl) ?_
  refine lv_iload hx hb dX0_await_11 (lv_at hl 6 rfl) ?_
  refine xc_X (vx_runV (As := [.int member, .int machine, .int on, .int start, .int minutes, .int work]) (rest := [.int 0, .ref o]) F (xX1_await g2.1 (A := xA1 A o) (S := S) (ad := ad) (z := z) member machine on start minutes work hW hA) (cwV 6 hts (lw_V q1103 q1104 q1105 q56 q1106) rfl rfl rfl hdV_X1_await ⟨Nat.le_of_ble_eq_true rfl, Nat.le_of_ble_eq_true rfl⟩) (xpreV (xrecv hK (xw_0 hR) rfl) hWK1 hS1 hR) rfl rfl hl.1 rfl (lv_room (Nat.le_of_ble_eq_true rfl)) dX0_await_13 ⟨Nat.le_of_ble_eq_true rfl, Nat.le_of_ble_eq_true rfl⟩) hS1 (fun E ce q9 H locs hX hz hk hS hq9 hv9 hc9 => ?_) (fun H locs hP hz hk hS => ?_)
  · have hO := hO.kept (hk o hO.lt (fun c => c.2 rfl))
    have hS := xS.more (A := A) hS (fun q c => c.1)
    rcases hC with e1 | e1 | e1 | e1 | e1
    · exact absurd e1 hX.2.1
    · rw [e1] at hX
      obtain ⟨rfl, -, z9, hR⟩ := hX
      refine xw_catch (name := xExn 4) hown [(0, 18, 21, 28), (0, 18, 25, 13), (0, 18, 29, 30), (0, 18, 33, 15)] (by rw [htb]; rfl) 0 rfl (fun i hi => absurd hi (Nat.not_lt_zero i)) (by decide) (by decide) (by decide) (hts _ q909) ((xnC hWK g q942).use rfl) hq9 hv9 hc9 ?_
      refine lv_astore (lv' := [(8, .ref q9), (0, .ref (ad (0, 0))), (1, .int member), (2, .int machine), (3, .int on), (4, .int start), (5, .int minutes), (6, .int work), (7, .ref o)]) hx hb dX0_await_21 hl (by decide) rfl (fun ls hl => ?_)
      refine lv_iconst (v := 1) hx hb dX0_await_23 (by decide) ?_
      exact vx_ret (xr_Ci hx hb hr hlocks (by rw [e1]; rfl) ⟨ad, z9, f, by rw [e1]; exact hR, rfl, hO, fun c => by rw [e1] at c; cases c⟩ hS (by first | omega | decide) (by first | omega | decide) dX0_await_24)
    · rw [e1] at hX
      obtain ⟨rfl, -, z9, hR⟩ := hX
      refine xw_catch (name := xExn 1) hown [(0, 18, 21, 28), (0, 18, 25, 13), (0, 18, 29, 30), (0, 18, 33, 15)] (by rw [htb]; rfl) 1 rfl (fun i hi r hr9 => by rcases (show i = 0 by omega) with hi0 <;> subst hi0 <;> cases hr9 <;> first | exact ⟨by decide, xExn 4, hts _ q909, xNcAt (i := 1) (j := 4) hWK g2.2 (by decide) (by decide) (by decide) (by decide) (by decide)⟩) (by decide) (by decide) (by decide) (hts _ q749) ((xnC hWK g q131).use rfl) hq9 hv9 hc9 ?_
      refine lv_astore (lv' := [(8, .ref q9), (0, .ref (ad (0, 0))), (1, .int member), (2, .int machine), (3, .int on), (4, .int start), (5, .int minutes), (6, .int work), (7, .ref o)]) hx hb dX0_await_25 hl (by decide) rfl (fun ls hl => ?_)
      refine lv_iconst (v := 2) hx hb dX0_await_27 (by decide) ?_
      exact vx_ret (xr_Ci hx hb hr hlocks (by rw [e1]; rfl) ⟨ad, z9, f, by rw [e1]; exact hR, rfl, hO, fun c => by rw [e1] at c; cases c⟩ hS (by first | omega | decide) (by first | omega | decide) dX0_await_28)
    · rw [e1] at hX
      obtain ⟨rfl, -, z9, hR⟩ := hX
      refine xw_catch (name := xExn 5) hown [(0, 18, 21, 28), (0, 18, 25, 13), (0, 18, 29, 30), (0, 18, 33, 15)] (by rw [htb]; rfl) 2 rfl (fun i hi r hr9 => by rcases (show i = 0 ∨ i = 1 by omega) with hi0 | hi0 <;> subst hi0 <;> cases hr9 <;> first | exact ⟨by decide, xExn 4, hts _ q909, xNcAt (i := 5) (j := 4) hWK g2.2 (by decide) (by decide) (by decide) (by decide) (by decide)⟩ | exact ⟨by decide, xExn 1, hts _ q749, xNcAt (i := 5) (j := 1) hWK g2.2 (by decide) (by decide) (by decide) (by decide) (by decide)⟩) (by decide) (by decide) (by decide) (hts _ q928) ((xnC hWK g q957).use rfl) hq9 hv9 hc9 ?_
      refine lv_astore (lv' := [(8, .ref q9), (0, .ref (ad (0, 0))), (1, .int member), (2, .int machine), (3, .int on), (4, .int start), (5, .int minutes), (6, .int work), (7, .ref o)]) hx hb dX0_await_29 hl (by decide) rfl (fun ls hl => ?_)
      refine lv_iconst (v := 3) hx hb dX0_await_31 (by decide) ?_
      exact vx_ret (xr_Ci hx hb hr hlocks (by rw [e1]; rfl) ⟨ad, z9, f, by rw [e1]; exact hR, rfl, hO, fun c => by rw [e1] at c; cases c⟩ hS (by first | omega | decide) (by first | omega | decide) dX0_await_32)
    · rw [e1] at hX
      obtain ⟨rfl, -, z9, hR⟩ := hX
      refine xw_catch (name := xExn 2) hown [(0, 18, 21, 28), (0, 18, 25, 13), (0, 18, 29, 30), (0, 18, 33, 15)] (by rw [htb]; rfl) 3 rfl (fun i hi r hr9 => by rcases (show i = 0 ∨ i = 1 ∨ i = 2 by omega) with hi0 | hi0 | hi0 <;> subst hi0 <;> cases hr9 <;> first | exact ⟨by decide, xExn 4, hts _ q909, xNcAt (i := 2) (j := 4) hWK g2.2 (by decide) (by decide) (by decide) (by decide) (by decide)⟩ | exact ⟨by decide, xExn 1, hts _ q749, xNcAt (i := 2) (j := 1) hWK g2.2 (by decide) (by decide) (by decide) (by decide) (by decide)⟩ | exact ⟨by decide, xExn 5, hts _ q928, xNcAt (i := 2) (j := 5) hWK g2.2 (by decide) (by decide) (by decide) (by decide) (by decide)⟩) (by decide) (by decide) (by decide) (hts _ q750) ((xnC hWK g q774).use rfl) hq9 hv9 hc9 ?_
      refine lv_astore (lv' := [(8, .ref q9), (0, .ref (ad (0, 0))), (1, .int member), (2, .int machine), (3, .int on), (4, .int start), (5, .int minutes), (6, .int work), (7, .ref o)]) hx hb dX0_await_33 hl (by decide) rfl (fun ls hl => ?_)
      refine lv_iconst (v := 4) hx hb dX0_await_35 (by decide) ?_
      exact vx_ret (xr_Ci hx hb hr hlocks (by rw [e1]; rfl) ⟨ad, z9, f, by rw [e1]; exact hR, rfl, hO, fun c => by rw [e1] at c; cases c⟩ hS (by first | omega | decide) (by first | omega | decide) dX0_await_36)
  · have hO := hO.kept (hk o hO.lt (fun c => c.2 rfl))
    have hS := xS.more (A := A) hS (fun q c => c.1)
    obtain ⟨e1, ad9, z9, hR, e2⟩ := hP
    refine lv_i2l hx hb dX0_await_16 rfl ?_
    refine x_last hx hb hK hS hO hA9 (⟨by unfold vp_in; decide, by decide⟩ : xi 0 0 1) dX0_await_17 (fun H locs hat hof hS => ?_)
    refine lv_goto (tgt := 37) hx hb dX0_await_18 (by decide) ?_
    refine lv_iconst (v := 0) hx hb dX0_await_37 (by decide) ?_
    exact vx_ret (xr_Ci hx hb hr hlocks (by rw [e1]; rfl) ⟨ad9, z9, _, by rw [e1]; exact hR.off (fun k i b e hb hi he c => (hR.A k i hb hi he).2 c) hof, e2, hat, fun _ => rfl⟩ hS (by first | omega | decide) (by first | omega | decide) dX0_await_38)
theorem xX0_check {l : Launch} {G : xG} {s0 : State} {b0 : Nat} (g2 : xG2 l G s0 b0) {A : Nat → Prop} {S : xS} {ad : Nat × Nat → Nat} {z : xZ} (o : Nat) (f : Nat → Value) (member machine on start minutes work : Int32) (hW : xW S) (hA : ∃ rk, rkOK S.2.1 rk ∧ ∀ i, rk i < 4) (hC : (xCheck S member machine on start minutes work).1 = 0 ∨ (xCheck S member machine on start minutes work).1 = 4 ∨ (xCheck S member machine on start minutes work).1 = 1) : vx_Met l yX0_check (wsW_ yX0_check cX0_check 9 (some .int) [(0, 18, 21, 28), (0, 18, 25, 13)]) ({ frames := 9, cells := 1, slots := 6, locals := 277 } : Room) (xP s0 A [.ref (ad (0, 0)), .int member, .int machine, .int on, .int start, .int minutes, .int work, .ref o] (fun H => xRX G (xA1 A o) S ad z H ∧ xat G o (xA 1 1 f) H ∧ A o)) (xQc (some (.int (xCd [4, 1] (xCheck S member machine on start minutes work).1))) (fun _ H => ∃ ad9 z9 f9, xRX G (xA1 A o) (if (xCheck S member machine on start minutes work).1 = 0 then (xCheck S member machine on start minutes work).2.2 else S) ad9 z9 H ∧ ad9 (0, 0) = ad (0, 0) ∧ xat G o (xA 1 1 f9) H ∧ ((xCheck S member machine on start minutes work).1 = 0 → f9 0 = .long (xCheck S member machine on start minutes work).2.1.toInt64)) A) (xXc (fun _ _ _ => False) A) 1 6 A := by
  refine vx_ofWH (cc := cX0_check) (maxL := 9) (ret := (some .int)) (by decide) rfl ?_
  intro p e s m args below meth c s₁ B hml hv
  obtain ⟨rfl, hWK, hR, hO, hA9⟩ := hv
  have g := g2.1.1
  have hx := B.exec
  have hb := B.bytes
  have hr := B.returns
  have hts := atoms_spec (ws := wsW_ yX0_check cX0_check 9 (some .int) [(0, 18, 21, 28), (0, 18, 25, 13)]) B.pre
  have htb := vx_table (x := yX0_check) B (hts _ List.mem_cons_self)
  have hts : ∀ w ∈ lw_all, w.before _ s = true := fun w h => hts w (List.mem_cons_of_mem _ h)
  have hown : s.vm.findClass "LendlatheLaw" = some m.cls := findClass_of_methodNamed B.named
  have hlocks := B.notSynchronized
  have hK := hWK.K g
  have F : CallFix p m c cX0_check 9 s _ lw_all "LendlatheLaw" := ⟨hx, hb, hml, hown, hts⟩
  have hWK1 := hWK.less hO.lt
  have hS1 : va_S (xA1 A o) s.heap s.heap [] := va_S.rf
  have hl := lv_entry ([.ref (ad (0, 0)), .int member, .int machine, .int on, .int start, .int minutes, .int work, .ref o]) (n := 9) (Nat.le_of_ble_eq_true rfl)
  rw [lg_entry_eq]
  generalize (lg_sl ([.ref (ad (0, 0)), .int member, .int machine, .int on, .int start, .int minutes, .int work, .ref o]) ++ List.replicate (9 - (lg_sl ([.ref (ad (0, 0)), .int member, .int machine, .int on, .int start, .int minutes, .int work, .ref o])).length) Slot.unset).toArray = ls at hl ⊢
  have hl : lv_has ls 9 [(0, .ref (ad (0, 0))), (1, .int member), (2, .int machine), (3, .int on), (4, .int start), (5, .int minutes), (6, .int work), (7, .ref o)] := hl
  refine lv_aload hx hb dX0_check_0 (lv_at hl 7 rfl) ?_
  refine lv_iconst (v := 0) hx hb dX0_check_2 (by decide) ?_
  refine lv_aload_n hx hb dX0_check_3 rfl (lv_at hl 0 rfl) ?_
  refine lv_iload_n hx hb dX0_check_4 rfl (lv_at hl 1 rfl) ?_
  refine lv_iload_n hx hb dX0_check_5 rfl (lv_at hl 2 rfl) ?_
  refine lv_iload_n hx hb dX0_check_6 rfl (lv_at hl 3 rfl) ?_
  refine lv_iload hx hb dX0_check_7 (lv_at hl 4 rfl) ?_
  refine lv_iload hx hb dX0_check_9 (lv_at hl 5 rfl) ?_
  refine lv_iload hx hb dX0_check_11 (lv_at hl 6 rfl) ?_
  refine xc_X (vx_runV (As := [.int member, .int machine, .int on, .int start, .int minutes, .int work]) (rest := [.int 0, .ref o]) F (xX1_check g2.1 (A := xA1 A o) (S := S) (ad := ad) (z := z) member machine on start minutes work hW hA) (cwV 6 hts (lw_V q1110 q1111 q1112 q56 q1113) rfl rfl rfl hdV_X1_check ⟨Nat.le_of_ble_eq_true rfl, Nat.le_of_ble_eq_true rfl⟩) (xpreV (xrecv hK (xw_0 hR) rfl) hWK1 hS1 hR) rfl rfl hl.1 rfl (lv_room (Nat.le_of_ble_eq_true rfl)) dX0_check_13 ⟨Nat.le_of_ble_eq_true rfl, Nat.le_of_ble_eq_true rfl⟩) hS1 (fun E ce q9 H locs hX hz hk hS hq9 hv9 hc9 => ?_) (fun H locs hP hz hk hS => ?_)
  · have hO := hO.kept (hk o hO.lt (fun c => c.2 rfl))
    have hS := xS.more (A := A) hS (fun q c => c.1)
    rcases hC with e1 | e1 | e1
    · exact absurd e1 hX.2.1
    · rw [e1] at hX
      obtain ⟨rfl, -, z9, hR⟩ := hX
      refine xw_catch (name := xExn 4) hown [(0, 18, 21, 28), (0, 18, 25, 13)] (by rw [htb]; rfl) 0 rfl (fun i hi => absurd hi (Nat.not_lt_zero i)) (by decide) (by decide) (by decide) (hts _ q909) ((xnC hWK g q942).use rfl) hq9 hv9 hc9 ?_
      refine lv_astore (lv' := [(8, .ref q9), (0, .ref (ad (0, 0))), (1, .int member), (2, .int machine), (3, .int on), (4, .int start), (5, .int minutes), (6, .int work), (7, .ref o)]) hx hb dX0_check_21 hl (by decide) rfl (fun ls hl => ?_)
      refine lv_iconst (v := 1) hx hb dX0_check_23 (by decide) ?_
      exact vx_ret (xr_Ci hx hb hr hlocks (by rw [e1]; rfl) ⟨ad, z9, f, by rw [e1]; exact hR, rfl, hO, fun c => by rw [e1] at c; cases c⟩ hS (by first | omega | decide) (by first | omega | decide) dX0_check_24)
    · rw [e1] at hX
      obtain ⟨rfl, -, z9, hR⟩ := hX
      refine xw_catch (name := xExn 1) hown [(0, 18, 21, 28), (0, 18, 25, 13)] (by rw [htb]; rfl) 1 rfl (fun i hi r hr9 => by rcases (show i = 0 by omega) with hi0 <;> subst hi0 <;> cases hr9 <;> first | exact ⟨by decide, xExn 4, hts _ q909, xNcAt (i := 1) (j := 4) hWK g2.2 (by decide) (by decide) (by decide) (by decide) (by decide)⟩) (by decide) (by decide) (by decide) (hts _ q749) ((xnC hWK g q131).use rfl) hq9 hv9 hc9 ?_
      refine lv_astore (lv' := [(8, .ref q9), (0, .ref (ad (0, 0))), (1, .int member), (2, .int machine), (3, .int on), (4, .int start), (5, .int minutes), (6, .int work), (7, .ref o)]) hx hb dX0_check_25 hl (by decide) rfl (fun ls hl => ?_)
      refine lv_iconst (v := 2) hx hb dX0_check_27 (by decide) ?_
      exact vx_ret (xr_Ci hx hb hr hlocks (by rw [e1]; rfl) ⟨ad, z9, f, by rw [e1]; exact hR, rfl, hO, fun c => by rw [e1] at c; cases c⟩ hS (by first | omega | decide) (by first | omega | decide) dX0_check_28)
  · have hO := hO.kept (hk o hO.lt (fun c => c.2 rfl))
    have hS := xS.more (A := A) hS (fun q c => c.1)
    obtain ⟨e1, ad9, z9, hR, e2⟩ := hP
    refine lv_i2l hx hb dX0_check_16 rfl ?_
    refine x_last hx hb hK hS hO hA9 (⟨by unfold vp_in; decide, by decide⟩ : xi 0 0 1) dX0_check_17 (fun H locs hat hof hS => ?_)
    refine lv_goto (tgt := 29) hx hb dX0_check_18 (by decide) ?_
    refine lv_iconst (v := 0) hx hb dX0_check_29 (by decide) ?_
    exact vx_ret (xr_Ci hx hb hr hlocks (by rw [e1]; rfl) ⟨ad9, z9, _, by rw [e1]; exact hR.off (fun k i b e hb hi he c => (hR.A k i hb hi he).2 c) hof, e2, hat, fun _ => rfl⟩ hS (by first | omega | decide) (by first | omega | decide) dX0_check_30)
theorem xX0_cancel {l : Launch} {G : xG} {s0 : State} {b0 : Nat} (g2 : xG2 l G s0 b0) {A : Nat → Prop} {S : xS} {ad : Nat × Nat → Nat} {z : xZ} (o : Nat) (f : Nat → Value) (entry : Int32) (hW : xW S) (hA : ∃ rk, rkOK S.2.1 rk ∧ ∀ i, rk i < 4) (hT : xTd S) (hC : (xCancel S entry).1 = 0 ∨ (xCancel S entry).1 = 3 ∨ (xCancel S entry).1 = 2) : vx_Met l yX0_cancel (wsW_ yX0_cancel cX0_cancel 4 (some .int) [(0, 9, 12, 42), (0, 9, 15, 15)]) ({ frames := 15, cells := 1, slots := 6, locals := 430 } : Room) (xP s0 A [.ref (ad (0, 0)), .int entry, .ref o] (fun H => xRX G (xA1 A o) S ad z H ∧ xat G o (xA 1 1 f) H ∧ A o)) (xQc (some (.int (xCd [3, 2] (xCancel S entry).1))) (fun _ H => ∃ ad9 z9 f9, xRX G (xA1 A o) (if (xCancel S entry).1 = 0 then (xCancel S entry).2.2 else S) ad9 z9 H ∧ ad9 (0, 0) = ad (0, 0) ∧ xat G o (xA 1 1 f9) H ∧ ((xCancel S entry).1 = 0 → f9 0 = .long (xCancel S entry).2.1.toInt64)) A) (xXc (fun _ _ _ => False) A) 1 6 A := by
  refine vx_ofWH (cc := cX0_cancel) (maxL := 4) (ret := (some .int)) (by decide) rfl ?_
  intro p e s m args below meth c s₁ B hml hv
  obtain ⟨rfl, hWK, hR, hO, hA9⟩ := hv
  have g := g2.1.1
  have hx := B.exec
  have hb := B.bytes
  have hr := B.returns
  have hts := atoms_spec (ws := wsW_ yX0_cancel cX0_cancel 4 (some .int) [(0, 9, 12, 42), (0, 9, 15, 15)]) B.pre
  have htb := vx_table (x := yX0_cancel) B (hts _ List.mem_cons_self)
  have hts : ∀ w ∈ lw_all, w.before _ s = true := fun w h => hts w (List.mem_cons_of_mem _ h)
  have hown : s.vm.findClass "LendlatheLaw" = some m.cls := findClass_of_methodNamed B.named
  have hlocks := B.notSynchronized
  have hK := hWK.K g
  have F : CallFix p m c cX0_cancel 4 s _ lw_all "LendlatheLaw" := ⟨hx, hb, hml, hown, hts⟩
  have hWK1 := hWK.less hO.lt
  have hS1 : va_S (xA1 A o) s.heap s.heap [] := va_S.rf
  have hl := lv_entry ([.ref (ad (0, 0)), .int entry, .ref o]) (n := 4) (Nat.le_of_ble_eq_true rfl)
  rw [lg_entry_eq]
  generalize (lg_sl ([.ref (ad (0, 0)), .int entry, .ref o]) ++ List.replicate (4 - (lg_sl ([.ref (ad (0, 0)), .int entry, .ref o])).length) Slot.unset).toArray = ls at hl ⊢
  have hl : lv_has ls 4 [(0, .ref (ad (0, 0))), (1, .int entry), (2, .ref o)] := hl
  refine lv_aload_n hx hb dX0_cancel_0 rfl (lv_at hl 2 rfl) ?_
  refine lv_iconst (v := 0) hx hb dX0_cancel_1 (by decide) ?_
  refine lv_aload_n hx hb dX0_cancel_2 rfl (lv_at hl 0 rfl) ?_
  refine lv_iload_n hx hb dX0_cancel_3 rfl (lv_at hl 1 rfl) ?_
  refine xc_X (vx_runV (As := [.int entry]) (rest := [.int 0, .ref o]) F (xX1_cancel g2.1 (A := xA1 A o) (S := S) (ad := ad) (z := z) entry hW hA hT) (cwV 1 hts (lw_V q1117 q1118 q1119 q56 q1120) rfl rfl rfl hdV_X1_cancel ⟨Nat.le_of_ble_eq_true rfl, Nat.le_of_ble_eq_true rfl⟩) (xpreV (xrecv hK (xw_0 hR) rfl) hWK1 hS1 hR) rfl rfl hl.1 rfl (lv_room (Nat.le_of_ble_eq_true rfl)) dX0_cancel_4 ⟨Nat.le_of_ble_eq_true rfl, Nat.le_of_ble_eq_true rfl⟩) hS1 (fun E ce q9 H locs hX hz hk hS hq9 hv9 hc9 => ?_) (fun H locs hP hz hk hS => ?_)
  · have hO := hO.kept (hk o hO.lt (fun c => c.2 rfl))
    have hS := xS.more (A := A) hS (fun q c => c.1)
    rcases hC with e1 | e1 | e1
    · exact absurd e1 hX.2.1
    · rw [e1] at hX
      obtain ⟨rfl, -, z9, hR⟩ := hX
      refine xw_catch (name := xExn 3) hown [(0, 9, 12, 42), (0, 9, 15, 15)] (by rw [htb]; rfl) 0 rfl (fun i hi => absurd hi (Nat.not_lt_zero i)) (by decide) (by decide) (by decide) (hts _ q994) ((xnC hWK g q572).use rfl) hq9 hv9 hc9 ?_
      refine lv_astore_n (lv' := [(3, .ref q9), (0, .ref (ad (0, 0))), (1, .int entry), (2, .ref o)]) hx hb dX0_cancel_12 rfl hl (by decide) rfl (fun ls hl => ?_)
      refine lv_iconst (v := 1) hx hb dX0_cancel_13 (by decide) ?_
      exact vx_ret (xr_Ci hx hb hr hlocks (by rw [e1]; rfl) ⟨ad, z9, f, by rw [e1]; exact hR, rfl, hO, fun c => by rw [e1] at c; cases c⟩ hS (by first | omega | decide) (by first | omega | decide) dX0_cancel_14)
    · rw [e1] at hX
      obtain ⟨rfl, -, z9, hR⟩ := hX
      refine xw_catch (name := xExn 2) hown [(0, 9, 12, 42), (0, 9, 15, 15)] (by rw [htb]; rfl) 1 rfl (fun i hi r hr9 => by rcases (show i = 0 by omega) with hi0 <;> subst hi0 <;> cases hr9 <;> first | exact ⟨by decide, xExn 3, hts _ q994, xNcAt (i := 2) (j := 3) hWK g2.2 (by decide) (by decide) (by decide) (by decide) (by decide)⟩) (by decide) (by decide) (by decide) (hts _ q750) ((xnC hWK g q774).use rfl) hq9 hv9 hc9 ?_
      refine lv_astore_n (lv' := [(3, .ref q9), (0, .ref (ad (0, 0))), (1, .int entry), (2, .ref o)]) hx hb dX0_cancel_15 rfl hl (by decide) rfl (fun ls hl => ?_)
      refine lv_iconst (v := 2) hx hb dX0_cancel_16 (by decide) ?_
      exact vx_ret (xr_Ci hx hb hr hlocks (by rw [e1]; rfl) ⟨ad, z9, f, by rw [e1]; exact hR, rfl, hO, fun c => by rw [e1] at c; cases c⟩ hS (by first | omega | decide) (by first | omega | decide) dX0_cancel_17)
  · have hO := hO.kept (hk o hO.lt (fun c => c.2 rfl))
    have hS := xS.more (A := A) hS (fun q c => c.1)
    obtain ⟨e1, ad9, z9, hR, e2⟩ := hP
    refine lv_i2l hx hb dX0_cancel_7 rfl ?_
    refine x_last hx hb hK hS hO hA9 (⟨by unfold vp_in; decide, by decide⟩ : xi 0 0 1) dX0_cancel_8 (fun H locs hat hof hS => ?_)
    refine lv_goto (tgt := 18) hx hb dX0_cancel_9 (by decide) ?_
    refine lv_iconst (v := 0) hx hb dX0_cancel_18 (by decide) ?_
    exact vx_ret (xr_Ci hx hb hr hlocks (by rw [e1]; rfl) ⟨ad9, z9, _, by rw [e1]; exact hR.off (fun k i b e hb hi he c => (hR.A k i hb hi he).2 c) hof, e2, hat, fun _ => rfl⟩ hS (by first | omega | decide) (by first | omega | decide) dX0_cancel_19)
theorem xX0_stateOf {l : Launch} {G : xG} {s0 : State} {b0 : Nat} (g2 : xG2 l G s0 b0) {A : Nat → Prop} {S : xS} {ad : Nat × Nat → Nat} {z : xZ} (o : Nat) (f : Nat → Value) (entry : Int32) (hW : xW S) (hC : (xStateOf S entry).1 = 0 ∨ (xStateOf S entry).1 = 3) : vx_Met l yX0_stateOf (wsW_ yX0_stateOf cX0_stateOf 4 (some .int) [(0, 9, 12, 42)]) ({ frames := 9, cells := 1, slots := 6, locals := 156 } : Room) (xP s0 A [.ref (ad (0, 0)), .int entry, .ref o] (fun H => xRX G (xA1 A o) S ad z H ∧ xat G o (xA 1 1 f) H ∧ A o)) (xQc (some (.int (xCd [3] (xStateOf S entry).1))) (fun _ H => ∃ ad9 z9 f9, xRX G (xA1 A o) (if (xStateOf S entry).1 = 0 then (xStateOf S entry).2.2 else S) ad9 z9 H ∧ ad9 (0, 0) = ad (0, 0) ∧ xat G o (xA 1 1 f9) H ∧ ((xStateOf S entry).1 = 0 → f9 0 = .long (xStateOf S entry).2.1.toInt64)) A) (xXc (fun _ _ _ => False) A) 1 6 A := by
  refine vx_ofWH (cc := cX0_stateOf) (maxL := 4) (ret := (some .int)) (by decide) rfl ?_
  intro p e s m args below meth c s₁ B hml hv
  obtain ⟨rfl, hWK, hR, hO, hA9⟩ := hv
  have g := g2.1.1
  have hx := B.exec
  have hb := B.bytes
  have hr := B.returns
  have hts := atoms_spec (ws := wsW_ yX0_stateOf cX0_stateOf 4 (some .int) [(0, 9, 12, 42)]) B.pre
  have htb := vx_table (x := yX0_stateOf) B (hts _ List.mem_cons_self)
  have hts : ∀ w ∈ lw_all, w.before _ s = true := fun w h => hts w (List.mem_cons_of_mem _ h)
  have hown : s.vm.findClass "LendlatheLaw" = some m.cls := findClass_of_methodNamed B.named
  have hlocks := B.notSynchronized
  have hK := hWK.K g
  have F : CallFix p m c cX0_stateOf 4 s _ lw_all "LendlatheLaw" := ⟨hx, hb, hml, hown, hts⟩
  have hWK1 := hWK.less hO.lt
  have hS1 : va_S (xA1 A o) s.heap s.heap [] := va_S.rf
  have hl := lv_entry ([.ref (ad (0, 0)), .int entry, .ref o]) (n := 4) (Nat.le_of_ble_eq_true rfl)
  rw [lg_entry_eq]
  generalize (lg_sl ([.ref (ad (0, 0)), .int entry, .ref o]) ++ List.replicate (4 - (lg_sl ([.ref (ad (0, 0)), .int entry, .ref o])).length) Slot.unset).toArray = ls at hl ⊢
  have hl : lv_has ls 4 [(0, .ref (ad (0, 0))), (1, .int entry), (2, .ref o)] := hl
  refine lv_aload_n hx hb dX0_stateOf_0 rfl (lv_at hl 2 rfl) ?_
  refine lv_iconst (v := 0) hx hb dX0_stateOf_1 (by decide) ?_
  refine lv_aload_n hx hb dX0_stateOf_2 rfl (lv_at hl 0 rfl) ?_
  refine lv_iload_n hx hb dX0_stateOf_3 rfl (lv_at hl 1 rfl) ?_
  refine xc_X (vx_runV (As := [.int entry]) (rest := [.int 0, .ref o]) F (xX1_stateOf g2.1 (A := xA1 A o) (S := S) (ad := ad) (z := z) entry hW) (cwV 1 hts (lw_V q1149 q1150 q1151 q56 q1152) rfl rfl rfl hdV_X1_stateOf ⟨Nat.le_of_ble_eq_true rfl, Nat.le_of_ble_eq_true rfl⟩) (xpreV (xrecv hK (xw_0 hR) rfl) hWK1 hS1 hR) rfl rfl hl.1 rfl (lv_room (Nat.le_of_ble_eq_true rfl)) dX0_stateOf_4 ⟨Nat.le_of_ble_eq_true rfl, Nat.le_of_ble_eq_true rfl⟩) hS1 (fun E ce q9 H locs hX hz hk hS hq9 hv9 hc9 => ?_) (fun H locs hP hz hk hS => ?_)
  · have hO := hO.kept (hk o hO.lt (fun c => c.2 rfl))
    have hS := xS.more (A := A) hS (fun q c => c.1)
    rcases hC with e1 | e1
    · exact absurd e1 hX.2.1
    · rw [e1] at hX
      obtain ⟨rfl, -, z9, hR⟩ := hX
      refine xw_catch (name := xExn 3) hown [(0, 9, 12, 42)] (by rw [htb]; rfl) 0 rfl (fun i hi => absurd hi (Nat.not_lt_zero i)) (by decide) (by decide) (by decide) (hts _ q994) ((xnC hWK g q572).use rfl) hq9 hv9 hc9 ?_
      refine lv_astore_n (lv' := [(3, .ref q9), (0, .ref (ad (0, 0))), (1, .int entry), (2, .ref o)]) hx hb dX0_stateOf_12 rfl hl (by decide) rfl (fun ls hl => ?_)
      refine lv_iconst (v := 1) hx hb dX0_stateOf_13 (by decide) ?_
      exact vx_ret (xr_Ci hx hb hr hlocks (by rw [e1]; rfl) ⟨ad, z9, f, by rw [e1]; exact hR, rfl, hO, fun c => by rw [e1] at c; cases c⟩ hS (by first | omega | decide) (by first | omega | decide) dX0_stateOf_14)
  · have hO := hO.kept (hk o hO.lt (fun c => c.2 rfl))
    have hS := xS.more (A := A) hS (fun q c => c.1)
    obtain ⟨e1, ad9, z9, hR, e2⟩ := hP
    refine lv_i2l hx hb dX0_stateOf_7 rfl ?_
    refine x_last hx hb hK hS hO hA9 (⟨by unfold vp_in; decide, by decide⟩ : xi 0 0 1) dX0_stateOf_8 (fun H locs hat hof hS => ?_)
    refine lv_goto (tgt := 15) hx hb dX0_stateOf_9 (by decide) ?_
    refine lv_iconst (v := 0) hx hb dX0_stateOf_15 (by decide) ?_
    exact vx_ret (xr_Ci hx hb hr hlocks (by rw [e1]; rfl) ⟨ad9, z9, _, by rw [e1]; exact hR.off (fun k i b e hb hi he c => (hR.A k i hb hi he).2 c) hof, e2, hat, fun _ => rfl⟩ hS (by first | omega | decide) (by first | omega | decide) dX0_stateOf_16)
theorem xX0_endDay {l : Launch} {G : xG} {s0 : State} {b0 : Nat} (g2 : xG2 l G s0 b0) {A : Nat → Prop} {S : xS} {ad : Nat × Nat → Nat} {z : xZ} (o : Nat) (f : Nat → Value)  (hW : xW S) (hA : ∃ rk, rkOK S.2.1 rk ∧ ∀ i, rk i < 4) (hT : xTd S) (hC : (xEndDay S).1 = 0 ∨ (xEndDay S).1 = 2) : vx_Met l yX0_endDay (wsW_ yX0_endDay cX0_endDay 3 (some .int) [(0, 8, 11, 15)]) ({ frames := 15, cells := 1, slots := 6, locals := 429 } : Room) (xP s0 A [.ref (ad (0, 0)), .ref o] (fun H => xRX G (xA1 A o) S ad z H ∧ xat G o (xA 1 1 f) H ∧ A o)) (xQc (some (.int (xCd [2] (xEndDay S).1))) (fun _ H => ∃ ad9 z9 f9, xRX G (xA1 A o) (if (xEndDay S).1 = 0 then (xEndDay S).2.2 else S) ad9 z9 H ∧ ad9 (0, 0) = ad (0, 0) ∧ xat G o (xA 1 1 f9) H ∧ ((xEndDay S).1 = 0 → f9 0 = .long (xEndDay S).2.1.toInt64)) A) (xXc (fun _ _ _ => False) A) 1 6 A := by
  refine vx_ofWH (cc := cX0_endDay) (maxL := 3) (ret := (some .int)) (by decide) rfl ?_
  intro p e s m args below meth c s₁ B hml hv
  obtain ⟨rfl, hWK, hR, hO, hA9⟩ := hv
  have g := g2.1.1
  have hx := B.exec
  have hb := B.bytes
  have hr := B.returns
  have hts := atoms_spec (ws := wsW_ yX0_endDay cX0_endDay 3 (some .int) [(0, 8, 11, 15)]) B.pre
  have htb := vx_table (x := yX0_endDay) B (hts _ List.mem_cons_self)
  have hts : ∀ w ∈ lw_all, w.before _ s = true := fun w h => hts w (List.mem_cons_of_mem _ h)
  have hown : s.vm.findClass "LendlatheLaw" = some m.cls := findClass_of_methodNamed B.named
  have hlocks := B.notSynchronized
  have hK := hWK.K g
  have F : CallFix p m c cX0_endDay 3 s _ lw_all "LendlatheLaw" := ⟨hx, hb, hml, hown, hts⟩
  have hWK1 := hWK.less hO.lt
  have hS1 : va_S (xA1 A o) s.heap s.heap [] := va_S.rf
  have hl := lv_entry ([.ref (ad (0, 0)), .ref o]) (n := 3) (Nat.le_of_ble_eq_true rfl)
  rw [lg_entry_eq]
  generalize (lg_sl ([.ref (ad (0, 0)), .ref o]) ++ List.replicate (3 - (lg_sl ([.ref (ad (0, 0)), .ref o])).length) Slot.unset).toArray = ls at hl ⊢
  have hl : lv_has ls 3 [(0, .ref (ad (0, 0))), (1, .ref o)] := hl
  refine lv_aload_n hx hb dX0_endDay_0 rfl (lv_at hl 1 rfl) ?_
  refine lv_iconst (v := 0) hx hb dX0_endDay_1 (by decide) ?_
  refine lv_aload_n hx hb dX0_endDay_2 rfl (lv_at hl 0 rfl) ?_
  refine xc_X (vx_runV (As := []) (rest := [.int 0, .ref o]) F (xX1_endDay g2.1 (A := xA1 A o) (S := S) (ad := ad) (z := z) hW hA hT) (cwV 0 hts (lw_V q1156 q1157 q1158 q56 q1159) rfl rfl rfl hdV_X1_endDay ⟨Nat.le_of_ble_eq_true rfl, Nat.le_of_ble_eq_true rfl⟩) (xpreV (xrecv hK (xw_0 hR) rfl) hWK1 hS1 hR) rfl rfl hl.1 rfl (lv_room (Nat.le_of_ble_eq_true rfl)) dX0_endDay_3 ⟨Nat.le_of_ble_eq_true rfl, Nat.le_of_ble_eq_true rfl⟩) hS1 (fun E ce q9 H locs hX hz hk hS hq9 hv9 hc9 => ?_) (fun H locs hP hz hk hS => ?_)
  · have hO := hO.kept (hk o hO.lt (fun c => c.2 rfl))
    have hS := xS.more (A := A) hS (fun q c => c.1)
    rcases hC with e1 | e1
    · exact absurd e1 hX.2.1
    · rw [e1] at hX
      obtain ⟨rfl, -, z9, hR⟩ := hX
      refine xw_catch (name := xExn 2) hown [(0, 8, 11, 15)] (by rw [htb]; rfl) 0 rfl (fun i hi => absurd hi (Nat.not_lt_zero i)) (by decide) (by decide) (by decide) (hts _ q750) ((xnC hWK g q774).use rfl) hq9 hv9 hc9 ?_
      refine lv_astore_n (lv' := [(2, .ref q9), (0, .ref (ad (0, 0))), (1, .ref o)]) hx hb dX0_endDay_11 rfl hl (by decide) rfl (fun ls hl => ?_)
      refine lv_iconst (v := 1) hx hb dX0_endDay_12 (by decide) ?_
      exact vx_ret (xr_Ci hx hb hr hlocks (by rw [e1]; rfl) ⟨ad, z9, f, by rw [e1]; exact hR, rfl, hO, fun c => by rw [e1] at c; cases c⟩ hS (by first | omega | decide) (by first | omega | decide) dX0_endDay_13)
  · have hO := hO.kept (hk o hO.lt (fun c => c.2 rfl))
    have hS := xS.more (A := A) hS (fun q c => c.1)
    obtain ⟨e1, ad9, z9, hR, e2⟩ := hP
    refine lv_i2l hx hb dX0_endDay_6 rfl ?_
    refine x_last hx hb hK hS hO hA9 (⟨by unfold vp_in; decide, by decide⟩ : xi 0 0 1) dX0_endDay_7 (fun H locs hat hof hS => ?_)
    refine lv_goto (tgt := 14) hx hb dX0_endDay_8 (by decide) ?_
    refine lv_iconst (v := 0) hx hb dX0_endDay_14 (by decide) ?_
    exact vx_ret (xr_Ci hx hb hr hlocks (by rw [e1]; rfl) ⟨ad9, z9, _, by rw [e1]; exact hR.off (fun k i b e hb hi he c => (hR.A k i hb hi he).2 c) hof, e2, hat, fun _ => rfl⟩ hS (by first | omega | decide) (by first | omega | decide) dX0_endDay_15)
theorem xX0_minuteAt {l : Launch} {G : xG} {s0 : State} {b0 : Nat} (g2 : xG2 l G s0 b0) {A : Nat → Prop} {S : xS} {ad : Nat × Nat → Nat} {z : xZ} (o : Nat) (f : Nat → Value) (machine on minute : Int32) (hW : xW S) (hC : (xMinuteAt S machine on minute).1 = 0 ∨ (xMinuteAt S machine on minute).1 = 4 ∨ (xMinuteAt S machine on minute).1 = 1) : vx_Met l yX0_minuteAt (wsW_ yX0_minuteAt cX0_minuteAt 6 (some .int) [(0, 12, 15, 28), (0, 12, 19, 13)]) ({ frames := 9, cells := 1, slots := 6, locals := 159 } : Room) (xP s0 A [.ref (ad (0, 0)), .int machine, .int on, .int minute, .ref o] (fun H => xRX G (xA1 A o) S ad z H ∧ xat G o (xA 1 1 f) H ∧ A o)) (xQc (some (.int (xCd [4, 1] (xMinuteAt S machine on minute).1))) (fun _ H => ∃ ad9 z9 f9, xRX G (xA1 A o) (if (xMinuteAt S machine on minute).1 = 0 then (xMinuteAt S machine on minute).2.2 else S) ad9 z9 H ∧ ad9 (0, 0) = ad (0, 0) ∧ xat G o (xA 1 1 f9) H ∧ ((xMinuteAt S machine on minute).1 = 0 → f9 0 = .long (xMinuteAt S machine on minute).2.1.toInt64)) A) (xXc (fun _ _ _ => False) A) 1 6 A := by
  refine vx_ofWH (cc := cX0_minuteAt) (maxL := 6) (ret := (some .int)) (by decide) rfl ?_
  intro p e s m args below meth c s₁ B hml hv
  obtain ⟨rfl, hWK, hR, hO, hA9⟩ := hv
  have g := g2.1.1
  have hx := B.exec
  have hb := B.bytes
  have hr := B.returns
  have hts := atoms_spec (ws := wsW_ yX0_minuteAt cX0_minuteAt 6 (some .int) [(0, 12, 15, 28), (0, 12, 19, 13)]) B.pre
  have htb := vx_table (x := yX0_minuteAt) B (hts _ List.mem_cons_self)
  have hts : ∀ w ∈ lw_all, w.before _ s = true := fun w h => hts w (List.mem_cons_of_mem _ h)
  have hown : s.vm.findClass "LendlatheLaw" = some m.cls := findClass_of_methodNamed B.named
  have hlocks := B.notSynchronized
  have hK := hWK.K g
  have F : CallFix p m c cX0_minuteAt 6 s _ lw_all "LendlatheLaw" := ⟨hx, hb, hml, hown, hts⟩
  have hWK1 := hWK.less hO.lt
  have hS1 : va_S (xA1 A o) s.heap s.heap [] := va_S.rf
  have hl := lv_entry ([.ref (ad (0, 0)), .int machine, .int on, .int minute, .ref o]) (n := 6) (Nat.le_of_ble_eq_true rfl)
  rw [lg_entry_eq]
  generalize (lg_sl ([.ref (ad (0, 0)), .int machine, .int on, .int minute, .ref o]) ++ List.replicate (6 - (lg_sl ([.ref (ad (0, 0)), .int machine, .int on, .int minute, .ref o])).length) Slot.unset).toArray = ls at hl ⊢
  have hl : lv_has ls 6 [(0, .ref (ad (0, 0))), (1, .int machine), (2, .int on), (3, .int minute), (4, .ref o)] := hl
  refine lv_aload hx hb dX0_minuteAt_0 (lv_at hl 4 rfl) ?_
  refine lv_iconst (v := 0) hx hb dX0_minuteAt_2 (by decide) ?_
  refine lv_aload_n hx hb dX0_minuteAt_3 rfl (lv_at hl 0 rfl) ?_
  refine lv_iload_n hx hb dX0_minuteAt_4 rfl (lv_at hl 1 rfl) ?_
  refine lv_iload_n hx hb dX0_minuteAt_5 rfl (lv_at hl 2 rfl) ?_
  refine lv_iload_n hx hb dX0_minuteAt_6 rfl (lv_at hl 3 rfl) ?_
  refine xc_X (vx_runV (As := [.int machine, .int on, .int minute]) (rest := [.int 0, .ref o]) F (xX1_minuteAt g2.1 (A := xA1 A o) (S := S) (ad := ad) (z := z) machine on minute hW) (cwV 3 hts (lw_V q1171 q1172 q1173 q56 q1174) rfl rfl rfl hdV_X1_minuteAt ⟨Nat.le_of_ble_eq_true rfl, Nat.le_of_ble_eq_true rfl⟩) (xpreV (xrecv hK (xw_0 hR) rfl) hWK1 hS1 hR) rfl rfl hl.1 rfl (lv_room (Nat.le_of_ble_eq_true rfl)) dX0_minuteAt_7 ⟨Nat.le_of_ble_eq_true rfl, Nat.le_of_ble_eq_true rfl⟩) hS1 (fun E ce q9 H locs hX hz hk hS hq9 hv9 hc9 => ?_) (fun H locs hP hz hk hS => ?_)
  · have hO := hO.kept (hk o hO.lt (fun c => c.2 rfl))
    have hS := xS.more (A := A) hS (fun q c => c.1)
    rcases hC with e1 | e1 | e1
    · exact absurd e1 hX.2.1
    · rw [e1] at hX
      obtain ⟨rfl, -, z9, hR⟩ := hX
      refine xw_catch (name := xExn 4) hown [(0, 12, 15, 28), (0, 12, 19, 13)] (by rw [htb]; rfl) 0 rfl (fun i hi => absurd hi (Nat.not_lt_zero i)) (by decide) (by decide) (by decide) (hts _ q909) ((xnC hWK g q942).use rfl) hq9 hv9 hc9 ?_
      refine lv_astore (lv' := [(5, .ref q9), (0, .ref (ad (0, 0))), (1, .int machine), (2, .int on), (3, .int minute), (4, .ref o)]) hx hb dX0_minuteAt_15 hl (by decide) rfl (fun ls hl => ?_)
      refine lv_iconst (v := 1) hx hb dX0_minuteAt_17 (by decide) ?_
      exact vx_ret (xr_Ci hx hb hr hlocks (by rw [e1]; rfl) ⟨ad, z9, f, by rw [e1]; exact hR, rfl, hO, fun c => by rw [e1] at c; cases c⟩ hS (by first | omega | decide) (by first | omega | decide) dX0_minuteAt_18)
    · rw [e1] at hX
      obtain ⟨rfl, -, z9, hR⟩ := hX
      refine xw_catch (name := xExn 1) hown [(0, 12, 15, 28), (0, 12, 19, 13)] (by rw [htb]; rfl) 1 rfl (fun i hi r hr9 => by rcases (show i = 0 by omega) with hi0 <;> subst hi0 <;> cases hr9 <;> first | exact ⟨by decide, xExn 4, hts _ q909, xNcAt (i := 1) (j := 4) hWK g2.2 (by decide) (by decide) (by decide) (by decide) (by decide)⟩) (by decide) (by decide) (by decide) (hts _ q749) ((xnC hWK g q131).use rfl) hq9 hv9 hc9 ?_
      refine lv_astore (lv' := [(5, .ref q9), (0, .ref (ad (0, 0))), (1, .int machine), (2, .int on), (3, .int minute), (4, .ref o)]) hx hb dX0_minuteAt_19 hl (by decide) rfl (fun ls hl => ?_)
      refine lv_iconst (v := 2) hx hb dX0_minuteAt_21 (by decide) ?_
      exact vx_ret (xr_Ci hx hb hr hlocks (by rw [e1]; rfl) ⟨ad, z9, f, by rw [e1]; exact hR, rfl, hO, fun c => by rw [e1] at c; cases c⟩ hS (by first | omega | decide) (by first | omega | decide) dX0_minuteAt_22)
  · have hO := hO.kept (hk o hO.lt (fun c => c.2 rfl))
    have hS := xS.more (A := A) hS (fun q c => c.1)
    obtain ⟨e1, ad9, z9, hR, e2⟩ := hP
    refine lv_i2l hx hb dX0_minuteAt_10 rfl ?_
    refine x_last hx hb hK hS hO hA9 (⟨by unfold vp_in; decide, by decide⟩ : xi 0 0 1) dX0_minuteAt_11 (fun H locs hat hof hS => ?_)
    refine lv_goto (tgt := 23) hx hb dX0_minuteAt_12 (by decide) ?_
    refine lv_iconst (v := 0) hx hb dX0_minuteAt_23 (by decide) ?_
    exact vx_ret (xr_Ci hx hb hr hlocks (by rw [e1]; rfl) ⟨ad9, z9, _, by rw [e1]; exact hR.off (fun k i b e hb hi he c => (hR.A k i hb hi he).2 c) hof, e2, hat, fun _ => rfl⟩ hS (by first | omega | decide) (by first | omega | decide) dX0_minuteAt_24)
theorem xX0_usedMinutes {l : Launch} {G : xG} {s0 : State} {b0 : Nat} (g2 : xG2 l G s0 b0) {A : Nat → Prop} {S : xS} {ad : Nat × Nat → Nat} {z : xZ} (o : Nat) (f : Nat → Value) (machine on : Int32) (hW : xW S) (hC : (xUsedMinutes S machine on).1 = 0 ∨ (xUsedMinutes S machine on).1 = 4 ∨ (xUsedMinutes S machine on).1 = 1) : vx_Met l yX0_usedMinutes (wsW_ yX0_usedMinutes cX0_usedMinutes 5 (some .int) [(0, 10, 13, 28), (0, 10, 17, 13)]) ({ frames := 9, cells := 1, slots := 6, locals := 158 } : Room) (xP s0 A [.ref (ad (0, 0)), .int machine, .int on, .ref o] (fun H => xRX G (xA1 A o) S ad z H ∧ xat G o (xA 1 1 f) H ∧ A o)) (xQc (some (.int (xCd [4, 1] (xUsedMinutes S machine on).1))) (fun _ H => ∃ ad9 z9 f9, xRX G (xA1 A o) (if (xUsedMinutes S machine on).1 = 0 then (xUsedMinutes S machine on).2.2 else S) ad9 z9 H ∧ ad9 (0, 0) = ad (0, 0) ∧ xat G o (xA 1 1 f9) H ∧ ((xUsedMinutes S machine on).1 = 0 → f9 0 = .long (xUsedMinutes S machine on).2.1.toInt64)) A) (xXc (fun _ _ _ => False) A) 1 6 A := by
  refine vx_ofWH (cc := cX0_usedMinutes) (maxL := 5) (ret := (some .int)) (by decide) rfl ?_
  intro p e s m args below meth c s₁ B hml hv
  obtain ⟨rfl, hWK, hR, hO, hA9⟩ := hv
  have g := g2.1.1
  have hx := B.exec
  have hb := B.bytes
  have hr := B.returns
  have hts := atoms_spec (ws := wsW_ yX0_usedMinutes cX0_usedMinutes 5 (some .int) [(0, 10, 13, 28), (0, 10, 17, 13)]) B.pre
  have htb := vx_table (x := yX0_usedMinutes) B (hts _ List.mem_cons_self)
  have hts : ∀ w ∈ lw_all, w.before _ s = true := fun w h => hts w (List.mem_cons_of_mem _ h)
  have hown : s.vm.findClass "LendlatheLaw" = some m.cls := findClass_of_methodNamed B.named
  have hlocks := B.notSynchronized
  have hK := hWK.K g
  have F : CallFix p m c cX0_usedMinutes 5 s _ lw_all "LendlatheLaw" := ⟨hx, hb, hml, hown, hts⟩
  have hWK1 := hWK.less hO.lt
  have hS1 : va_S (xA1 A o) s.heap s.heap [] := va_S.rf
  have hl := lv_entry ([.ref (ad (0, 0)), .int machine, .int on, .ref o]) (n := 5) (Nat.le_of_ble_eq_true rfl)
  rw [lg_entry_eq]
  generalize (lg_sl ([.ref (ad (0, 0)), .int machine, .int on, .ref o]) ++ List.replicate (5 - (lg_sl ([.ref (ad (0, 0)), .int machine, .int on, .ref o])).length) Slot.unset).toArray = ls at hl ⊢
  have hl : lv_has ls 5 [(0, .ref (ad (0, 0))), (1, .int machine), (2, .int on), (3, .ref o)] := hl
  refine lv_aload_n hx hb dX0_usedMinutes_0 rfl (lv_at hl 3 rfl) ?_
  refine lv_iconst (v := 0) hx hb dX0_usedMinutes_1 (by decide) ?_
  refine lv_aload_n hx hb dX0_usedMinutes_2 rfl (lv_at hl 0 rfl) ?_
  refine lv_iload_n hx hb dX0_usedMinutes_3 rfl (lv_at hl 1 rfl) ?_
  refine lv_iload_n hx hb dX0_usedMinutes_4 rfl (lv_at hl 2 rfl) ?_
  refine xc_X (vx_runV (As := [.int machine, .int on]) (rest := [.int 0, .ref o]) F (xX1_usedMinutes g2.1 (A := xA1 A o) (S := S) (ad := ad) (z := z) machine on hW) (cwV 2 hts (lw_V q1182 q1183 q1184 q56 q1185) rfl rfl rfl hdV_X1_usedMinutes ⟨Nat.le_of_ble_eq_true rfl, Nat.le_of_ble_eq_true rfl⟩) (xpreV (xrecv hK (xw_0 hR) rfl) hWK1 hS1 hR) rfl rfl hl.1 rfl (lv_room (Nat.le_of_ble_eq_true rfl)) dX0_usedMinutes_5 ⟨Nat.le_of_ble_eq_true rfl, Nat.le_of_ble_eq_true rfl⟩) hS1 (fun E ce q9 H locs hX hz hk hS hq9 hv9 hc9 => ?_) (fun H locs hP hz hk hS => ?_)
  · have hO := hO.kept (hk o hO.lt (fun c => c.2 rfl))
    have hS := xS.more (A := A) hS (fun q c => c.1)
    rcases hC with e1 | e1 | e1
    · exact absurd e1 hX.2.1
    · rw [e1] at hX
      obtain ⟨rfl, -, z9, hR⟩ := hX
      refine xw_catch (name := xExn 4) hown [(0, 10, 13, 28), (0, 10, 17, 13)] (by rw [htb]; rfl) 0 rfl (fun i hi => absurd hi (Nat.not_lt_zero i)) (by decide) (by decide) (by decide) (hts _ q909) ((xnC hWK g q942).use rfl) hq9 hv9 hc9 ?_
      refine lv_astore (lv' := [(4, .ref q9), (0, .ref (ad (0, 0))), (1, .int machine), (2, .int on), (3, .ref o)]) hx hb dX0_usedMinutes_13 hl (by decide) rfl (fun ls hl => ?_)
      refine lv_iconst (v := 1) hx hb dX0_usedMinutes_15 (by decide) ?_
      exact vx_ret (xr_Ci hx hb hr hlocks (by rw [e1]; rfl) ⟨ad, z9, f, by rw [e1]; exact hR, rfl, hO, fun c => by rw [e1] at c; cases c⟩ hS (by first | omega | decide) (by first | omega | decide) dX0_usedMinutes_16)
    · rw [e1] at hX
      obtain ⟨rfl, -, z9, hR⟩ := hX
      refine xw_catch (name := xExn 1) hown [(0, 10, 13, 28), (0, 10, 17, 13)] (by rw [htb]; rfl) 1 rfl (fun i hi r hr9 => by rcases (show i = 0 by omega) with hi0 <;> subst hi0 <;> cases hr9 <;> first | exact ⟨by decide, xExn 4, hts _ q909, xNcAt (i := 1) (j := 4) hWK g2.2 (by decide) (by decide) (by decide) (by decide) (by decide)⟩) (by decide) (by decide) (by decide) (hts _ q749) ((xnC hWK g q131).use rfl) hq9 hv9 hc9 ?_
      refine lv_astore (lv' := [(4, .ref q9), (0, .ref (ad (0, 0))), (1, .int machine), (2, .int on), (3, .ref o)]) hx hb dX0_usedMinutes_17 hl (by decide) rfl (fun ls hl => ?_)
      refine lv_iconst (v := 2) hx hb dX0_usedMinutes_19 (by decide) ?_
      exact vx_ret (xr_Ci hx hb hr hlocks (by rw [e1]; rfl) ⟨ad, z9, f, by rw [e1]; exact hR, rfl, hO, fun c => by rw [e1] at c; cases c⟩ hS (by first | omega | decide) (by first | omega | decide) dX0_usedMinutes_20)
  · have hO := hO.kept (hk o hO.lt (fun c => c.2 rfl))
    have hS := xS.more (A := A) hS (fun q c => c.1)
    obtain ⟨e1, ad9, z9, hR, e2⟩ := hP
    refine lv_i2l hx hb dX0_usedMinutes_8 rfl ?_
    refine x_last hx hb hK hS hO hA9 (⟨by unfold vp_in; decide, by decide⟩ : xi 0 0 1) dX0_usedMinutes_9 (fun H locs hat hof hS => ?_)
    refine lv_goto (tgt := 21) hx hb dX0_usedMinutes_10 (by decide) ?_
    refine lv_iconst (v := 0) hx hb dX0_usedMinutes_21 (by decide) ?_
    exact vx_ret (xr_Ci hx hb hr hlocks (by rw [e1]; rfl) ⟨ad9, z9, _, by rw [e1]; exact hR.off (fun k i b e hb hi he c => (hR.A k i hb hi he).2 c) hof, e2, hat, fun _ => rfl⟩ hS (by first | omega | decide) (by first | omega | decide) dX0_usedMinutes_22)
theorem xX0_usedByMinutes {l : Launch} {G : xG} {s0 : State} {b0 : Nat} (g2 : xG2 l G s0 b0) {A : Nat → Prop} {S : xS} {ad : Nat × Nat → Nat} {z : xZ} (o : Nat) (f : Nat → Value) (machine on : Int32) (hW : xW S) (hC : (xUsedByMinutes S machine on).1 = 0 ∨ (xUsedByMinutes S machine on).1 = 4 ∨ (xUsedByMinutes S machine on).1 = 1) : vx_Met l yX0_usedByMinutes (wsW_ yX0_usedByMinutes cX0_usedByMinutes 5 (some .int) [(0, 10, 13, 28), (0, 10, 17, 13)]) ({ frames := 9, cells := 1, slots := 6, locals := 171 } : Room) (xP s0 A [.ref (ad (0, 0)), .int machine, .int on, .ref o] (fun H => xRX G (xA1 A o) S ad z H ∧ xat G o (xA 1 1 f) H ∧ A o)) (xQc (some (.int (xCd [4, 1] (xUsedByMinutes S machine on).1))) (fun _ H => ∃ ad9 z9 f9, xRX G (xA1 A o) (if (xUsedByMinutes S machine on).1 = 0 then (xUsedByMinutes S machine on).2.2 else S) ad9 z9 H ∧ ad9 (0, 0) = ad (0, 0) ∧ xat G o (xA 1 1 f9) H ∧ ((xUsedByMinutes S machine on).1 = 0 → f9 0 = .long (xUsedByMinutes S machine on).2.1.toInt64)) A) (xXc (fun _ _ _ => False) A) 1 6 A := by
  refine vx_ofWH (cc := cX0_usedByMinutes) (maxL := 5) (ret := (some .int)) (by decide) rfl ?_
  intro p e s m args below meth c s₁ B hml hv
  obtain ⟨rfl, hWK, hR, hO, hA9⟩ := hv
  have g := g2.1.1
  have hx := B.exec
  have hb := B.bytes
  have hr := B.returns
  have hts := atoms_spec (ws := wsW_ yX0_usedByMinutes cX0_usedByMinutes 5 (some .int) [(0, 10, 13, 28), (0, 10, 17, 13)]) B.pre
  have htb := vx_table (x := yX0_usedByMinutes) B (hts _ List.mem_cons_self)
  have hts : ∀ w ∈ lw_all, w.before _ s = true := fun w h => hts w (List.mem_cons_of_mem _ h)
  have hown : s.vm.findClass "LendlatheLaw" = some m.cls := findClass_of_methodNamed B.named
  have hlocks := B.notSynchronized
  have hK := hWK.K g
  have F : CallFix p m c cX0_usedByMinutes 5 s _ lw_all "LendlatheLaw" := ⟨hx, hb, hml, hown, hts⟩
  have hWK1 := hWK.less hO.lt
  have hS1 : va_S (xA1 A o) s.heap s.heap [] := va_S.rf
  have hl := lv_entry ([.ref (ad (0, 0)), .int machine, .int on, .ref o]) (n := 5) (Nat.le_of_ble_eq_true rfl)
  rw [lg_entry_eq]
  generalize (lg_sl ([.ref (ad (0, 0)), .int machine, .int on, .ref o]) ++ List.replicate (5 - (lg_sl ([.ref (ad (0, 0)), .int machine, .int on, .ref o])).length) Slot.unset).toArray = ls at hl ⊢
  have hl : lv_has ls 5 [(0, .ref (ad (0, 0))), (1, .int machine), (2, .int on), (3, .ref o)] := hl
  refine lv_aload_n hx hb dX0_usedByMinutes_0 rfl (lv_at hl 3 rfl) ?_
  refine lv_iconst (v := 0) hx hb dX0_usedByMinutes_1 (by decide) ?_
  refine lv_aload_n hx hb dX0_usedByMinutes_2 rfl (lv_at hl 0 rfl) ?_
  refine lv_iload_n hx hb dX0_usedByMinutes_3 rfl (lv_at hl 1 rfl) ?_
  refine lv_iload_n hx hb dX0_usedByMinutes_4 rfl (lv_at hl 2 rfl) ?_
  refine xc_X (vx_runV (As := [.int machine, .int on]) (rest := [.int 0, .ref o]) F (xX1_usedByMinutes g2.1 (A := xA1 A o) (S := S) (ad := ad) (z := z) machine on hW) (cwV 2 hts (lw_V q1189 q1190 q1191 q56 q1192) rfl rfl rfl hdV_X1_usedByMinutes ⟨Nat.le_of_ble_eq_true rfl, Nat.le_of_ble_eq_true rfl⟩) (xpreV (xrecv hK (xw_0 hR) rfl) hWK1 hS1 hR) rfl rfl hl.1 rfl (lv_room (Nat.le_of_ble_eq_true rfl)) dX0_usedByMinutes_5 ⟨Nat.le_of_ble_eq_true rfl, Nat.le_of_ble_eq_true rfl⟩) hS1 (fun E ce q9 H locs hX hz hk hS hq9 hv9 hc9 => ?_) (fun H locs hP hz hk hS => ?_)
  · have hO := hO.kept (hk o hO.lt (fun c => c.2 rfl))
    have hS := xS.more (A := A) hS (fun q c => c.1)
    rcases hC with e1 | e1 | e1
    · exact absurd e1 hX.2.1
    · rw [e1] at hX
      obtain ⟨rfl, -, z9, hR⟩ := hX
      refine xw_catch (name := xExn 4) hown [(0, 10, 13, 28), (0, 10, 17, 13)] (by rw [htb]; rfl) 0 rfl (fun i hi => absurd hi (Nat.not_lt_zero i)) (by decide) (by decide) (by decide) (hts _ q909) ((xnC hWK g q942).use rfl) hq9 hv9 hc9 ?_
      refine lv_astore (lv' := [(4, .ref q9), (0, .ref (ad (0, 0))), (1, .int machine), (2, .int on), (3, .ref o)]) hx hb dX0_usedByMinutes_13 hl (by decide) rfl (fun ls hl => ?_)
      refine lv_iconst (v := 1) hx hb dX0_usedByMinutes_15 (by decide) ?_
      exact vx_ret (xr_Ci hx hb hr hlocks (by rw [e1]; rfl) ⟨ad, z9, f, by rw [e1]; exact hR, rfl, hO, fun c => by rw [e1] at c; cases c⟩ hS (by first | omega | decide) (by first | omega | decide) dX0_usedByMinutes_16)
    · rw [e1] at hX
      obtain ⟨rfl, -, z9, hR⟩ := hX
      refine xw_catch (name := xExn 1) hown [(0, 10, 13, 28), (0, 10, 17, 13)] (by rw [htb]; rfl) 1 rfl (fun i hi r hr9 => by rcases (show i = 0 by omega) with hi0 <;> subst hi0 <;> cases hr9 <;> first | exact ⟨by decide, xExn 4, hts _ q909, xNcAt (i := 1) (j := 4) hWK g2.2 (by decide) (by decide) (by decide) (by decide) (by decide)⟩) (by decide) (by decide) (by decide) (hts _ q749) ((xnC hWK g q131).use rfl) hq9 hv9 hc9 ?_
      refine lv_astore (lv' := [(4, .ref q9), (0, .ref (ad (0, 0))), (1, .int machine), (2, .int on), (3, .ref o)]) hx hb dX0_usedByMinutes_17 hl (by decide) rfl (fun ls hl => ?_)
      refine lv_iconst (v := 2) hx hb dX0_usedByMinutes_19 (by decide) ?_
      exact vx_ret (xr_Ci hx hb hr hlocks (by rw [e1]; rfl) ⟨ad, z9, f, by rw [e1]; exact hR, rfl, hO, fun c => by rw [e1] at c; cases c⟩ hS (by first | omega | decide) (by first | omega | decide) dX0_usedByMinutes_20)
  · have hO := hO.kept (hk o hO.lt (fun c => c.2 rfl))
    have hS := xS.more (A := A) hS (fun q c => c.1)
    obtain ⟨e1, ad9, z9, hR, e2⟩ := hP
    refine lv_i2l hx hb dX0_usedByMinutes_8 rfl ?_
    refine x_last hx hb hK hS hO hA9 (⟨by unfold vp_in; decide, by decide⟩ : xi 0 0 1) dX0_usedByMinutes_9 (fun H locs hat hof hS => ?_)
    refine lv_goto (tgt := 21) hx hb dX0_usedByMinutes_10 (by decide) ?_
    refine lv_iconst (v := 0) hx hb dX0_usedByMinutes_21 (by decide) ?_
    exact vx_ret (xr_Ci hx hb hr hlocks (by rw [e1]; rfl) ⟨ad9, z9, _, by rw [e1]; exact hR.off (fun k i b e hb hi he c => (hR.A k i hb hi he).2 c) hof, e2, hat, fun _ => rfl⟩ hS (by first | omega | decide) (by first | omega | decide) dX0_usedByMinutes_22)
theorem xX0_setupMinutes {l : Launch} {G : xG} {s0 : State} {b0 : Nat} (g2 : xG2 l G s0 b0) {A : Nat → Prop} {S : xS} {ad : Nat × Nat → Nat} {z : xZ} (o : Nat) (f : Nat → Value) (machine on : Int32) (hW : xW S) (hC : (xSetupMinutes S machine on).1 = 0 ∨ (xSetupMinutes S machine on).1 = 4 ∨ (xSetupMinutes S machine on).1 = 1) : vx_Met l yX0_setupMinutes (wsW_ yX0_setupMinutes cX0_setupMinutes 5 (some .int) [(0, 10, 13, 28), (0, 10, 17, 13)]) ({ frames := 9, cells := 1, slots := 6, locals := 158 } : Room) (xP s0 A [.ref (ad (0, 0)), .int machine, .int on, .ref o] (fun H => xRX G (xA1 A o) S ad z H ∧ xat G o (xA 1 1 f) H ∧ A o)) (xQc (some (.int (xCd [4, 1] (xSetupMinutes S machine on).1))) (fun _ H => ∃ ad9 z9 f9, xRX G (xA1 A o) (if (xSetupMinutes S machine on).1 = 0 then (xSetupMinutes S machine on).2.2 else S) ad9 z9 H ∧ ad9 (0, 0) = ad (0, 0) ∧ xat G o (xA 1 1 f9) H ∧ ((xSetupMinutes S machine on).1 = 0 → f9 0 = .long (xSetupMinutes S machine on).2.1.toInt64)) A) (xXc (fun _ _ _ => False) A) 1 6 A := by
  refine vx_ofWH (cc := cX0_setupMinutes) (maxL := 5) (ret := (some .int)) (by decide) rfl ?_
  intro p e s m args below meth c s₁ B hml hv
  obtain ⟨rfl, hWK, hR, hO, hA9⟩ := hv
  have g := g2.1.1
  have hx := B.exec
  have hb := B.bytes
  have hr := B.returns
  have hts := atoms_spec (ws := wsW_ yX0_setupMinutes cX0_setupMinutes 5 (some .int) [(0, 10, 13, 28), (0, 10, 17, 13)]) B.pre
  have htb := vx_table (x := yX0_setupMinutes) B (hts _ List.mem_cons_self)
  have hts : ∀ w ∈ lw_all, w.before _ s = true := fun w h => hts w (List.mem_cons_of_mem _ h)
  have hown : s.vm.findClass "LendlatheLaw" = some m.cls := findClass_of_methodNamed B.named
  have hlocks := B.notSynchronized
  have hK := hWK.K g
  have F : CallFix p m c cX0_setupMinutes 5 s _ lw_all "LendlatheLaw" := ⟨hx, hb, hml, hown, hts⟩
  have hWK1 := hWK.less hO.lt
  have hS1 : va_S (xA1 A o) s.heap s.heap [] := va_S.rf
  have hl := lv_entry ([.ref (ad (0, 0)), .int machine, .int on, .ref o]) (n := 5) (Nat.le_of_ble_eq_true rfl)
  rw [lg_entry_eq]
  generalize (lg_sl ([.ref (ad (0, 0)), .int machine, .int on, .ref o]) ++ List.replicate (5 - (lg_sl ([.ref (ad (0, 0)), .int machine, .int on, .ref o])).length) Slot.unset).toArray = ls at hl ⊢
  have hl : lv_has ls 5 [(0, .ref (ad (0, 0))), (1, .int machine), (2, .int on), (3, .ref o)] := hl
  refine lv_aload_n hx hb dX0_setupMinutes_0 rfl (lv_at hl 3 rfl) ?_
  refine lv_iconst (v := 0) hx hb dX0_setupMinutes_1 (by decide) ?_
  refine lv_aload_n hx hb dX0_setupMinutes_2 rfl (lv_at hl 0 rfl) ?_
  refine lv_iload_n hx hb dX0_setupMinutes_3 rfl (lv_at hl 1 rfl) ?_
  refine lv_iload_n hx hb dX0_setupMinutes_4 rfl (lv_at hl 2 rfl) ?_
  refine xc_X (vx_runV (As := [.int machine, .int on]) (rest := [.int 0, .ref o]) F (xX1_setupMinutes g2.1 (A := xA1 A o) (S := S) (ad := ad) (z := z) machine on hW) (cwV 2 hts (lw_V q1196 q1197 q1198 q56 q1199) rfl rfl rfl hdV_X1_setupMinutes ⟨Nat.le_of_ble_eq_true rfl, Nat.le_of_ble_eq_true rfl⟩) (xpreV (xrecv hK (xw_0 hR) rfl) hWK1 hS1 hR) rfl rfl hl.1 rfl (lv_room (Nat.le_of_ble_eq_true rfl)) dX0_setupMinutes_5 ⟨Nat.le_of_ble_eq_true rfl, Nat.le_of_ble_eq_true rfl⟩) hS1 (fun E ce q9 H locs hX hz hk hS hq9 hv9 hc9 => ?_) (fun H locs hP hz hk hS => ?_)
  · have hO := hO.kept (hk o hO.lt (fun c => c.2 rfl))
    have hS := xS.more (A := A) hS (fun q c => c.1)
    rcases hC with e1 | e1 | e1
    · exact absurd e1 hX.2.1
    · rw [e1] at hX
      obtain ⟨rfl, -, z9, hR⟩ := hX
      refine xw_catch (name := xExn 4) hown [(0, 10, 13, 28), (0, 10, 17, 13)] (by rw [htb]; rfl) 0 rfl (fun i hi => absurd hi (Nat.not_lt_zero i)) (by decide) (by decide) (by decide) (hts _ q909) ((xnC hWK g q942).use rfl) hq9 hv9 hc9 ?_
      refine lv_astore (lv' := [(4, .ref q9), (0, .ref (ad (0, 0))), (1, .int machine), (2, .int on), (3, .ref o)]) hx hb dX0_setupMinutes_13 hl (by decide) rfl (fun ls hl => ?_)
      refine lv_iconst (v := 1) hx hb dX0_setupMinutes_15 (by decide) ?_
      exact vx_ret (xr_Ci hx hb hr hlocks (by rw [e1]; rfl) ⟨ad, z9, f, by rw [e1]; exact hR, rfl, hO, fun c => by rw [e1] at c; cases c⟩ hS (by first | omega | decide) (by first | omega | decide) dX0_setupMinutes_16)
    · rw [e1] at hX
      obtain ⟨rfl, -, z9, hR⟩ := hX
      refine xw_catch (name := xExn 1) hown [(0, 10, 13, 28), (0, 10, 17, 13)] (by rw [htb]; rfl) 1 rfl (fun i hi r hr9 => by rcases (show i = 0 by omega) with hi0 <;> subst hi0 <;> cases hr9 <;> first | exact ⟨by decide, xExn 4, hts _ q909, xNcAt (i := 1) (j := 4) hWK g2.2 (by decide) (by decide) (by decide) (by decide) (by decide)⟩) (by decide) (by decide) (by decide) (hts _ q749) ((xnC hWK g q131).use rfl) hq9 hv9 hc9 ?_
      refine lv_astore (lv' := [(4, .ref q9), (0, .ref (ad (0, 0))), (1, .int machine), (2, .int on), (3, .ref o)]) hx hb dX0_setupMinutes_17 hl (by decide) rfl (fun ls hl => ?_)
      refine lv_iconst (v := 2) hx hb dX0_setupMinutes_19 (by decide) ?_
      exact vx_ret (xr_Ci hx hb hr hlocks (by rw [e1]; rfl) ⟨ad, z9, f, by rw [e1]; exact hR, rfl, hO, fun c => by rw [e1] at c; cases c⟩ hS (by first | omega | decide) (by first | omega | decide) dX0_setupMinutes_20)
  · have hO := hO.kept (hk o hO.lt (fun c => c.2 rfl))
    have hS := xS.more (A := A) hS (fun q c => c.1)
    obtain ⟨e1, ad9, z9, hR, e2⟩ := hP
    refine lv_i2l hx hb dX0_setupMinutes_8 rfl ?_
    refine x_last hx hb hK hS hO hA9 (⟨by unfold vp_in; decide, by decide⟩ : xi 0 0 1) dX0_setupMinutes_9 (fun H locs hat hof hS => ?_)
    refine lv_goto (tgt := 21) hx hb dX0_setupMinutes_10 (by decide) ?_
    refine lv_iconst (v := 0) hx hb dX0_setupMinutes_21 (by decide) ?_
    exact vx_ret (xr_Ci hx hb hr hlocks (by rw [e1]; rfl) ⟨ad9, z9, _, by rw [e1]; exact hR.off (fun k i b e hb hi he c => (hR.A k i hb hi he).2 c) hof, e2, hat, fun _ => rfl⟩ hS (by first | omega | decide) (by first | omega | decide) dX0_setupMinutes_22)
theorem xX0_firstStart {l : Launch} {G : xG} {s0 : State} {b0 : Nat} (g2 : xG2 l G s0 b0) {A : Nat → Prop} {S : xS} {ad : Nat × Nat → Nat} {z : xZ} (o : Nat) (f : Nat → Value) (machine on minutes work : Int32) (hW : xW S) (hC : (xFirstStart S machine on minutes work).1 = 0 ∨ (xFirstStart S machine on minutes work).1 = 4 ∨ (xFirstStart S machine on minutes work).1 = 1 ∨ (xFirstStart S machine on minutes work).1 = 3) : vx_Met l yX0_firstStart (wsW_ yX0_firstStart cX0_firstStart 7 (some .int) [(0, 14, 17, 28), (0, 14, 21, 13), (0, 14, 25, 42)]) ({ frames := 9, cells := 1, slots := 6, locals := 162 } : Room) (xP s0 A [.ref (ad (0, 0)), .int machine, .int on, .int minutes, .int work, .ref o] (fun H => xRX G (xA1 A o) S ad z H ∧ xat G o (xA 1 1 f) H ∧ A o)) (xQc (some (.int (xCd [4, 1, 3] (xFirstStart S machine on minutes work).1))) (fun _ H => ∃ ad9 z9 f9, xRX G (xA1 A o) (if (xFirstStart S machine on minutes work).1 = 0 then (xFirstStart S machine on minutes work).2.2 else S) ad9 z9 H ∧ ad9 (0, 0) = ad (0, 0) ∧ xat G o (xA 1 1 f9) H ∧ ((xFirstStart S machine on minutes work).1 = 0 → f9 0 = .long (xFirstStart S machine on minutes work).2.1.toInt64)) A) (xXc (fun _ _ _ => False) A) 1 6 A := by
  refine vx_ofWH (cc := cX0_firstStart) (maxL := 7) (ret := (some .int)) (by decide) rfl ?_
  intro p e s m args below meth c s₁ B hml hv
  obtain ⟨rfl, hWK, hR, hO, hA9⟩ := hv
  have g := g2.1.1
  have hx := B.exec
  have hb := B.bytes
  have hr := B.returns
  have hts := atoms_spec (ws := wsW_ yX0_firstStart cX0_firstStart 7 (some .int) [(0, 14, 17, 28), (0, 14, 21, 13), (0, 14, 25, 42)]) B.pre
  have htb := vx_table (x := yX0_firstStart) B (hts _ List.mem_cons_self)
  have hts : ∀ w ∈ lw_all, w.before _ s = true := fun w h => hts w (List.mem_cons_of_mem _ h)
  have hown : s.vm.findClass "LendlatheLaw" = some m.cls := findClass_of_methodNamed B.named
  have hlocks := B.notSynchronized
  have hK := hWK.K g
  have F : CallFix p m c cX0_firstStart 7 s _ lw_all "LendlatheLaw" := ⟨hx, hb, hml, hown, hts⟩
  have hWK1 := hWK.less hO.lt
  have hS1 : va_S (xA1 A o) s.heap s.heap [] := va_S.rf
  have hl := lv_entry ([.ref (ad (0, 0)), .int machine, .int on, .int minutes, .int work, .ref o]) (n := 7) (Nat.le_of_ble_eq_true rfl)
  rw [lg_entry_eq]
  generalize (lg_sl ([.ref (ad (0, 0)), .int machine, .int on, .int minutes, .int work, .ref o]) ++ List.replicate (7 - (lg_sl ([.ref (ad (0, 0)), .int machine, .int on, .int minutes, .int work, .ref o])).length) Slot.unset).toArray = ls at hl ⊢
  have hl : lv_has ls 7 [(0, .ref (ad (0, 0))), (1, .int machine), (2, .int on), (3, .int minutes), (4, .int work), (5, .ref o)] := hl
  refine lv_aload hx hb dX0_firstStart_0 (lv_at hl 5 rfl) ?_
  refine lv_iconst (v := 0) hx hb dX0_firstStart_2 (by decide) ?_
  refine lv_aload_n hx hb dX0_firstStart_3 rfl (lv_at hl 0 rfl) ?_
  refine lv_iload_n hx hb dX0_firstStart_4 rfl (lv_at hl 1 rfl) ?_
  refine lv_iload_n hx hb dX0_firstStart_5 rfl (lv_at hl 2 rfl) ?_
  refine lv_iload_n hx hb dX0_firstStart_6 rfl (lv_at hl 3 rfl) ?_
  refine lv_iload hx hb dX0_firstStart_7 (lv_at hl 4 rfl) ?_
  refine xc_X (vx_runV (As := [.int machine, .int on, .int minutes, .int work]) (rest := [.int 0, .ref o]) F (xX1_firstStart g2.1 (A := xA1 A o) (S := S) (ad := ad) (z := z) machine on minutes work hW) (cwV 4 hts (lw_V q1203 q1204 q1205 q56 q1206) rfl rfl rfl hdV_X1_firstStart ⟨Nat.le_of_ble_eq_true rfl, Nat.le_of_ble_eq_true rfl⟩) (xpreV (xrecv hK (xw_0 hR) rfl) hWK1 hS1 hR) rfl rfl hl.1 rfl (lv_room (Nat.le_of_ble_eq_true rfl)) dX0_firstStart_9 ⟨Nat.le_of_ble_eq_true rfl, Nat.le_of_ble_eq_true rfl⟩) hS1 (fun E ce q9 H locs hX hz hk hS hq9 hv9 hc9 => ?_) (fun H locs hP hz hk hS => ?_)
  · have hO := hO.kept (hk o hO.lt (fun c => c.2 rfl))
    have hS := xS.more (A := A) hS (fun q c => c.1)
    rcases hC with e1 | e1 | e1 | e1
    · exact absurd e1 hX.2.1
    · rw [e1] at hX
      obtain ⟨rfl, -, z9, hR⟩ := hX
      refine xw_catch (name := xExn 4) hown [(0, 14, 17, 28), (0, 14, 21, 13), (0, 14, 25, 42)] (by rw [htb]; rfl) 0 rfl (fun i hi => absurd hi (Nat.not_lt_zero i)) (by decide) (by decide) (by decide) (hts _ q909) ((xnC hWK g q942).use rfl) hq9 hv9 hc9 ?_
      refine lv_astore (lv' := [(6, .ref q9), (0, .ref (ad (0, 0))), (1, .int machine), (2, .int on), (3, .int minutes), (4, .int work), (5, .ref o)]) hx hb dX0_firstStart_17 hl (by decide) rfl (fun ls hl => ?_)
      refine lv_iconst (v := 1) hx hb dX0_firstStart_19 (by decide) ?_
      exact vx_ret (xr_Ci hx hb hr hlocks (by rw [e1]; rfl) ⟨ad, z9, f, by rw [e1]; exact hR, rfl, hO, fun c => by rw [e1] at c; cases c⟩ hS (by first | omega | decide) (by first | omega | decide) dX0_firstStart_20)
    · rw [e1] at hX
      obtain ⟨rfl, -, z9, hR⟩ := hX
      refine xw_catch (name := xExn 1) hown [(0, 14, 17, 28), (0, 14, 21, 13), (0, 14, 25, 42)] (by rw [htb]; rfl) 1 rfl (fun i hi r hr9 => by rcases (show i = 0 by omega) with hi0 <;> subst hi0 <;> cases hr9 <;> first | exact ⟨by decide, xExn 4, hts _ q909, xNcAt (i := 1) (j := 4) hWK g2.2 (by decide) (by decide) (by decide) (by decide) (by decide)⟩) (by decide) (by decide) (by decide) (hts _ q749) ((xnC hWK g q131).use rfl) hq9 hv9 hc9 ?_
      refine lv_astore (lv' := [(6, .ref q9), (0, .ref (ad (0, 0))), (1, .int machine), (2, .int on), (3, .int minutes), (4, .int work), (5, .ref o)]) hx hb dX0_firstStart_21 hl (by decide) rfl (fun ls hl => ?_)
      refine lv_iconst (v := 2) hx hb dX0_firstStart_23 (by decide) ?_
      exact vx_ret (xr_Ci hx hb hr hlocks (by rw [e1]; rfl) ⟨ad, z9, f, by rw [e1]; exact hR, rfl, hO, fun c => by rw [e1] at c; cases c⟩ hS (by first | omega | decide) (by first | omega | decide) dX0_firstStart_24)
    · rw [e1] at hX
      obtain ⟨rfl, -, z9, hR⟩ := hX
      refine xw_catch (name := xExn 3) hown [(0, 14, 17, 28), (0, 14, 21, 13), (0, 14, 25, 42)] (by rw [htb]; rfl) 2 rfl (fun i hi r hr9 => by rcases (show i = 0 ∨ i = 1 by omega) with hi0 | hi0 <;> subst hi0 <;> cases hr9 <;> first | exact ⟨by decide, xExn 4, hts _ q909, xNcAt (i := 3) (j := 4) hWK g2.2 (by decide) (by decide) (by decide) (by decide) (by decide)⟩ | exact ⟨by decide, xExn 1, hts _ q749, xNcAt (i := 3) (j := 1) hWK g2.2 (by decide) (by decide) (by decide) (by decide) (by decide)⟩) (by decide) (by decide) (by decide) (hts _ q994) ((xnC hWK g q572).use rfl) hq9 hv9 hc9 ?_
      refine lv_astore (lv' := [(6, .ref q9), (0, .ref (ad (0, 0))), (1, .int machine), (2, .int on), (3, .int minutes), (4, .int work), (5, .ref o)]) hx hb dX0_firstStart_25 hl (by decide) rfl (fun ls hl => ?_)
      refine lv_iconst (v := 3) hx hb dX0_firstStart_27 (by decide) ?_
      exact vx_ret (xr_Ci hx hb hr hlocks (by rw [e1]; rfl) ⟨ad, z9, f, by rw [e1]; exact hR, rfl, hO, fun c => by rw [e1] at c; cases c⟩ hS (by first | omega | decide) (by first | omega | decide) dX0_firstStart_28)
  · have hO := hO.kept (hk o hO.lt (fun c => c.2 rfl))
    have hS := xS.more (A := A) hS (fun q c => c.1)
    obtain ⟨e1, ad9, z9, hR, e2⟩ := hP
    refine lv_i2l hx hb dX0_firstStart_12 rfl ?_
    refine x_last hx hb hK hS hO hA9 (⟨by unfold vp_in; decide, by decide⟩ : xi 0 0 1) dX0_firstStart_13 (fun H locs hat hof hS => ?_)
    refine lv_goto (tgt := 29) hx hb dX0_firstStart_14 (by decide) ?_
    refine lv_iconst (v := 0) hx hb dX0_firstStart_29 (by decide) ?_
    exact vx_ret (xr_Ci hx hb hr hlocks (by rw [e1]; rfl) ⟨ad9, z9, _, by rw [e1]; exact hR.off (fun k i b e hb hi he c => (hR.A k i hb hi he).2 c) hof, e2, hat, fun _ => rfl⟩ hS (by first | omega | decide) (by first | omega | decide) dX0_firstStart_30)
theorem xX0_firstByMinutes {l : Launch} {G : xG} {s0 : State} {b0 : Nat} (g2 : xG2 l G s0 b0) {A : Nat → Prop} {S : xS} {ad : Nat × Nat → Nat} {z : xZ} (o : Nat) (f : Nat → Value) (machine on minutes work : Int32) (hW : xW S) (hC : (xFirstBy S machine on minutes work).1 = 0 ∨ (xFirstBy S machine on minutes work).1 = 4 ∨ (xFirstBy S machine on minutes work).1 = 1 ∨ (xFirstBy S machine on minutes work).1 = 3) : vx_Met l yX0_firstByMinutes (wsW_ yX0_firstByMinutes cX0_firstByMinutes 7 (some .int) [(0, 14, 17, 28), (0, 14, 21, 13), (0, 14, 25, 42)]) ({ frames := 9, cells := 1, slots := 6, locals := 177 } : Room) (xP s0 A [.ref (ad (0, 0)), .int machine, .int on, .int minutes, .int work, .ref o] (fun H => xRX G (xA1 A o) S ad z H ∧ xat G o (xA 1 1 f) H ∧ A o)) (xQc (some (.int (xCd [4, 1, 3] (xFirstBy S machine on minutes work).1))) (fun _ H => ∃ ad9 z9 f9, xRX G (xA1 A o) (if (xFirstBy S machine on minutes work).1 = 0 then (xFirstBy S machine on minutes work).2.2 else S) ad9 z9 H ∧ ad9 (0, 0) = ad (0, 0) ∧ xat G o (xA 1 1 f9) H ∧ ((xFirstBy S machine on minutes work).1 = 0 → f9 0 = .long (xFirstBy S machine on minutes work).2.1.toInt64)) A) (xXc (fun _ _ _ => False) A) 1 6 A := by
  refine vx_ofWH (cc := cX0_firstByMinutes) (maxL := 7) (ret := (some .int)) (by decide) rfl ?_
  intro p e s m args below meth c s₁ B hml hv
  obtain ⟨rfl, hWK, hR, hO, hA9⟩ := hv
  have g := g2.1.1
  have hx := B.exec
  have hb := B.bytes
  have hr := B.returns
  have hts := atoms_spec (ws := wsW_ yX0_firstByMinutes cX0_firstByMinutes 7 (some .int) [(0, 14, 17, 28), (0, 14, 21, 13), (0, 14, 25, 42)]) B.pre
  have htb := vx_table (x := yX0_firstByMinutes) B (hts _ List.mem_cons_self)
  have hts : ∀ w ∈ lw_all, w.before _ s = true := fun w h => hts w (List.mem_cons_of_mem _ h)
  have hown : s.vm.findClass "LendlatheLaw" = some m.cls := findClass_of_methodNamed B.named
  have hlocks := B.notSynchronized
  have hK := hWK.K g
  have F : CallFix p m c cX0_firstByMinutes 7 s _ lw_all "LendlatheLaw" := ⟨hx, hb, hml, hown, hts⟩
  have hWK1 := hWK.less hO.lt
  have hS1 : va_S (xA1 A o) s.heap s.heap [] := va_S.rf
  have hl := lv_entry ([.ref (ad (0, 0)), .int machine, .int on, .int minutes, .int work, .ref o]) (n := 7) (Nat.le_of_ble_eq_true rfl)
  rw [lg_entry_eq]
  generalize (lg_sl ([.ref (ad (0, 0)), .int machine, .int on, .int minutes, .int work, .ref o]) ++ List.replicate (7 - (lg_sl ([.ref (ad (0, 0)), .int machine, .int on, .int minutes, .int work, .ref o])).length) Slot.unset).toArray = ls at hl ⊢
  have hl : lv_has ls 7 [(0, .ref (ad (0, 0))), (1, .int machine), (2, .int on), (3, .int minutes), (4, .int work), (5, .ref o)] := hl
  refine lv_aload hx hb dX0_firstByMinutes_0 (lv_at hl 5 rfl) ?_
  refine lv_iconst (v := 0) hx hb dX0_firstByMinutes_2 (by decide) ?_
  refine lv_aload_n hx hb dX0_firstByMinutes_3 rfl (lv_at hl 0 rfl) ?_
  refine lv_iload_n hx hb dX0_firstByMinutes_4 rfl (lv_at hl 1 rfl) ?_
  refine lv_iload_n hx hb dX0_firstByMinutes_5 rfl (lv_at hl 2 rfl) ?_
  refine lv_iload_n hx hb dX0_firstByMinutes_6 rfl (lv_at hl 3 rfl) ?_
  refine lv_iload hx hb dX0_firstByMinutes_7 (lv_at hl 4 rfl) ?_
  refine xc_X (vx_runV (As := [.int machine, .int on, .int minutes, .int work]) (rest := [.int 0, .ref o]) F (xX1_firstByMinutes g2.1 (A := xA1 A o) (S := S) (ad := ad) (z := z) machine on minutes work hW) (cwV 4 hts (lw_V q1214 q1215 q1216 q56 q1217) rfl rfl rfl hdV_X1_firstByMinutes ⟨Nat.le_of_ble_eq_true rfl, Nat.le_of_ble_eq_true rfl⟩) (xpreV (xrecv hK (xw_0 hR) rfl) hWK1 hS1 hR) rfl rfl hl.1 rfl (lv_room (Nat.le_of_ble_eq_true rfl)) dX0_firstByMinutes_9 ⟨Nat.le_of_ble_eq_true rfl, Nat.le_of_ble_eq_true rfl⟩) hS1 (fun E ce q9 H locs hX hz hk hS hq9 hv9 hc9 => ?_) (fun H locs hP hz hk hS => ?_)
  · have hO := hO.kept (hk o hO.lt (fun c => c.2 rfl))
    have hS := xS.more (A := A) hS (fun q c => c.1)
    rcases hC with e1 | e1 | e1 | e1
    · exact absurd e1 hX.2.1
    · rw [e1] at hX
      obtain ⟨rfl, -, z9, hR⟩ := hX
      refine xw_catch (name := xExn 4) hown [(0, 14, 17, 28), (0, 14, 21, 13), (0, 14, 25, 42)] (by rw [htb]; rfl) 0 rfl (fun i hi => absurd hi (Nat.not_lt_zero i)) (by decide) (by decide) (by decide) (hts _ q909) ((xnC hWK g q942).use rfl) hq9 hv9 hc9 ?_
      refine lv_astore (lv' := [(6, .ref q9), (0, .ref (ad (0, 0))), (1, .int machine), (2, .int on), (3, .int minutes), (4, .int work), (5, .ref o)]) hx hb dX0_firstByMinutes_17 hl (by decide) rfl (fun ls hl => ?_)
      refine lv_iconst (v := 1) hx hb dX0_firstByMinutes_19 (by decide) ?_
      exact vx_ret (xr_Ci hx hb hr hlocks (by rw [e1]; rfl) ⟨ad, z9, f, by rw [e1]; exact hR, rfl, hO, fun c => by rw [e1] at c; cases c⟩ hS (by first | omega | decide) (by first | omega | decide) dX0_firstByMinutes_20)
    · rw [e1] at hX
      obtain ⟨rfl, -, z9, hR⟩ := hX
      refine xw_catch (name := xExn 1) hown [(0, 14, 17, 28), (0, 14, 21, 13), (0, 14, 25, 42)] (by rw [htb]; rfl) 1 rfl (fun i hi r hr9 => by rcases (show i = 0 by omega) with hi0 <;> subst hi0 <;> cases hr9 <;> first | exact ⟨by decide, xExn 4, hts _ q909, xNcAt (i := 1) (j := 4) hWK g2.2 (by decide) (by decide) (by decide) (by decide) (by decide)⟩) (by decide) (by decide) (by decide) (hts _ q749) ((xnC hWK g q131).use rfl) hq9 hv9 hc9 ?_
      refine lv_astore (lv' := [(6, .ref q9), (0, .ref (ad (0, 0))), (1, .int machine), (2, .int on), (3, .int minutes), (4, .int work), (5, .ref o)]) hx hb dX0_firstByMinutes_21 hl (by decide) rfl (fun ls hl => ?_)
      refine lv_iconst (v := 2) hx hb dX0_firstByMinutes_23 (by decide) ?_
      exact vx_ret (xr_Ci hx hb hr hlocks (by rw [e1]; rfl) ⟨ad, z9, f, by rw [e1]; exact hR, rfl, hO, fun c => by rw [e1] at c; cases c⟩ hS (by first | omega | decide) (by first | omega | decide) dX0_firstByMinutes_24)
    · rw [e1] at hX
      obtain ⟨rfl, -, z9, hR⟩ := hX
      refine xw_catch (name := xExn 3) hown [(0, 14, 17, 28), (0, 14, 21, 13), (0, 14, 25, 42)] (by rw [htb]; rfl) 2 rfl (fun i hi r hr9 => by rcases (show i = 0 ∨ i = 1 by omega) with hi0 | hi0 <;> subst hi0 <;> cases hr9 <;> first | exact ⟨by decide, xExn 4, hts _ q909, xNcAt (i := 3) (j := 4) hWK g2.2 (by decide) (by decide) (by decide) (by decide) (by decide)⟩ | exact ⟨by decide, xExn 1, hts _ q749, xNcAt (i := 3) (j := 1) hWK g2.2 (by decide) (by decide) (by decide) (by decide) (by decide)⟩) (by decide) (by decide) (by decide) (hts _ q994) ((xnC hWK g q572).use rfl) hq9 hv9 hc9 ?_
      refine lv_astore (lv' := [(6, .ref q9), (0, .ref (ad (0, 0))), (1, .int machine), (2, .int on), (3, .int minutes), (4, .int work), (5, .ref o)]) hx hb dX0_firstByMinutes_25 hl (by decide) rfl (fun ls hl => ?_)
      refine lv_iconst (v := 3) hx hb dX0_firstByMinutes_27 (by decide) ?_
      exact vx_ret (xr_Ci hx hb hr hlocks (by rw [e1]; rfl) ⟨ad, z9, f, by rw [e1]; exact hR, rfl, hO, fun c => by rw [e1] at c; cases c⟩ hS (by first | omega | decide) (by first | omega | decide) dX0_firstByMinutes_28)
  · have hO := hO.kept (hk o hO.lt (fun c => c.2 rfl))
    have hS := xS.more (A := A) hS (fun q c => c.1)
    obtain ⟨e1, ad9, z9, hR, e2⟩ := hP
    refine lv_i2l hx hb dX0_firstByMinutes_12 rfl ?_
    refine x_last hx hb hK hS hO hA9 (⟨by unfold vp_in; decide, by decide⟩ : xi 0 0 1) dX0_firstByMinutes_13 (fun H locs hat hof hS => ?_)
    refine lv_goto (tgt := 29) hx hb dX0_firstByMinutes_14 (by decide) ?_
    refine lv_iconst (v := 0) hx hb dX0_firstByMinutes_29 (by decide) ?_
    exact vx_ret (xr_Ci hx hb hr hlocks (by rw [e1]; rfl) ⟨ad9, z9, _, by rw [e1]; exact hR.off (fun k i b e hb hi he c => (hR.A k i hb hi he).2 c) hof, e2, hat, fun _ => rfl⟩ hS (by first | omega | decide) (by first | omega | decide) dX0_firstByMinutes_30)
theorem xX0_waiting {l : Launch} {G : xG} {s0 : State} {b0 : Nat} (g2 : xG2 l G s0 b0) {A : Nat → Prop} {S : xS} {ad : Nat × Nat → Nat} {z : xZ} (o : Nat) (f : Nat → Value) (machine on : Int32) (hW : xW S) (hC : (xWaiting S machine on).1 = 0 ∨ (xWaiting S machine on).1 = 4 ∨ (xWaiting S machine on).1 = 1) : vx_Met l yX0_waiting (wsW_ yX0_waiting cX0_waiting 5 (some .int) [(0, 10, 13, 28), (0, 10, 17, 13)]) ({ frames := 8, cells := 1, slots := 6, locals := 136 } : Room) (xP s0 A [.ref (ad (0, 0)), .int machine, .int on, .ref o] (fun H => xRX G (xA1 A o) S ad z H ∧ xat G o (xA 1 1 f) H ∧ A o)) (xQc (some (.int (xCd [4, 1] (xWaiting S machine on).1))) (fun _ H => ∃ ad9 z9 f9, xRX G (xA1 A o) (if (xWaiting S machine on).1 = 0 then (xWaiting S machine on).2.2 else S) ad9 z9 H ∧ ad9 (0, 0) = ad (0, 0) ∧ xat G o (xA 1 1 f9) H ∧ ((xWaiting S machine on).1 = 0 → f9 0 = .long (xWaiting S machine on).2.1.toInt64)) A) (xXc (fun _ _ _ => False) A) 1 6 A := by
  refine vx_ofWH (cc := cX0_waiting) (maxL := 5) (ret := (some .int)) (by decide) rfl ?_
  intro p e s m args below meth c s₁ B hml hv
  obtain ⟨rfl, hWK, hR, hO, hA9⟩ := hv
  have g := g2.1.1
  have hx := B.exec
  have hb := B.bytes
  have hr := B.returns
  have hts := atoms_spec (ws := wsW_ yX0_waiting cX0_waiting 5 (some .int) [(0, 10, 13, 28), (0, 10, 17, 13)]) B.pre
  have htb := vx_table (x := yX0_waiting) B (hts _ List.mem_cons_self)
  have hts : ∀ w ∈ lw_all, w.before _ s = true := fun w h => hts w (List.mem_cons_of_mem _ h)
  have hown : s.vm.findClass "LendlatheLaw" = some m.cls := findClass_of_methodNamed B.named
  have hlocks := B.notSynchronized
  have hK := hWK.K g
  have F : CallFix p m c cX0_waiting 5 s _ lw_all "LendlatheLaw" := ⟨hx, hb, hml, hown, hts⟩
  have hWK1 := hWK.less hO.lt
  have hS1 : va_S (xA1 A o) s.heap s.heap [] := va_S.rf
  have hl := lv_entry ([.ref (ad (0, 0)), .int machine, .int on, .ref o]) (n := 5) (Nat.le_of_ble_eq_true rfl)
  rw [lg_entry_eq]
  generalize (lg_sl ([.ref (ad (0, 0)), .int machine, .int on, .ref o]) ++ List.replicate (5 - (lg_sl ([.ref (ad (0, 0)), .int machine, .int on, .ref o])).length) Slot.unset).toArray = ls at hl ⊢
  have hl : lv_has ls 5 [(0, .ref (ad (0, 0))), (1, .int machine), (2, .int on), (3, .ref o)] := hl
  refine lv_aload_n hx hb dX0_waiting_0 rfl (lv_at hl 3 rfl) ?_
  refine lv_iconst (v := 0) hx hb dX0_waiting_1 (by decide) ?_
  refine lv_aload_n hx hb dX0_waiting_2 rfl (lv_at hl 0 rfl) ?_
  refine lv_iload_n hx hb dX0_waiting_3 rfl (lv_at hl 1 rfl) ?_
  refine lv_iload_n hx hb dX0_waiting_4 rfl (lv_at hl 2 rfl) ?_
  refine xc_X (vx_runV (As := [.int machine, .int on]) (rest := [.int 0, .ref o]) F (xX1_waiting g2.1 (A := xA1 A o) (S := S) (ad := ad) (z := z) machine on hW) (cwV 2 hts (lw_V q1222 q1223 q1224 q56 q1225) rfl rfl rfl hdV_X1_waiting ⟨Nat.le_of_ble_eq_true rfl, Nat.le_of_ble_eq_true rfl⟩) (xpreV (xrecv hK (xw_0 hR) rfl) hWK1 hS1 hR) rfl rfl hl.1 rfl (lv_room (Nat.le_of_ble_eq_true rfl)) dX0_waiting_5 ⟨Nat.le_of_ble_eq_true rfl, Nat.le_of_ble_eq_true rfl⟩) hS1 (fun E ce q9 H locs hX hz hk hS hq9 hv9 hc9 => ?_) (fun H locs hP hz hk hS => ?_)
  · have hO := hO.kept (hk o hO.lt (fun c => c.2 rfl))
    have hS := xS.more (A := A) hS (fun q c => c.1)
    rcases hC with e1 | e1 | e1
    · exact absurd e1 hX.2.1
    · rw [e1] at hX
      obtain ⟨rfl, -, z9, hR⟩ := hX
      refine xw_catch (name := xExn 4) hown [(0, 10, 13, 28), (0, 10, 17, 13)] (by rw [htb]; rfl) 0 rfl (fun i hi => absurd hi (Nat.not_lt_zero i)) (by decide) (by decide) (by decide) (hts _ q909) ((xnC hWK g q942).use rfl) hq9 hv9 hc9 ?_
      refine lv_astore (lv' := [(4, .ref q9), (0, .ref (ad (0, 0))), (1, .int machine), (2, .int on), (3, .ref o)]) hx hb dX0_waiting_13 hl (by decide) rfl (fun ls hl => ?_)
      refine lv_iconst (v := 1) hx hb dX0_waiting_15 (by decide) ?_
      exact vx_ret (xr_Ci hx hb hr hlocks (by rw [e1]; rfl) ⟨ad, z9, f, by rw [e1]; exact hR, rfl, hO, fun c => by rw [e1] at c; cases c⟩ hS (by first | omega | decide) (by first | omega | decide) dX0_waiting_16)
    · rw [e1] at hX
      obtain ⟨rfl, -, z9, hR⟩ := hX
      refine xw_catch (name := xExn 1) hown [(0, 10, 13, 28), (0, 10, 17, 13)] (by rw [htb]; rfl) 1 rfl (fun i hi r hr9 => by rcases (show i = 0 by omega) with hi0 <;> subst hi0 <;> cases hr9 <;> first | exact ⟨by decide, xExn 4, hts _ q909, xNcAt (i := 1) (j := 4) hWK g2.2 (by decide) (by decide) (by decide) (by decide) (by decide)⟩) (by decide) (by decide) (by decide) (hts _ q749) ((xnC hWK g q131).use rfl) hq9 hv9 hc9 ?_
      refine lv_astore (lv' := [(4, .ref q9), (0, .ref (ad (0, 0))), (1, .int machine), (2, .int on), (3, .ref o)]) hx hb dX0_waiting_17 hl (by decide) rfl (fun ls hl => ?_)
      refine lv_iconst (v := 2) hx hb dX0_waiting_19 (by decide) ?_
      exact vx_ret (xr_Ci hx hb hr hlocks (by rw [e1]; rfl) ⟨ad, z9, f, by rw [e1]; exact hR, rfl, hO, fun c => by rw [e1] at c; cases c⟩ hS (by first | omega | decide) (by first | omega | decide) dX0_waiting_20)
  · have hO := hO.kept (hk o hO.lt (fun c => c.2 rfl))
    have hS := xS.more (A := A) hS (fun q c => c.1)
    obtain ⟨e1, ad9, z9, hR, e2⟩ := hP
    refine lv_i2l hx hb dX0_waiting_8 rfl ?_
    refine x_last hx hb hK hS hO hA9 (⟨by unfold vp_in; decide, by decide⟩ : xi 0 0 1) dX0_waiting_9 (fun H locs hat hof hS => ?_)
    refine lv_goto (tgt := 21) hx hb dX0_waiting_10 (by decide) ?_
    refine lv_iconst (v := 0) hx hb dX0_waiting_21 (by decide) ?_
    exact vx_ret (xr_Ci hx hb hr hlocks (by rw [e1]; rfl) ⟨ad9, z9, _, by rw [e1]; exact hR.off (fun k i b e hb hi he c => (hR.A k i hb hi he).2 c) hof, e2, hat, fun _ => rfl⟩ hS (by first | omega | decide) (by first | omega | decide) dX0_waiting_22)
theorem xX0_cut {l : Launch} {G : xG} {s0 : State} {b0 : Nat} (g2 : xG2 l G s0 b0) {A : Nat → Prop} {S : xS} {ad : Nat × Nat → Nat} {z : xZ} (o : Nat) (f : Nat → Value) (entry material length : Int32) (hW : xW S) (hC : (xCut S entry material length).1 = 0 ∨ (xCut S entry material length).1 = 3 ∨ (xCut S entry material length).1 = 1 ∨ (xCut S entry material length).1 = 2 ∨ (xCut S entry material length).1 = 5) : vx_Met l yX0_cut (wsW_ yX0_cut cX0_cut 6 (some .int) [(0, 12, 15, 42), (0, 12, 19, 13), (0, 12, 23, 15), (0, 12, 27, 30)]) ({ frames := 9, cells := 1, slots := 6, locals := 158 } : Room) (xP s0 A [.ref (ad (0, 0)), .int entry, .int material, .int length, .ref o] (fun H => xRX G (xA1 A o) S ad z H ∧ xat G o (xA 1 1 f) H ∧ A o)) (xQc (some (.int (xCd [3, 1, 2, 5] (xCut S entry material length).1))) (fun _ H => ∃ ad9 z9 f9, xRX G (xA1 A o) (if (xCut S entry material length).1 = 0 then (xCut S entry material length).2.2 else S) ad9 z9 H ∧ ad9 (0, 0) = ad (0, 0) ∧ xat G o (xA 1 1 f9) H ∧ ((xCut S entry material length).1 = 0 → f9 0 = .long (xCut S entry material length).2.1.toInt64)) A) (xXc (fun _ _ _ => False) A) 1 6 A := by
  refine vx_ofWH (cc := cX0_cut) (maxL := 6) (ret := (some .int)) (by decide) rfl ?_
  intro p e s m args below meth c s₁ B hml hv
  obtain ⟨rfl, hWK, hR, hO, hA9⟩ := hv
  have g := g2.1.1
  have hx := B.exec
  have hb := B.bytes
  have hr := B.returns
  have hts := atoms_spec (ws := wsW_ yX0_cut cX0_cut 6 (some .int) [(0, 12, 15, 42), (0, 12, 19, 13), (0, 12, 23, 15), (0, 12, 27, 30)]) B.pre
  have htb := vx_table (x := yX0_cut) B (hts _ List.mem_cons_self)
  have hts : ∀ w ∈ lw_all, w.before _ s = true := fun w h => hts w (List.mem_cons_of_mem _ h)
  have hown : s.vm.findClass "LendlatheLaw" = some m.cls := findClass_of_methodNamed B.named
  have hlocks := B.notSynchronized
  have hK := hWK.K g
  have F : CallFix p m c cX0_cut 6 s _ lw_all "LendlatheLaw" := ⟨hx, hb, hml, hown, hts⟩
  have hWK1 := hWK.less hO.lt
  have hS1 : va_S (xA1 A o) s.heap s.heap [] := va_S.rf
  have hl := lv_entry ([.ref (ad (0, 0)), .int entry, .int material, .int length, .ref o]) (n := 6) (Nat.le_of_ble_eq_true rfl)
  rw [lg_entry_eq]
  generalize (lg_sl ([.ref (ad (0, 0)), .int entry, .int material, .int length, .ref o]) ++ List.replicate (6 - (lg_sl ([.ref (ad (0, 0)), .int entry, .int material, .int length, .ref o])).length) Slot.unset).toArray = ls at hl ⊢
  have hl : lv_has ls 6 [(0, .ref (ad (0, 0))), (1, .int entry), (2, .int material), (3, .int length), (4, .ref o)] := hl
  refine lv_aload hx hb dX0_cut_0 (lv_at hl 4 rfl) ?_
  refine lv_iconst (v := 0) hx hb dX0_cut_2 (by decide) ?_
  refine lv_aload_n hx hb dX0_cut_3 rfl (lv_at hl 0 rfl) ?_
  refine lv_iload_n hx hb dX0_cut_4 rfl (lv_at hl 1 rfl) ?_
  refine lv_iload_n hx hb dX0_cut_5 rfl (lv_at hl 2 rfl) ?_
  refine lv_iload_n hx hb dX0_cut_6 rfl (lv_at hl 3 rfl) ?_
  refine xc_X (vx_runV (As := [.int entry, .int material, .int length]) (rest := [.int 0, .ref o]) F (xX1_cut g2.1 (A := xA1 A o) (S := S) (ad := ad) (z := z) entry material length hW) (cwV 3 hts (lw_V q1259 q1260 q1261 q56 q1262) rfl rfl rfl hdV_X1_cut ⟨Nat.le_of_ble_eq_true rfl, Nat.le_of_ble_eq_true rfl⟩) (xpreV (xrecv hK (xw_0 hR) rfl) hWK1 hS1 hR) rfl rfl hl.1 rfl (lv_room (Nat.le_of_ble_eq_true rfl)) dX0_cut_7 ⟨Nat.le_of_ble_eq_true rfl, Nat.le_of_ble_eq_true rfl⟩) hS1 (fun E ce q9 H locs hX hz hk hS hq9 hv9 hc9 => ?_) (fun H locs hP hz hk hS => ?_)
  · have hO := hO.kept (hk o hO.lt (fun c => c.2 rfl))
    have hS := xS.more (A := A) hS (fun q c => c.1)
    rcases hC with e1 | e1 | e1 | e1 | e1
    · exact absurd e1 hX.2.1
    · rw [e1] at hX
      obtain ⟨rfl, -, z9, hR⟩ := hX
      refine xw_catch (name := xExn 3) hown [(0, 12, 15, 42), (0, 12, 19, 13), (0, 12, 23, 15), (0, 12, 27, 30)] (by rw [htb]; rfl) 0 rfl (fun i hi => absurd hi (Nat.not_lt_zero i)) (by decide) (by decide) (by decide) (hts _ q994) ((xnC hWK g q572).use rfl) hq9 hv9 hc9 ?_
      refine lv_astore (lv' := [(5, .ref q9), (0, .ref (ad (0, 0))), (1, .int entry), (2, .int material), (3, .int length), (4, .ref o)]) hx hb dX0_cut_15 hl (by decide) rfl (fun ls hl => ?_)
      refine lv_iconst (v := 1) hx hb dX0_cut_17 (by decide) ?_
      exact vx_ret (xr_Ci hx hb hr hlocks (by rw [e1]; rfl) ⟨ad, z9, f, by rw [e1]; exact hR, rfl, hO, fun c => by rw [e1] at c; cases c⟩ hS (by first | omega | decide) (by first | omega | decide) dX0_cut_18)
    · rw [e1] at hX
      obtain ⟨rfl, -, z9, hR⟩ := hX
      refine xw_catch (name := xExn 1) hown [(0, 12, 15, 42), (0, 12, 19, 13), (0, 12, 23, 15), (0, 12, 27, 30)] (by rw [htb]; rfl) 1 rfl (fun i hi r hr9 => by rcases (show i = 0 by omega) with hi0 <;> subst hi0 <;> cases hr9 <;> first | exact ⟨by decide, xExn 3, hts _ q994, xNcAt (i := 1) (j := 3) hWK g2.2 (by decide) (by decide) (by decide) (by decide) (by decide)⟩) (by decide) (by decide) (by decide) (hts _ q749) ((xnC hWK g q131).use rfl) hq9 hv9 hc9 ?_
      refine lv_astore (lv' := [(5, .ref q9), (0, .ref (ad (0, 0))), (1, .int entry), (2, .int material), (3, .int length), (4, .ref o)]) hx hb dX0_cut_19 hl (by decide) rfl (fun ls hl => ?_)
      refine lv_iconst (v := 2) hx hb dX0_cut_21 (by decide) ?_
      exact vx_ret (xr_Ci hx hb hr hlocks (by rw [e1]; rfl) ⟨ad, z9, f, by rw [e1]; exact hR, rfl, hO, fun c => by rw [e1] at c; cases c⟩ hS (by first | omega | decide) (by first | omega | decide) dX0_cut_22)
    · rw [e1] at hX
      obtain ⟨rfl, -, z9, hR⟩ := hX
      refine xw_catch (name := xExn 2) hown [(0, 12, 15, 42), (0, 12, 19, 13), (0, 12, 23, 15), (0, 12, 27, 30)] (by rw [htb]; rfl) 2 rfl (fun i hi r hr9 => by rcases (show i = 0 ∨ i = 1 by omega) with hi0 | hi0 <;> subst hi0 <;> cases hr9 <;> first | exact ⟨by decide, xExn 3, hts _ q994, xNcAt (i := 2) (j := 3) hWK g2.2 (by decide) (by decide) (by decide) (by decide) (by decide)⟩ | exact ⟨by decide, xExn 1, hts _ q749, xNcAt (i := 2) (j := 1) hWK g2.2 (by decide) (by decide) (by decide) (by decide) (by decide)⟩) (by decide) (by decide) (by decide) (hts _ q750) ((xnC hWK g q774).use rfl) hq9 hv9 hc9 ?_
      refine lv_astore (lv' := [(5, .ref q9), (0, .ref (ad (0, 0))), (1, .int entry), (2, .int material), (3, .int length), (4, .ref o)]) hx hb dX0_cut_23 hl (by decide) rfl (fun ls hl => ?_)
      refine lv_iconst (v := 3) hx hb dX0_cut_25 (by decide) ?_
      exact vx_ret (xr_Ci hx hb hr hlocks (by rw [e1]; rfl) ⟨ad, z9, f, by rw [e1]; exact hR, rfl, hO, fun c => by rw [e1] at c; cases c⟩ hS (by first | omega | decide) (by first | omega | decide) dX0_cut_26)
    · rw [e1] at hX
      obtain ⟨rfl, -, z9, hR⟩ := hX
      refine xw_catch (name := xExn 5) hown [(0, 12, 15, 42), (0, 12, 19, 13), (0, 12, 23, 15), (0, 12, 27, 30)] (by rw [htb]; rfl) 3 rfl (fun i hi r hr9 => by rcases (show i = 0 ∨ i = 1 ∨ i = 2 by omega) with hi0 | hi0 | hi0 <;> subst hi0 <;> cases hr9 <;> first | exact ⟨by decide, xExn 3, hts _ q994, xNcAt (i := 5) (j := 3) hWK g2.2 (by decide) (by decide) (by decide) (by decide) (by decide)⟩ | exact ⟨by decide, xExn 1, hts _ q749, xNcAt (i := 5) (j := 1) hWK g2.2 (by decide) (by decide) (by decide) (by decide) (by decide)⟩ | exact ⟨by decide, xExn 2, hts _ q750, xNcAt (i := 5) (j := 2) hWK g2.2 (by decide) (by decide) (by decide) (by decide) (by decide)⟩) (by decide) (by decide) (by decide) (hts _ q928) ((xnC hWK g q957).use rfl) hq9 hv9 hc9 ?_
      refine lv_astore (lv' := [(5, .ref q9), (0, .ref (ad (0, 0))), (1, .int entry), (2, .int material), (3, .int length), (4, .ref o)]) hx hb dX0_cut_27 hl (by decide) rfl (fun ls hl => ?_)
      refine lv_iconst (v := 4) hx hb dX0_cut_29 (by decide) ?_
      exact vx_ret (xr_Ci hx hb hr hlocks (by rw [e1]; rfl) ⟨ad, z9, f, by rw [e1]; exact hR, rfl, hO, fun c => by rw [e1] at c; cases c⟩ hS (by first | omega | decide) (by first | omega | decide) dX0_cut_30)
  · have hO := hO.kept (hk o hO.lt (fun c => c.2 rfl))
    have hS := xS.more (A := A) hS (fun q c => c.1)
    obtain ⟨e1, ad9, z9, hR, e2⟩ := hP
    refine lv_i2l hx hb dX0_cut_10 rfl ?_
    refine x_last hx hb hK hS hO hA9 (⟨by unfold vp_in; decide, by decide⟩ : xi 0 0 1) dX0_cut_11 (fun H locs hat hof hS => ?_)
    refine lv_goto (tgt := 31) hx hb dX0_cut_12 (by decide) ?_
    refine lv_iconst (v := 0) hx hb dX0_cut_31 (by decide) ?_
    exact vx_ret (xr_Ci hx hb hr hlocks (by rw [e1]; rfl) ⟨ad9, z9, _, by rw [e1]; exact hR.off (fun k i b e hb hi he c => (hR.A k i hb hi he).2 c) hof, e2, hat, fun _ => rfl⟩ hS (by first | omega | decide) (by first | omega | decide) dX0_cut_32)
theorem xX0_freeOf {l : Launch} {G : xG} {s0 : State} {b0 : Nat} (g2 : xG2 l G s0 b0) {A : Nat → Prop} {S : xS} {ad : Nat × Nat → Nat} {z : xZ} (o : Nat) (f : Nat → Value) (bar : Int32) (hW : xW S) (hC : (xFreeOf S bar).1 = 0 ∨ (xFreeOf S bar).1 = 3) : vx_Met l yX0_freeOf (wsW_ yX0_freeOf cX0_freeOf 4 (some .int) [(0, 9, 12, 42)]) ({ frames := 8, cells := 1, slots := 6, locals := 135 } : Room) (xP s0 A [.ref (ad (0, 0)), .int bar, .ref o] (fun H => xRX G (xA1 A o) S ad z H ∧ xat G o (xA 1 1 f) H ∧ A o)) (xQc (some (.int (xCd [3] (xFreeOf S bar).1))) (fun _ H => ∃ ad9 z9 f9, xRX G (xA1 A o) (if (xFreeOf S bar).1 = 0 then (xFreeOf S bar).2.2 else S) ad9 z9 H ∧ ad9 (0, 0) = ad (0, 0) ∧ xat G o (xA 1 1 f9) H ∧ ((xFreeOf S bar).1 = 0 → f9 0 = .long (xFreeOf S bar).2.1.toInt64)) A) (xXc (fun _ _ _ => False) A) 1 6 A := by
  refine vx_ofWH (cc := cX0_freeOf) (maxL := 4) (ret := (some .int)) (by decide) rfl ?_
  intro p e s m args below meth c s₁ B hml hv
  obtain ⟨rfl, hWK, hR, hO, hA9⟩ := hv
  have g := g2.1.1
  have hx := B.exec
  have hb := B.bytes
  have hr := B.returns
  have hts := atoms_spec (ws := wsW_ yX0_freeOf cX0_freeOf 4 (some .int) [(0, 9, 12, 42)]) B.pre
  have htb := vx_table (x := yX0_freeOf) B (hts _ List.mem_cons_self)
  have hts : ∀ w ∈ lw_all, w.before _ s = true := fun w h => hts w (List.mem_cons_of_mem _ h)
  have hown : s.vm.findClass "LendlatheLaw" = some m.cls := findClass_of_methodNamed B.named
  have hlocks := B.notSynchronized
  have hK := hWK.K g
  have F : CallFix p m c cX0_freeOf 4 s _ lw_all "LendlatheLaw" := ⟨hx, hb, hml, hown, hts⟩
  have hWK1 := hWK.less hO.lt
  have hS1 : va_S (xA1 A o) s.heap s.heap [] := va_S.rf
  have hl := lv_entry ([.ref (ad (0, 0)), .int bar, .ref o]) (n := 4) (Nat.le_of_ble_eq_true rfl)
  rw [lg_entry_eq]
  generalize (lg_sl ([.ref (ad (0, 0)), .int bar, .ref o]) ++ List.replicate (4 - (lg_sl ([.ref (ad (0, 0)), .int bar, .ref o])).length) Slot.unset).toArray = ls at hl ⊢
  have hl : lv_has ls 4 [(0, .ref (ad (0, 0))), (1, .int bar), (2, .ref o)] := hl
  refine lv_aload_n hx hb dX0_freeOf_0 rfl (lv_at hl 2 rfl) ?_
  refine lv_iconst (v := 0) hx hb dX0_freeOf_1 (by decide) ?_
  refine lv_aload_n hx hb dX0_freeOf_2 rfl (lv_at hl 0 rfl) ?_
  refine lv_iload_n hx hb dX0_freeOf_3 rfl (lv_at hl 1 rfl) ?_
  refine xc_X (vx_runV (As := [.int bar]) (rest := [.int 0, .ref o]) F (xX1_freeOf g2.1 (A := xA1 A o) (S := S) (ad := ad) (z := z) bar hW) (cwV 1 hts (lw_V q1266 q1267 q1268 q56 q1269) rfl rfl rfl hdV_X1_freeOf ⟨Nat.le_of_ble_eq_true rfl, Nat.le_of_ble_eq_true rfl⟩) (xpreV (xrecv hK (xw_0 hR) rfl) hWK1 hS1 hR) rfl rfl hl.1 rfl (lv_room (Nat.le_of_ble_eq_true rfl)) dX0_freeOf_4 ⟨Nat.le_of_ble_eq_true rfl, Nat.le_of_ble_eq_true rfl⟩) hS1 (fun E ce q9 H locs hX hz hk hS hq9 hv9 hc9 => ?_) (fun H locs hP hz hk hS => ?_)
  · have hO := hO.kept (hk o hO.lt (fun c => c.2 rfl))
    have hS := xS.more (A := A) hS (fun q c => c.1)
    rcases hC with e1 | e1
    · exact absurd e1 hX.2.1
    · rw [e1] at hX
      obtain ⟨rfl, -, z9, hR⟩ := hX
      refine xw_catch (name := xExn 3) hown [(0, 9, 12, 42)] (by rw [htb]; rfl) 0 rfl (fun i hi => absurd hi (Nat.not_lt_zero i)) (by decide) (by decide) (by decide) (hts _ q994) ((xnC hWK g q572).use rfl) hq9 hv9 hc9 ?_
      refine lv_astore_n (lv' := [(3, .ref q9), (0, .ref (ad (0, 0))), (1, .int bar), (2, .ref o)]) hx hb dX0_freeOf_12 rfl hl (by decide) rfl (fun ls hl => ?_)
      refine lv_iconst (v := 1) hx hb dX0_freeOf_13 (by decide) ?_
      exact vx_ret (xr_Ci hx hb hr hlocks (by rw [e1]; rfl) ⟨ad, z9, f, by rw [e1]; exact hR, rfl, hO, fun c => by rw [e1] at c; cases c⟩ hS (by first | omega | decide) (by first | omega | decide) dX0_freeOf_14)
  · have hO := hO.kept (hk o hO.lt (fun c => c.2 rfl))
    have hS := xS.more (A := A) hS (fun q c => c.1)
    obtain ⟨e1, ad9, z9, hR, e2⟩ := hP
    refine lv_i2l hx hb dX0_freeOf_7 rfl ?_
    refine x_last hx hb hK hS hO hA9 (⟨by unfold vp_in; decide, by decide⟩ : xi 0 0 1) dX0_freeOf_8 (fun H locs hat hof hS => ?_)
    refine lv_goto (tgt := 15) hx hb dX0_freeOf_9 (by decide) ?_
    refine lv_iconst (v := 0) hx hb dX0_freeOf_15 (by decide) ?_
    exact vx_ret (xr_Ci hx hb hr hlocks (by rw [e1]; rfl) ⟨ad9, z9, _, by rw [e1]; exact hR.off (fun k i b e hb hi he c => (hR.A k i hb hi he).2 c) hof, e2, hat, fun _ => rfl⟩ hS (by first | omega | decide) (by first | omega | decide) dX0_freeOf_16)
theorem xX0_freeByCuts {l : Launch} {G : xG} {s0 : State} {b0 : Nat} (g2 : xG2 l G s0 b0) {A : Nat → Prop} {S : xS} {ad : Nat × Nat → Nat} {z : xZ} (o : Nat) (f : Nat → Value) (bar : Int32) (hW : xW S) (hC : (xFreeCuts S bar).1 = 0 ∨ (xFreeCuts S bar).1 = 3) : vx_Met l yX0_freeByCuts (wsW_ yX0_freeByCuts cX0_freeByCuts 4 (some .int) [(0, 9, 12, 42)]) ({ frames := 8, cells := 1, slots := 6, locals := 135 } : Room) (xP s0 A [.ref (ad (0, 0)), .int bar, .ref o] (fun H => xRX G (xA1 A o) S ad z H ∧ xat G o (xA 1 1 f) H ∧ A o)) (xQc (some (.int (xCd [3] (xFreeCuts S bar).1))) (fun _ H => ∃ ad9 z9 f9, xRX G (xA1 A o) (if (xFreeCuts S bar).1 = 0 then (xFreeCuts S bar).2.2 else S) ad9 z9 H ∧ ad9 (0, 0) = ad (0, 0) ∧ xat G o (xA 1 1 f9) H ∧ ((xFreeCuts S bar).1 = 0 → f9 0 = .long (xFreeCuts S bar).2.1.toInt64)) A) (xXc (fun _ _ _ => False) A) 1 6 A := by
  refine vx_ofWH (cc := cX0_freeByCuts) (maxL := 4) (ret := (some .int)) (by decide) rfl ?_
  intro p e s m args below meth c s₁ B hml hv
  obtain ⟨rfl, hWK, hR, hO, hA9⟩ := hv
  have g := g2.1.1
  have hx := B.exec
  have hb := B.bytes
  have hr := B.returns
  have hts := atoms_spec (ws := wsW_ yX0_freeByCuts cX0_freeByCuts 4 (some .int) [(0, 9, 12, 42)]) B.pre
  have htb := vx_table (x := yX0_freeByCuts) B (hts _ List.mem_cons_self)
  have hts : ∀ w ∈ lw_all, w.before _ s = true := fun w h => hts w (List.mem_cons_of_mem _ h)
  have hown : s.vm.findClass "LendlatheLaw" = some m.cls := findClass_of_methodNamed B.named
  have hlocks := B.notSynchronized
  have hK := hWK.K g
  have F : CallFix p m c cX0_freeByCuts 4 s _ lw_all "LendlatheLaw" := ⟨hx, hb, hml, hown, hts⟩
  have hWK1 := hWK.less hO.lt
  have hS1 : va_S (xA1 A o) s.heap s.heap [] := va_S.rf
  have hl := lv_entry ([.ref (ad (0, 0)), .int bar, .ref o]) (n := 4) (Nat.le_of_ble_eq_true rfl)
  rw [lg_entry_eq]
  generalize (lg_sl ([.ref (ad (0, 0)), .int bar, .ref o]) ++ List.replicate (4 - (lg_sl ([.ref (ad (0, 0)), .int bar, .ref o])).length) Slot.unset).toArray = ls at hl ⊢
  have hl : lv_has ls 4 [(0, .ref (ad (0, 0))), (1, .int bar), (2, .ref o)] := hl
  refine lv_aload_n hx hb dX0_freeByCuts_0 rfl (lv_at hl 2 rfl) ?_
  refine lv_iconst (v := 0) hx hb dX0_freeByCuts_1 (by decide) ?_
  refine lv_aload_n hx hb dX0_freeByCuts_2 rfl (lv_at hl 0 rfl) ?_
  refine lv_iload_n hx hb dX0_freeByCuts_3 rfl (lv_at hl 1 rfl) ?_
  refine xc_X (vx_runV (As := [.int bar]) (rest := [.int 0, .ref o]) F (xX1_freeByCuts g2.1 (A := xA1 A o) (S := S) (ad := ad) (z := z) bar hW) (cwV 1 hts (lw_V q1273 q1274 q1275 q56 q1276) rfl rfl rfl hdV_X1_freeByCuts ⟨Nat.le_of_ble_eq_true rfl, Nat.le_of_ble_eq_true rfl⟩) (xpreV (xrecv hK (xw_0 hR) rfl) hWK1 hS1 hR) rfl rfl hl.1 rfl (lv_room (Nat.le_of_ble_eq_true rfl)) dX0_freeByCuts_4 ⟨Nat.le_of_ble_eq_true rfl, Nat.le_of_ble_eq_true rfl⟩) hS1 (fun E ce q9 H locs hX hz hk hS hq9 hv9 hc9 => ?_) (fun H locs hP hz hk hS => ?_)
  · have hO := hO.kept (hk o hO.lt (fun c => c.2 rfl))
    have hS := xS.more (A := A) hS (fun q c => c.1)
    rcases hC with e1 | e1
    · exact absurd e1 hX.2.1
    · rw [e1] at hX
      obtain ⟨rfl, -, z9, hR⟩ := hX
      refine xw_catch (name := xExn 3) hown [(0, 9, 12, 42)] (by rw [htb]; rfl) 0 rfl (fun i hi => absurd hi (Nat.not_lt_zero i)) (by decide) (by decide) (by decide) (hts _ q994) ((xnC hWK g q572).use rfl) hq9 hv9 hc9 ?_
      refine lv_astore_n (lv' := [(3, .ref q9), (0, .ref (ad (0, 0))), (1, .int bar), (2, .ref o)]) hx hb dX0_freeByCuts_12 rfl hl (by decide) rfl (fun ls hl => ?_)
      refine lv_iconst (v := 1) hx hb dX0_freeByCuts_13 (by decide) ?_
      exact vx_ret (xr_Ci hx hb hr hlocks (by rw [e1]; rfl) ⟨ad, z9, f, by rw [e1]; exact hR, rfl, hO, fun c => by rw [e1] at c; cases c⟩ hS (by first | omega | decide) (by first | omega | decide) dX0_freeByCuts_14)
  · have hO := hO.kept (hk o hO.lt (fun c => c.2 rfl))
    have hS := xS.more (A := A) hS (fun q c => c.1)
    obtain ⟨e1, ad9, z9, hR, e2⟩ := hP
    refine lv_i2l hx hb dX0_freeByCuts_7 rfl ?_
    refine x_last hx hb hK hS hO hA9 (⟨by unfold vp_in; decide, by decide⟩ : xi 0 0 1) dX0_freeByCuts_8 (fun H locs hat hof hS => ?_)
    refine lv_goto (tgt := 15) hx hb dX0_freeByCuts_9 (by decide) ?_
    refine lv_iconst (v := 0) hx hb dX0_freeByCuts_15 (by decide) ?_
    exact vx_ret (xr_Ci hx hb hr hlocks (by rw [e1]; rfl) ⟨ad9, z9, _, by rw [e1]; exact hR.off (fun k i b e hb hi he c => (hR.A k i hb hi he).2 c) hof, e2, hat, fun _ => rfl⟩ hS (by first | omega | decide) (by first | omega | decide) dX0_freeByCuts_16)
theorem xX0_setPrice {l : Launch} {G : xG} {s0 : State} {b0 : Nat} (g2 : xG2 l G s0 b0) {A : Nat → Prop} {S : xS} {ad : Nat × Nat → Nat} {z : xZ} (o : Nat) (f : Nat → Value) (material price : Int32) (hW : xW S) (hC : (xSetPrice S material price).1 = 0 ∨ (xSetPrice S material price).1 = 1) : vx_Met l yX0_setPrice (wsW_ yX0_setPrice cX0_setPrice 5 (some .int) [(0, 10, 13, 13)]) ({ frames := 8, cells := 1, slots := 6, locals := 136 } : Room) (xP s0 A [.ref (ad (0, 0)), .int material, .int price, .ref o] (fun H => xRX G (xA1 A o) S ad z H ∧ xat G o (xA 1 1 f) H ∧ A o)) (xQc (some (.int (xCd [1] (xSetPrice S material price).1))) (fun _ H => ∃ ad9 z9 f9, xRX G (xA1 A o) (if (xSetPrice S material price).1 = 0 then (xSetPrice S material price).2.2 else S) ad9 z9 H ∧ ad9 (0, 0) = ad (0, 0) ∧ xat G o (xA 1 1 f9) H ∧ ((xSetPrice S material price).1 = 0 → f9 0 = .long (xSetPrice S material price).2.1.toInt64)) A) (xXc (fun _ _ _ => False) A) 1 6 A := by
  refine vx_ofWH (cc := cX0_setPrice) (maxL := 5) (ret := (some .int)) (by decide) rfl ?_
  intro p e s m args below meth c s₁ B hml hv
  obtain ⟨rfl, hWK, hR, hO, hA9⟩ := hv
  have g := g2.1.1
  have hx := B.exec
  have hb := B.bytes
  have hr := B.returns
  have hts := atoms_spec (ws := wsW_ yX0_setPrice cX0_setPrice 5 (some .int) [(0, 10, 13, 13)]) B.pre
  have htb := vx_table (x := yX0_setPrice) B (hts _ List.mem_cons_self)
  have hts : ∀ w ∈ lw_all, w.before _ s = true := fun w h => hts w (List.mem_cons_of_mem _ h)
  have hown : s.vm.findClass "LendlatheLaw" = some m.cls := findClass_of_methodNamed B.named
  have hlocks := B.notSynchronized
  have hK := hWK.K g
  have F : CallFix p m c cX0_setPrice 5 s _ lw_all "LendlatheLaw" := ⟨hx, hb, hml, hown, hts⟩
  have hWK1 := hWK.less hO.lt
  have hS1 : va_S (xA1 A o) s.heap s.heap [] := va_S.rf
  have hl := lv_entry ([.ref (ad (0, 0)), .int material, .int price, .ref o]) (n := 5) (Nat.le_of_ble_eq_true rfl)
  rw [lg_entry_eq]
  generalize (lg_sl ([.ref (ad (0, 0)), .int material, .int price, .ref o]) ++ List.replicate (5 - (lg_sl ([.ref (ad (0, 0)), .int material, .int price, .ref o])).length) Slot.unset).toArray = ls at hl ⊢
  have hl : lv_has ls 5 [(0, .ref (ad (0, 0))), (1, .int material), (2, .int price), (3, .ref o)] := hl
  refine lv_aload_n hx hb dX0_setPrice_0 rfl (lv_at hl 3 rfl) ?_
  refine lv_iconst (v := 0) hx hb dX0_setPrice_1 (by decide) ?_
  refine lv_aload_n hx hb dX0_setPrice_2 rfl (lv_at hl 0 rfl) ?_
  refine lv_iload_n hx hb dX0_setPrice_3 rfl (lv_at hl 1 rfl) ?_
  refine lv_iload_n hx hb dX0_setPrice_4 rfl (lv_at hl 2 rfl) ?_
  refine xc_X (vx_runV (As := [.int material, .int price]) (rest := [.int 0, .ref o]) F (xX1_setPrice g2.1 (A := xA1 A o) (S := S) (ad := ad) (z := z) material price hW) (cwV 2 hts (lw_V q1280 q1281 q1282 q56 q1283) rfl rfl rfl hdV_X1_setPrice ⟨Nat.le_of_ble_eq_true rfl, Nat.le_of_ble_eq_true rfl⟩) (xpreV (xrecv hK (xw_0 hR) rfl) hWK1 hS1 hR) rfl rfl hl.1 rfl (lv_room (Nat.le_of_ble_eq_true rfl)) dX0_setPrice_5 ⟨Nat.le_of_ble_eq_true rfl, Nat.le_of_ble_eq_true rfl⟩) hS1 (fun E ce q9 H locs hX hz hk hS hq9 hv9 hc9 => ?_) (fun H locs hP hz hk hS => ?_)
  · have hO := hO.kept (hk o hO.lt (fun c => c.2 rfl))
    have hS := xS.more (A := A) hS (fun q c => c.1)
    rcases hC with e1 | e1
    · exact absurd e1 hX.2.1
    · rw [e1] at hX
      obtain ⟨rfl, -, z9, hR⟩ := hX
      refine xw_catch (name := xExn 1) hown [(0, 10, 13, 13)] (by rw [htb]; rfl) 0 rfl (fun i hi => absurd hi (Nat.not_lt_zero i)) (by decide) (by decide) (by decide) (hts _ q749) ((xnC hWK g q131).use rfl) hq9 hv9 hc9 ?_
      refine lv_astore (lv' := [(4, .ref q9), (0, .ref (ad (0, 0))), (1, .int material), (2, .int price), (3, .ref o)]) hx hb dX0_setPrice_13 hl (by decide) rfl (fun ls hl => ?_)
      refine lv_iconst (v := 1) hx hb dX0_setPrice_15 (by decide) ?_
      exact vx_ret (xr_Ci hx hb hr hlocks (by rw [e1]; rfl) ⟨ad, z9, f, by rw [e1]; exact hR, rfl, hO, fun c => by rw [e1] at c; cases c⟩ hS (by first | omega | decide) (by first | omega | decide) dX0_setPrice_16)
  · have hO := hO.kept (hk o hO.lt (fun c => c.2 rfl))
    have hS := xS.more (A := A) hS (fun q c => c.1)
    obtain ⟨e1, ad9, z9, hR, e2⟩ := hP
    refine lv_i2l hx hb dX0_setPrice_8 rfl ?_
    refine x_last hx hb hK hS hO hA9 (⟨by unfold vp_in; decide, by decide⟩ : xi 0 0 1) dX0_setPrice_9 (fun H locs hat hof hS => ?_)
    refine lv_goto (tgt := 17) hx hb dX0_setPrice_10 (by decide) ?_
    refine lv_iconst (v := 0) hx hb dX0_setPrice_17 (by decide) ?_
    exact vx_ret (xr_Ci hx hb hr hlocks (by rw [e1]; rfl) ⟨ad9, z9, _, by rw [e1]; exact hR.off (fun k i b e hb hi he c => (hR.A k i hb hi he).2 c) hof, e2, hat, fun _ => rfl⟩ hS (by first | omega | decide) (by first | omega | decide) dX0_setPrice_18)
theorem xX0_setRate {l : Launch} {G : xG} {s0 : State} {b0 : Nat} (g2 : xG2 l G s0 b0) {A : Nat → Prop} {S : xS} {ad : Nat × Nat → Nat} {z : xZ} (o : Nat) (f : Nat → Value) (kind rate : Int32) (hW : xW S) (hT : xTd S) (hp : xPt S) (hC : (xSetRate S kind rate).1 = 0 ∨ (xSetRate S kind rate).1 = 1) : vx_Met l yX0_setRate (wsW_ yX0_setRate cX0_setRate 5 (some .int) [(0, 10, 13, 13)]) ({ frames := 8, cells := 2, slots := 8, locals := 3110 } : Room) (xP s0 A [.ref (ad (0, 0)), .int kind, .int rate, .ref o] (fun H => xRX G (xA1 A o) S ad z H ∧ xat G o (xA 1 1 f) H ∧ A o)) (xQc (some (.int (xCd [1] (xSetRate S kind rate).1))) (fun _ H => ∃ ad9 z9 f9, xRX G (xA1 A o) (if (xSetRate S kind rate).1 = 0 then (xSetRate S kind rate).2.2 else S) ad9 z9 H ∧ ad9 (0, 0) = ad (0, 0) ∧ xat G o (xA 1 1 f9) H ∧ ((xSetRate S kind rate).1 = 0 → f9 0 = .long (xSetRate S kind rate).2.1.toInt64)) A) (xXc (fun _ _ _ => False) A) 2 8 A := by
  refine vx_ofWH (cc := cX0_setRate) (maxL := 5) (ret := (some .int)) (by decide) rfl ?_
  intro p e s m args below meth c s₁ B hml hv
  obtain ⟨rfl, hWK, hR, hO, hA9⟩ := hv
  have g := g2.1.1
  have hx := B.exec
  have hb := B.bytes
  have hr := B.returns
  have hts := atoms_spec (ws := wsW_ yX0_setRate cX0_setRate 5 (some .int) [(0, 10, 13, 13)]) B.pre
  have htb := vx_table (x := yX0_setRate) B (hts _ List.mem_cons_self)
  have hts : ∀ w ∈ lw_all, w.before _ s = true := fun w h => hts w (List.mem_cons_of_mem _ h)
  have hown : s.vm.findClass "LendlatheLaw" = some m.cls := findClass_of_methodNamed B.named
  have hlocks := B.notSynchronized
  have hK := hWK.K g
  have F : CallFix p m c cX0_setRate 5 s _ lw_all "LendlatheLaw" := ⟨hx, hb, hml, hown, hts⟩
  have hWK1 := hWK.less hO.lt
  have hS1 : va_S (xA1 A o) s.heap s.heap [] := va_S.rf
  have hl := lv_entry ([.ref (ad (0, 0)), .int kind, .int rate, .ref o]) (n := 5) (Nat.le_of_ble_eq_true rfl)
  rw [lg_entry_eq]
  generalize (lg_sl ([.ref (ad (0, 0)), .int kind, .int rate, .ref o]) ++ List.replicate (5 - (lg_sl ([.ref (ad (0, 0)), .int kind, .int rate, .ref o])).length) Slot.unset).toArray = ls at hl ⊢
  have hl : lv_has ls 5 [(0, .ref (ad (0, 0))), (1, .int kind), (2, .int rate), (3, .ref o)] := hl
  refine lv_aload_n hx hb dX0_setRate_0 rfl (lv_at hl 3 rfl) ?_
  refine lv_iconst (v := 0) hx hb dX0_setRate_1 (by decide) ?_
  refine lv_aload_n hx hb dX0_setRate_2 rfl (lv_at hl 0 rfl) ?_
  refine lv_iload_n hx hb dX0_setRate_3 rfl (lv_at hl 1 rfl) ?_
  refine lv_iload_n hx hb dX0_setRate_4 rfl (lv_at hl 2 rfl) ?_
  refine xc_X (vx_runV (As := [.int kind, .int rate]) (rest := [.int 0, .ref o]) F (xX1_setRate g2.1 (A := xA1 A o) (S := S) (ad := ad) (z := z) kind rate hW hT hp) (cwV 2 hts (lw_V q1287 q1288 q1289 q56 q1290) rfl rfl rfl hdV_X1_setRate ⟨Nat.le_of_ble_eq_true rfl, Nat.le_of_ble_eq_true rfl⟩) (xpreV (xrecv hK (xw_0 hR) rfl) hWK1 hS1 hR) rfl rfl hl.1 rfl (lv_room (Nat.le_of_ble_eq_true rfl)) dX0_setRate_5 ⟨Nat.le_of_ble_eq_true rfl, Nat.le_of_ble_eq_true rfl⟩) hS1 (fun E ce q9 H locs hX hz hk hS hq9 hv9 hc9 => ?_) (fun H locs hP hz hk hS => ?_)
  · have hO := hO.kept (hk o hO.lt (fun c => c.2 rfl))
    have hS := xS.more (A := A) hS (fun q c => c.1)
    rcases hC with e1 | e1
    · exact absurd e1 hX.2.1
    · rw [e1] at hX
      obtain ⟨rfl, -, z9, hR⟩ := hX
      refine xw_catch (name := xExn 1) hown [(0, 10, 13, 13)] (by rw [htb]; rfl) 0 rfl (fun i hi => absurd hi (Nat.not_lt_zero i)) (by decide) (by decide) (by decide) (hts _ q749) ((xnC hWK g q131).use rfl) hq9 hv9 hc9 ?_
      refine lv_astore (lv' := [(4, .ref q9), (0, .ref (ad (0, 0))), (1, .int kind), (2, .int rate), (3, .ref o)]) hx hb dX0_setRate_13 hl (by decide) rfl (fun ls hl => ?_)
      refine lv_iconst (v := 1) hx hb dX0_setRate_15 (by decide) ?_
      exact vx_ret (xr_Ci hx hb hr hlocks (by rw [e1]; rfl) ⟨ad, z9, f, by rw [e1]; exact hR, rfl, hO, fun c => by rw [e1] at c; cases c⟩ hS (by first | omega | decide) (by first | omega | decide) dX0_setRate_16)
  · have hO := hO.kept (hk o hO.lt (fun c => c.2 rfl))
    have hS := xS.more (A := A) hS (fun q c => c.1)
    obtain ⟨e1, ad9, z9, hR, e2⟩ := hP
    refine lv_i2l hx hb dX0_setRate_8 rfl ?_
    refine x_last hx hb hK hS hO hA9 (⟨by unfold vp_in; decide, by decide⟩ : xi 0 0 1) dX0_setRate_9 (fun H locs hat hof hS => ?_)
    refine lv_goto (tgt := 17) hx hb dX0_setRate_10 (by decide) ?_
    refine lv_iconst (v := 0) hx hb dX0_setRate_17 (by decide) ?_
    exact vx_ret (xr_Ci hx hb hr hlocks (by rw [e1]; rfl) ⟨ad9, z9, _, by rw [e1]; exact hR.off (fun k i b e hb hi he c => (hR.A k i hb hi he).2 c) hof, e2, hat, fun _ => rfl⟩ hS (by first | omega | decide) (by first | omega | decide) dX0_setRate_18)
theorem xX0_addFee {l : Launch} {G : xG} {s0 : State} {b0 : Nat} (g2 : xG2 l G s0 b0) {A : Nat → Prop} {S : xS} {ad : Nat × Nat → Nat} {z : xZ} (o : Nat) (f : Nat → Value) (kind v : Int32) (hW : xW S) (hT : xTd S) (hp : xPt S) (hC : (xAddT 1 999 S kind v).1 = 0 ∨ (xAddT 1 999 S kind v).1 = 1 ∨ (xAddT 1 999 S kind v).1 = 2) : vx_Met l yX0_addFee (wsW_ yX0_addFee cX0_addFee 5 (some .int) [(0, 10, 13, 13), (0, 10, 17, 15)]) ({ frames := 9, cells := 2, slots := 8, locals := 3111 } : Room) (xP s0 A [.ref (ad (0, 0)), .int kind, .int v, .ref o] (fun H => xRX G (xA1 A o) S ad z H ∧ xat G o (xA 1 1 f) H ∧ A o)) (xQc (some (.int (xCd [1, 2] (xAddT 1 999 S kind v).1))) (fun _ H => ∃ ad9 z9 f9, xRX G (xA1 A o) (if (xAddT 1 999 S kind v).1 = 0 then (xAddT 1 999 S kind v).2.2 else S) ad9 z9 H ∧ ad9 (0, 0) = ad (0, 0) ∧ xat G o (xA 1 1 f9) H ∧ ((xAddT 1 999 S kind v).1 = 0 → f9 0 = .long (xAddT 1 999 S kind v).2.1.toInt64)) A) (xXc (fun _ _ _ => False) A) 2 8 A := by
  refine vx_ofWH (cc := cX0_addFee) (maxL := 5) (ret := (some .int)) (by decide) rfl ?_
  intro p e s m args below meth c s₁ B hml hv
  obtain ⟨rfl, hWK, hR, hO, hA9⟩ := hv
  have g := g2.1.1
  have hx := B.exec
  have hb := B.bytes
  have hr := B.returns
  have hts := atoms_spec (ws := wsW_ yX0_addFee cX0_addFee 5 (some .int) [(0, 10, 13, 13), (0, 10, 17, 15)]) B.pre
  have htb := vx_table (x := yX0_addFee) B (hts _ List.mem_cons_self)
  have hts : ∀ w ∈ lw_all, w.before _ s = true := fun w h => hts w (List.mem_cons_of_mem _ h)
  have hown : s.vm.findClass "LendlatheLaw" = some m.cls := findClass_of_methodNamed B.named
  have hlocks := B.notSynchronized
  have hK := hWK.K g
  have F : CallFix p m c cX0_addFee 5 s _ lw_all "LendlatheLaw" := ⟨hx, hb, hml, hown, hts⟩
  have hWK1 := hWK.less hO.lt
  have hS1 : va_S (xA1 A o) s.heap s.heap [] := va_S.rf
  have hl := lv_entry ([.ref (ad (0, 0)), .int kind, .int v, .ref o]) (n := 5) (Nat.le_of_ble_eq_true rfl)
  rw [lg_entry_eq]
  generalize (lg_sl ([.ref (ad (0, 0)), .int kind, .int v, .ref o]) ++ List.replicate (5 - (lg_sl ([.ref (ad (0, 0)), .int kind, .int v, .ref o])).length) Slot.unset).toArray = ls at hl ⊢
  have hl : lv_has ls 5 [(0, .ref (ad (0, 0))), (1, .int kind), (2, .int v), (3, .ref o)] := hl
  refine lv_aload_n hx hb dX0_addFee_0 rfl (lv_at hl 3 rfl) ?_
  refine lv_iconst (v := 0) hx hb dX0_addFee_1 (by decide) ?_
  refine lv_aload_n hx hb dX0_addFee_2 rfl (lv_at hl 0 rfl) ?_
  refine lv_iload_n hx hb dX0_addFee_3 rfl (lv_at hl 1 rfl) ?_
  refine lv_iload_n hx hb dX0_addFee_4 rfl (lv_at hl 2 rfl) ?_
  refine xc_X (vx_runV (As := [.int kind, .int v]) (rest := [.int 0, .ref o]) F (xX1_addFee g2.1 (A := xA1 A o) (S := S) (ad := ad) (z := z) kind v hW hT hp) (cwV 2 hts (lw_V q1296 q1297 q1298 q56 q1299) rfl rfl rfl hdV_X1_addFee ⟨Nat.le_of_ble_eq_true rfl, Nat.le_of_ble_eq_true rfl⟩) (xpreV (xrecv hK (xw_0 hR) rfl) hWK1 hS1 hR) rfl rfl hl.1 rfl (lv_room (Nat.le_of_ble_eq_true rfl)) dX0_addFee_5 ⟨Nat.le_of_ble_eq_true rfl, Nat.le_of_ble_eq_true rfl⟩) hS1 (fun E ce q9 H locs hX hz hk hS hq9 hv9 hc9 => ?_) (fun H locs hP hz hk hS => ?_)
  · have hO := hO.kept (hk o hO.lt (fun c => c.2 rfl))
    have hS := xS.more (A := A) hS (fun q c => c.1)
    rcases hC with e1 | e1 | e1
    · exact absurd e1 hX.2.1
    · rw [e1] at hX
      obtain ⟨rfl, -, z9, hR⟩ := hX
      refine xw_catch (name := xExn 1) hown [(0, 10, 13, 13), (0, 10, 17, 15)] (by rw [htb]; rfl) 0 rfl (fun i hi => absurd hi (Nat.not_lt_zero i)) (by decide) (by decide) (by decide) (hts _ q749) ((xnC hWK g q131).use rfl) hq9 hv9 hc9 ?_
      refine lv_astore (lv' := [(4, .ref q9), (0, .ref (ad (0, 0))), (1, .int kind), (2, .int v), (3, .ref o)]) hx hb dX0_addFee_13 hl (by decide) rfl (fun ls hl => ?_)
      refine lv_iconst (v := 1) hx hb dX0_addFee_15 (by decide) ?_
      exact vx_ret (xr_Ci hx hb hr hlocks (by rw [e1]; rfl) ⟨ad, z9, f, by rw [e1]; exact hR, rfl, hO, fun c => by rw [e1] at c; cases c⟩ hS (by first | omega | decide) (by first | omega | decide) dX0_addFee_16)
    · rw [e1] at hX
      obtain ⟨rfl, -, z9, hR⟩ := hX
      refine xw_catch (name := xExn 2) hown [(0, 10, 13, 13), (0, 10, 17, 15)] (by rw [htb]; rfl) 1 rfl (fun i hi r hr9 => by rcases (show i = 0 by omega) with hi0 <;> subst hi0 <;> cases hr9 <;> first | exact ⟨by decide, xExn 1, hts _ q749, xNcAt (i := 2) (j := 1) hWK g2.2 (by decide) (by decide) (by decide) (by decide) (by decide)⟩) (by decide) (by decide) (by decide) (hts _ q750) ((xnC hWK g q774).use rfl) hq9 hv9 hc9 ?_
      refine lv_astore (lv' := [(4, .ref q9), (0, .ref (ad (0, 0))), (1, .int kind), (2, .int v), (3, .ref o)]) hx hb dX0_addFee_17 hl (by decide) rfl (fun ls hl => ?_)
      refine lv_iconst (v := 2) hx hb dX0_addFee_19 (by decide) ?_
      exact vx_ret (xr_Ci hx hb hr hlocks (by rw [e1]; rfl) ⟨ad, z9, f, by rw [e1]; exact hR, rfl, hO, fun c => by rw [e1] at c; cases c⟩ hS (by first | omega | decide) (by first | omega | decide) dX0_addFee_20)
  · have hO := hO.kept (hk o hO.lt (fun c => c.2 rfl))
    have hS := xS.more (A := A) hS (fun q c => c.1)
    obtain ⟨e1, ad9, z9, hR, e2⟩ := hP
    refine lv_i2l hx hb dX0_addFee_8 rfl ?_
    refine x_last hx hb hK hS hO hA9 (⟨by unfold vp_in; decide, by decide⟩ : xi 0 0 1) dX0_addFee_9 (fun H locs hat hof hS => ?_)
    refine lv_goto (tgt := 21) hx hb dX0_addFee_10 (by decide) ?_
    refine lv_iconst (v := 0) hx hb dX0_addFee_21 (by decide) ?_
    exact vx_ret (xr_Ci hx hb hr hlocks (by rw [e1]; rfl) ⟨ad9, z9, _, by rw [e1]; exact hR.off (fun k i b e hb hi he c => (hR.A k i hb hi he).2 c) hof, e2, hat, fun _ => rfl⟩ hS (by first | omega | decide) (by first | omega | decide) dX0_addFee_22)
theorem xX0_addCap {l : Launch} {G : xG} {s0 : State} {b0 : Nat} (g2 : xG2 l G s0 b0) {A : Nat → Prop} {S : xS} {ad : Nat × Nat → Nat} {z : xZ} (o : Nat) (f : Nat → Value) (kind v : Int32) (hW : xW S) (hT : xTd S) (hp : xPt S) (hC : (xAddT 2 9999 S kind v).1 = 0 ∨ (xAddT 2 9999 S kind v).1 = 1 ∨ (xAddT 2 9999 S kind v).1 = 2) : vx_Met l yX0_addCap (wsW_ yX0_addCap cX0_addCap 5 (some .int) [(0, 10, 13, 13), (0, 10, 17, 15)]) ({ frames := 9, cells := 2, slots := 8, locals := 3111 } : Room) (xP s0 A [.ref (ad (0, 0)), .int kind, .int v, .ref o] (fun H => xRX G (xA1 A o) S ad z H ∧ xat G o (xA 1 1 f) H ∧ A o)) (xQc (some (.int (xCd [1, 2] (xAddT 2 9999 S kind v).1))) (fun _ H => ∃ ad9 z9 f9, xRX G (xA1 A o) (if (xAddT 2 9999 S kind v).1 = 0 then (xAddT 2 9999 S kind v).2.2 else S) ad9 z9 H ∧ ad9 (0, 0) = ad (0, 0) ∧ xat G o (xA 1 1 f9) H ∧ ((xAddT 2 9999 S kind v).1 = 0 → f9 0 = .long (xAddT 2 9999 S kind v).2.1.toInt64)) A) (xXc (fun _ _ _ => False) A) 2 8 A := by
  refine vx_ofWH (cc := cX0_addCap) (maxL := 5) (ret := (some .int)) (by decide) rfl ?_
  intro p e s m args below meth c s₁ B hml hv
  obtain ⟨rfl, hWK, hR, hO, hA9⟩ := hv
  have g := g2.1.1
  have hx := B.exec
  have hb := B.bytes
  have hr := B.returns
  have hts := atoms_spec (ws := wsW_ yX0_addCap cX0_addCap 5 (some .int) [(0, 10, 13, 13), (0, 10, 17, 15)]) B.pre
  have htb := vx_table (x := yX0_addCap) B (hts _ List.mem_cons_self)
  have hts : ∀ w ∈ lw_all, w.before _ s = true := fun w h => hts w (List.mem_cons_of_mem _ h)
  have hown : s.vm.findClass "LendlatheLaw" = some m.cls := findClass_of_methodNamed B.named
  have hlocks := B.notSynchronized
  have hK := hWK.K g
  have F : CallFix p m c cX0_addCap 5 s _ lw_all "LendlatheLaw" := ⟨hx, hb, hml, hown, hts⟩
  have hWK1 := hWK.less hO.lt
  have hS1 : va_S (xA1 A o) s.heap s.heap [] := va_S.rf
  have hl := lv_entry ([.ref (ad (0, 0)), .int kind, .int v, .ref o]) (n := 5) (Nat.le_of_ble_eq_true rfl)
  rw [lg_entry_eq]
  generalize (lg_sl ([.ref (ad (0, 0)), .int kind, .int v, .ref o]) ++ List.replicate (5 - (lg_sl ([.ref (ad (0, 0)), .int kind, .int v, .ref o])).length) Slot.unset).toArray = ls at hl ⊢
  have hl : lv_has ls 5 [(0, .ref (ad (0, 0))), (1, .int kind), (2, .int v), (3, .ref o)] := hl
  refine lv_aload_n hx hb dX0_addCap_0 rfl (lv_at hl 3 rfl) ?_
  refine lv_iconst (v := 0) hx hb dX0_addCap_1 (by decide) ?_
  refine lv_aload_n hx hb dX0_addCap_2 rfl (lv_at hl 0 rfl) ?_
  refine lv_iload_n hx hb dX0_addCap_3 rfl (lv_at hl 1 rfl) ?_
  refine lv_iload_n hx hb dX0_addCap_4 rfl (lv_at hl 2 rfl) ?_
  refine xc_X (vx_runV (As := [.int kind, .int v]) (rest := [.int 0, .ref o]) F (xX1_addCap g2.1 (A := xA1 A o) (S := S) (ad := ad) (z := z) kind v hW hT hp) (cwV 2 hts (lw_V q1315 q1316 q1317 q56 q1318) rfl rfl rfl hdV_X1_addCap ⟨Nat.le_of_ble_eq_true rfl, Nat.le_of_ble_eq_true rfl⟩) (xpreV (xrecv hK (xw_0 hR) rfl) hWK1 hS1 hR) rfl rfl hl.1 rfl (lv_room (Nat.le_of_ble_eq_true rfl)) dX0_addCap_5 ⟨Nat.le_of_ble_eq_true rfl, Nat.le_of_ble_eq_true rfl⟩) hS1 (fun E ce q9 H locs hX hz hk hS hq9 hv9 hc9 => ?_) (fun H locs hP hz hk hS => ?_)
  · have hO := hO.kept (hk o hO.lt (fun c => c.2 rfl))
    have hS := xS.more (A := A) hS (fun q c => c.1)
    rcases hC with e1 | e1 | e1
    · exact absurd e1 hX.2.1
    · rw [e1] at hX
      obtain ⟨rfl, -, z9, hR⟩ := hX
      refine xw_catch (name := xExn 1) hown [(0, 10, 13, 13), (0, 10, 17, 15)] (by rw [htb]; rfl) 0 rfl (fun i hi => absurd hi (Nat.not_lt_zero i)) (by decide) (by decide) (by decide) (hts _ q749) ((xnC hWK g q131).use rfl) hq9 hv9 hc9 ?_
      refine lv_astore (lv' := [(4, .ref q9), (0, .ref (ad (0, 0))), (1, .int kind), (2, .int v), (3, .ref o)]) hx hb dX0_addCap_13 hl (by decide) rfl (fun ls hl => ?_)
      refine lv_iconst (v := 1) hx hb dX0_addCap_15 (by decide) ?_
      exact vx_ret (xr_Ci hx hb hr hlocks (by rw [e1]; rfl) ⟨ad, z9, f, by rw [e1]; exact hR, rfl, hO, fun c => by rw [e1] at c; cases c⟩ hS (by first | omega | decide) (by first | omega | decide) dX0_addCap_16)
    · rw [e1] at hX
      obtain ⟨rfl, -, z9, hR⟩ := hX
      refine xw_catch (name := xExn 2) hown [(0, 10, 13, 13), (0, 10, 17, 15)] (by rw [htb]; rfl) 1 rfl (fun i hi r hr9 => by rcases (show i = 0 by omega) with hi0 <;> subst hi0 <;> cases hr9 <;> first | exact ⟨by decide, xExn 1, hts _ q749, xNcAt (i := 2) (j := 1) hWK g2.2 (by decide) (by decide) (by decide) (by decide) (by decide)⟩) (by decide) (by decide) (by decide) (hts _ q750) ((xnC hWK g q774).use rfl) hq9 hv9 hc9 ?_
      refine lv_astore (lv' := [(4, .ref q9), (0, .ref (ad (0, 0))), (1, .int kind), (2, .int v), (3, .ref o)]) hx hb dX0_addCap_17 hl (by decide) rfl (fun ls hl => ?_)
      refine lv_iconst (v := 2) hx hb dX0_addCap_19 (by decide) ?_
      exact vx_ret (xr_Ci hx hb hr hlocks (by rw [e1]; rfl) ⟨ad, z9, f, by rw [e1]; exact hR, rfl, hO, fun c => by rw [e1] at c; cases c⟩ hS (by first | omega | decide) (by first | omega | decide) dX0_addCap_20)
  · have hO := hO.kept (hk o hO.lt (fun c => c.2 rfl))
    have hS := xS.more (A := A) hS (fun q c => c.1)
    obtain ⟨e1, ad9, z9, hR, e2⟩ := hP
    refine lv_i2l hx hb dX0_addCap_8 rfl ?_
    refine x_last hx hb hK hS hO hA9 (⟨by unfold vp_in; decide, by decide⟩ : xi 0 0 1) dX0_addCap_9 (fun H locs hat hof hS => ?_)
    refine lv_goto (tgt := 21) hx hb dX0_addCap_10 (by decide) ?_
    refine lv_iconst (v := 0) hx hb dX0_addCap_21 (by decide) ?_
    exact vx_ret (xr_Ci hx hb hr hlocks (by rw [e1]; rfl) ⟨ad9, z9, _, by rw [e1]; exact hR.off (fun k i b e hb hi he c => (hR.A k i hb hi he).2 c) hof, e2, hat, fun _ => rfl⟩ hS (by first | omega | decide) (by first | omega | decide) dX0_addCap_22)
theorem xX0_addDouble {l : Launch} {G : xG} {s0 : State} {b0 : Nat} (g2 : xG2 l G s0 b0) {A : Nat → Prop} {S : xS} {ad : Nat × Nat → Nat} {z : xZ} (o : Nat) (f : Nat → Value) (kind v : Int32) (hW : xW S) (hT : xTd S) (hp : xPt S) (hC : (xAddT 3 240 S kind v).1 = 0 ∨ (xAddT 3 240 S kind v).1 = 1 ∨ (xAddT 3 240 S kind v).1 = 2) : vx_Met l yX0_addDouble (wsW_ yX0_addDouble cX0_addDouble 5 (some .int) [(0, 10, 13, 13), (0, 10, 17, 15)]) ({ frames := 9, cells := 2, slots := 8, locals := 3111 } : Room) (xP s0 A [.ref (ad (0, 0)), .int kind, .int v, .ref o] (fun H => xRX G (xA1 A o) S ad z H ∧ xat G o (xA 1 1 f) H ∧ A o)) (xQc (some (.int (xCd [1, 2] (xAddT 3 240 S kind v).1))) (fun _ H => ∃ ad9 z9 f9, xRX G (xA1 A o) (if (xAddT 3 240 S kind v).1 = 0 then (xAddT 3 240 S kind v).2.2 else S) ad9 z9 H ∧ ad9 (0, 0) = ad (0, 0) ∧ xat G o (xA 1 1 f9) H ∧ ((xAddT 3 240 S kind v).1 = 0 → f9 0 = .long (xAddT 3 240 S kind v).2.1.toInt64)) A) (xXc (fun _ _ _ => False) A) 2 8 A := by
  refine vx_ofWH (cc := cX0_addDouble) (maxL := 5) (ret := (some .int)) (by decide) rfl ?_
  intro p e s m args below meth c s₁ B hml hv
  obtain ⟨rfl, hWK, hR, hO, hA9⟩ := hv
  have g := g2.1.1
  have hx := B.exec
  have hb := B.bytes
  have hr := B.returns
  have hts := atoms_spec (ws := wsW_ yX0_addDouble cX0_addDouble 5 (some .int) [(0, 10, 13, 13), (0, 10, 17, 15)]) B.pre
  have htb := vx_table (x := yX0_addDouble) B (hts _ List.mem_cons_self)
  have hts : ∀ w ∈ lw_all, w.before _ s = true := fun w h => hts w (List.mem_cons_of_mem _ h)
  have hown : s.vm.findClass "LendlatheLaw" = some m.cls := findClass_of_methodNamed B.named
  have hlocks := B.notSynchronized
  have hK := hWK.K g
  have F : CallFix p m c cX0_addDouble 5 s _ lw_all "LendlatheLaw" := ⟨hx, hb, hml, hown, hts⟩
  have hWK1 := hWK.less hO.lt
  have hS1 : va_S (xA1 A o) s.heap s.heap [] := va_S.rf
  have hl := lv_entry ([.ref (ad (0, 0)), .int kind, .int v, .ref o]) (n := 5) (Nat.le_of_ble_eq_true rfl)
  rw [lg_entry_eq]
  generalize (lg_sl ([.ref (ad (0, 0)), .int kind, .int v, .ref o]) ++ List.replicate (5 - (lg_sl ([.ref (ad (0, 0)), .int kind, .int v, .ref o])).length) Slot.unset).toArray = ls at hl ⊢
  have hl : lv_has ls 5 [(0, .ref (ad (0, 0))), (1, .int kind), (2, .int v), (3, .ref o)] := hl
  refine lv_aload_n hx hb dX0_addDouble_0 rfl (lv_at hl 3 rfl) ?_
  refine lv_iconst (v := 0) hx hb dX0_addDouble_1 (by decide) ?_
  refine lv_aload_n hx hb dX0_addDouble_2 rfl (lv_at hl 0 rfl) ?_
  refine lv_iload_n hx hb dX0_addDouble_3 rfl (lv_at hl 1 rfl) ?_
  refine lv_iload_n hx hb dX0_addDouble_4 rfl (lv_at hl 2 rfl) ?_
  refine xc_X (vx_runV (As := [.int kind, .int v]) (rest := [.int 0, .ref o]) F (xX1_addDouble g2.1 (A := xA1 A o) (S := S) (ad := ad) (z := z) kind v hW hT hp) (cwV 2 hts (lw_V q1325 q1326 q1327 q56 q1328) rfl rfl rfl hdV_X1_addDouble ⟨Nat.le_of_ble_eq_true rfl, Nat.le_of_ble_eq_true rfl⟩) (xpreV (xrecv hK (xw_0 hR) rfl) hWK1 hS1 hR) rfl rfl hl.1 rfl (lv_room (Nat.le_of_ble_eq_true rfl)) dX0_addDouble_5 ⟨Nat.le_of_ble_eq_true rfl, Nat.le_of_ble_eq_true rfl⟩) hS1 (fun E ce q9 H locs hX hz hk hS hq9 hv9 hc9 => ?_) (fun H locs hP hz hk hS => ?_)
  · have hO := hO.kept (hk o hO.lt (fun c => c.2 rfl))
    have hS := xS.more (A := A) hS (fun q c => c.1)
    rcases hC with e1 | e1 | e1
    · exact absurd e1 hX.2.1
    · rw [e1] at hX
      obtain ⟨rfl, -, z9, hR⟩ := hX
      refine xw_catch (name := xExn 1) hown [(0, 10, 13, 13), (0, 10, 17, 15)] (by rw [htb]; rfl) 0 rfl (fun i hi => absurd hi (Nat.not_lt_zero i)) (by decide) (by decide) (by decide) (hts _ q749) ((xnC hWK g q131).use rfl) hq9 hv9 hc9 ?_
      refine lv_astore (lv' := [(4, .ref q9), (0, .ref (ad (0, 0))), (1, .int kind), (2, .int v), (3, .ref o)]) hx hb dX0_addDouble_13 hl (by decide) rfl (fun ls hl => ?_)
      refine lv_iconst (v := 1) hx hb dX0_addDouble_15 (by decide) ?_
      exact vx_ret (xr_Ci hx hb hr hlocks (by rw [e1]; rfl) ⟨ad, z9, f, by rw [e1]; exact hR, rfl, hO, fun c => by rw [e1] at c; cases c⟩ hS (by first | omega | decide) (by first | omega | decide) dX0_addDouble_16)
    · rw [e1] at hX
      obtain ⟨rfl, -, z9, hR⟩ := hX
      refine xw_catch (name := xExn 2) hown [(0, 10, 13, 13), (0, 10, 17, 15)] (by rw [htb]; rfl) 1 rfl (fun i hi r hr9 => by rcases (show i = 0 by omega) with hi0 <;> subst hi0 <;> cases hr9 <;> first | exact ⟨by decide, xExn 1, hts _ q749, xNcAt (i := 2) (j := 1) hWK g2.2 (by decide) (by decide) (by decide) (by decide) (by decide)⟩) (by decide) (by decide) (by decide) (hts _ q750) ((xnC hWK g q774).use rfl) hq9 hv9 hc9 ?_
      refine lv_astore (lv' := [(4, .ref q9), (0, .ref (ad (0, 0))), (1, .int kind), (2, .int v), (3, .ref o)]) hx hb dX0_addDouble_17 hl (by decide) rfl (fun ls hl => ?_)
      refine lv_iconst (v := 2) hx hb dX0_addDouble_19 (by decide) ?_
      exact vx_ret (xr_Ci hx hb hr hlocks (by rw [e1]; rfl) ⟨ad, z9, f, by rw [e1]; exact hR, rfl, hO, fun c => by rw [e1] at c; cases c⟩ hS (by first | omega | decide) (by first | omega | decide) dX0_addDouble_20)
  · have hO := hO.kept (hk o hO.lt (fun c => c.2 rfl))
    have hS := xS.more (A := A) hS (fun q c => c.1)
    obtain ⟨e1, ad9, z9, hR, e2⟩ := hP
    refine lv_i2l hx hb dX0_addDouble_8 rfl ?_
    refine x_last hx hb hK hS hO hA9 (⟨by unfold vp_in; decide, by decide⟩ : xi 0 0 1) dX0_addDouble_9 (fun H locs hat hof hS => ?_)
    refine lv_goto (tgt := 21) hx hb dX0_addDouble_10 (by decide) ?_
    refine lv_iconst (v := 0) hx hb dX0_addDouble_21 (by decide) ?_
    exact vx_ret (xr_Ci hx hb hr hlocks (by rw [e1]; rfl) ⟨ad9, z9, _, by rw [e1]; exact hR.off (fun k i b e hb hi he c => (hR.A k i hb hi he).2 c) hof, e2, hat, fun _ => rfl⟩ hS (by first | omega | decide) (by first | omega | decide) dX0_addDouble_22)
theorem xX0_addDiscount {l : Launch} {G : xG} {s0 : State} {b0 : Nat} (g2 : xG2 l G s0 b0) {A : Nat → Prop} {S : xS} {ad : Nat × Nat → Nat} {z : xZ} (o : Nat) (f : Nat → Value) (kind v : Int32) (hW : xW S) (hT : xTd S) (hp : xPt S) (hC : (xAddT 4 100 S kind v).1 = 0 ∨ (xAddT 4 100 S kind v).1 = 1 ∨ (xAddT 4 100 S kind v).1 = 2) : vx_Met l yX0_addDiscount (wsW_ yX0_addDiscount cX0_addDiscount 5 (some .int) [(0, 10, 13, 13), (0, 10, 17, 15)]) ({ frames := 9, cells := 2, slots := 8, locals := 3111 } : Room) (xP s0 A [.ref (ad (0, 0)), .int kind, .int v, .ref o] (fun H => xRX G (xA1 A o) S ad z H ∧ xat G o (xA 1 1 f) H ∧ A o)) (xQc (some (.int (xCd [1, 2] (xAddT 4 100 S kind v).1))) (fun _ H => ∃ ad9 z9 f9, xRX G (xA1 A o) (if (xAddT 4 100 S kind v).1 = 0 then (xAddT 4 100 S kind v).2.2 else S) ad9 z9 H ∧ ad9 (0, 0) = ad (0, 0) ∧ xat G o (xA 1 1 f9) H ∧ ((xAddT 4 100 S kind v).1 = 0 → f9 0 = .long (xAddT 4 100 S kind v).2.1.toInt64)) A) (xXc (fun _ _ _ => False) A) 2 8 A := by
  refine vx_ofWH (cc := cX0_addDiscount) (maxL := 5) (ret := (some .int)) (by decide) rfl ?_
  intro p e s m args below meth c s₁ B hml hv
  obtain ⟨rfl, hWK, hR, hO, hA9⟩ := hv
  have g := g2.1.1
  have hx := B.exec
  have hb := B.bytes
  have hr := B.returns
  have hts := atoms_spec (ws := wsW_ yX0_addDiscount cX0_addDiscount 5 (some .int) [(0, 10, 13, 13), (0, 10, 17, 15)]) B.pre
  have htb := vx_table (x := yX0_addDiscount) B (hts _ List.mem_cons_self)
  have hts : ∀ w ∈ lw_all, w.before _ s = true := fun w h => hts w (List.mem_cons_of_mem _ h)
  have hown : s.vm.findClass "LendlatheLaw" = some m.cls := findClass_of_methodNamed B.named
  have hlocks := B.notSynchronized
  have hK := hWK.K g
  have F : CallFix p m c cX0_addDiscount 5 s _ lw_all "LendlatheLaw" := ⟨hx, hb, hml, hown, hts⟩
  have hWK1 := hWK.less hO.lt
  have hS1 : va_S (xA1 A o) s.heap s.heap [] := va_S.rf
  have hl := lv_entry ([.ref (ad (0, 0)), .int kind, .int v, .ref o]) (n := 5) (Nat.le_of_ble_eq_true rfl)
  rw [lg_entry_eq]
  generalize (lg_sl ([.ref (ad (0, 0)), .int kind, .int v, .ref o]) ++ List.replicate (5 - (lg_sl ([.ref (ad (0, 0)), .int kind, .int v, .ref o])).length) Slot.unset).toArray = ls at hl ⊢
  have hl : lv_has ls 5 [(0, .ref (ad (0, 0))), (1, .int kind), (2, .int v), (3, .ref o)] := hl
  refine lv_aload_n hx hb dX0_addDiscount_0 rfl (lv_at hl 3 rfl) ?_
  refine lv_iconst (v := 0) hx hb dX0_addDiscount_1 (by decide) ?_
  refine lv_aload_n hx hb dX0_addDiscount_2 rfl (lv_at hl 0 rfl) ?_
  refine lv_iload_n hx hb dX0_addDiscount_3 rfl (lv_at hl 1 rfl) ?_
  refine lv_iload_n hx hb dX0_addDiscount_4 rfl (lv_at hl 2 rfl) ?_
  refine xc_X (vx_runV (As := [.int kind, .int v]) (rest := [.int 0, .ref o]) F (xX1_addDiscount g2.1 (A := xA1 A o) (S := S) (ad := ad) (z := z) kind v hW hT hp) (cwV 2 hts (lw_V q1335 q1336 q1337 q56 q1338) rfl rfl rfl hdV_X1_addDiscount ⟨Nat.le_of_ble_eq_true rfl, Nat.le_of_ble_eq_true rfl⟩) (xpreV (xrecv hK (xw_0 hR) rfl) hWK1 hS1 hR) rfl rfl hl.1 rfl (lv_room (Nat.le_of_ble_eq_true rfl)) dX0_addDiscount_5 ⟨Nat.le_of_ble_eq_true rfl, Nat.le_of_ble_eq_true rfl⟩) hS1 (fun E ce q9 H locs hX hz hk hS hq9 hv9 hc9 => ?_) (fun H locs hP hz hk hS => ?_)
  · have hO := hO.kept (hk o hO.lt (fun c => c.2 rfl))
    have hS := xS.more (A := A) hS (fun q c => c.1)
    rcases hC with e1 | e1 | e1
    · exact absurd e1 hX.2.1
    · rw [e1] at hX
      obtain ⟨rfl, -, z9, hR⟩ := hX
      refine xw_catch (name := xExn 1) hown [(0, 10, 13, 13), (0, 10, 17, 15)] (by rw [htb]; rfl) 0 rfl (fun i hi => absurd hi (Nat.not_lt_zero i)) (by decide) (by decide) (by decide) (hts _ q749) ((xnC hWK g q131).use rfl) hq9 hv9 hc9 ?_
      refine lv_astore (lv' := [(4, .ref q9), (0, .ref (ad (0, 0))), (1, .int kind), (2, .int v), (3, .ref o)]) hx hb dX0_addDiscount_13 hl (by decide) rfl (fun ls hl => ?_)
      refine lv_iconst (v := 1) hx hb dX0_addDiscount_15 (by decide) ?_
      exact vx_ret (xr_Ci hx hb hr hlocks (by rw [e1]; rfl) ⟨ad, z9, f, by rw [e1]; exact hR, rfl, hO, fun c => by rw [e1] at c; cases c⟩ hS (by first | omega | decide) (by first | omega | decide) dX0_addDiscount_16)
    · rw [e1] at hX
      obtain ⟨rfl, -, z9, hR⟩ := hX
      refine xw_catch (name := xExn 2) hown [(0, 10, 13, 13), (0, 10, 17, 15)] (by rw [htb]; rfl) 1 rfl (fun i hi r hr9 => by rcases (show i = 0 by omega) with hi0 <;> subst hi0 <;> cases hr9 <;> first | exact ⟨by decide, xExn 1, hts _ q749, xNcAt (i := 2) (j := 1) hWK g2.2 (by decide) (by decide) (by decide) (by decide) (by decide)⟩) (by decide) (by decide) (by decide) (hts _ q750) ((xnC hWK g q774).use rfl) hq9 hv9 hc9 ?_
      refine lv_astore (lv' := [(4, .ref q9), (0, .ref (ad (0, 0))), (1, .int kind), (2, .int v), (3, .ref o)]) hx hb dX0_addDiscount_17 hl (by decide) rfl (fun ls hl => ?_)
      refine lv_iconst (v := 2) hx hb dX0_addDiscount_19 (by decide) ?_
      exact vx_ret (xr_Ci hx hb hr hlocks (by rw [e1]; rfl) ⟨ad, z9, f, by rw [e1]; exact hR, rfl, hO, fun c => by rw [e1] at c; cases c⟩ hS (by first | omega | decide) (by first | omega | decide) dX0_addDiscount_20)
  · have hO := hO.kept (hk o hO.lt (fun c => c.2 rfl))
    have hS := xS.more (A := A) hS (fun q c => c.1)
    obtain ⟨e1, ad9, z9, hR, e2⟩ := hP
    refine lv_i2l hx hb dX0_addDiscount_8 rfl ?_
    refine x_last hx hb hK hS hO hA9 (⟨by unfold vp_in; decide, by decide⟩ : xi 0 0 1) dX0_addDiscount_9 (fun H locs hat hof hS => ?_)
    refine lv_goto (tgt := 21) hx hb dX0_addDiscount_10 (by decide) ?_
    refine lv_iconst (v := 0) hx hb dX0_addDiscount_21 (by decide) ?_
    exact vx_ret (xr_Ci hx hb hr hlocks (by rw [e1]; rfl) ⟨ad9, z9, _, by rw [e1]; exact hR.off (fun k i b e hb hi he c => (hR.A k i hb hi he).2 c) hof, e2, hat, fun _ => rfl⟩ hS (by first | omega | decide) (by first | omega | decide) dX0_addDiscount_22)
theorem xX0_costOf {l : Launch} {G : xG} {s0 : State} {b0 : Nat} (g2 : xG2 l G s0 b0) {A : Nat → Prop} {S : xS} {ad : Nat × Nat → Nat} {z : xZ} (o : Nat) (f : Nat → Value) (kind minutes : Int32) (hW : xW S) (hT : xTd S) (hC : (xCostOf S kind minutes).1 = 0 ∨ (xCostOf S kind minutes).1 = 1) : vx_Met l yX0_costOf (wsW_ yX0_costOf cX0_costOf 5 (some .int) [(0, 10, 13, 13)]) ({ frames := 14, cells := 1, slots := 6, locals := 411 } : Room) (xP s0 A [.ref (ad (0, 0)), .int kind, .int minutes, .ref o] (fun H => xRX G (xA1 A o) S ad z H ∧ xat G o (xA 1 1 f) H ∧ A o)) (xQc (some (.int (xCd [1] (xCostOf S kind minutes).1))) (fun _ H => ∃ ad9 z9 f9, xRX G (xA1 A o) (if (xCostOf S kind minutes).1 = 0 then (xCostOf S kind minutes).2.2 else S) ad9 z9 H ∧ ad9 (0, 0) = ad (0, 0) ∧ xat G o (xA 1 1 f9) H ∧ ((xCostOf S kind minutes).1 = 0 → f9 0 = .long (xCostOf S kind minutes).2.1.toInt64)) A) (xXc (fun _ _ _ => False) A) 1 6 A := by
  refine vx_ofWH (cc := cX0_costOf) (maxL := 5) (ret := (some .int)) (by decide) rfl ?_
  intro p e s m args below meth c s₁ B hml hv
  obtain ⟨rfl, hWK, hR, hO, hA9⟩ := hv
  have g := g2.1.1
  have hx := B.exec
  have hb := B.bytes
  have hr := B.returns
  have hts := atoms_spec (ws := wsW_ yX0_costOf cX0_costOf 5 (some .int) [(0, 10, 13, 13)]) B.pre
  have htb := vx_table (x := yX0_costOf) B (hts _ List.mem_cons_self)
  have hts : ∀ w ∈ lw_all, w.before _ s = true := fun w h => hts w (List.mem_cons_of_mem _ h)
  have hown : s.vm.findClass "LendlatheLaw" = some m.cls := findClass_of_methodNamed B.named
  have hlocks := B.notSynchronized
  have hK := hWK.K g
  have F : CallFix p m c cX0_costOf 5 s _ lw_all "LendlatheLaw" := ⟨hx, hb, hml, hown, hts⟩
  have hWK1 := hWK.less hO.lt
  have hS1 : va_S (xA1 A o) s.heap s.heap [] := va_S.rf
  have hl := lv_entry ([.ref (ad (0, 0)), .int kind, .int minutes, .ref o]) (n := 5) (Nat.le_of_ble_eq_true rfl)
  rw [lg_entry_eq]
  generalize (lg_sl ([.ref (ad (0, 0)), .int kind, .int minutes, .ref o]) ++ List.replicate (5 - (lg_sl ([.ref (ad (0, 0)), .int kind, .int minutes, .ref o])).length) Slot.unset).toArray = ls at hl ⊢
  have hl : lv_has ls 5 [(0, .ref (ad (0, 0))), (1, .int kind), (2, .int minutes), (3, .ref o)] := hl
  refine lv_aload_n hx hb dX0_costOf_0 rfl (lv_at hl 3 rfl) ?_
  refine lv_iconst (v := 0) hx hb dX0_costOf_1 (by decide) ?_
  refine lv_aload_n hx hb dX0_costOf_2 rfl (lv_at hl 0 rfl) ?_
  refine lv_iload_n hx hb dX0_costOf_3 rfl (lv_at hl 1 rfl) ?_
  refine lv_iload_n hx hb dX0_costOf_4 rfl (lv_at hl 2 rfl) ?_
  refine xc_X (vx_runV (As := [.int kind, .int minutes]) (rest := [.int 0, .ref o]) F (xX1_costOf g2.1 (A := xA1 A o) (S := S) (ad := ad) (z := z) kind minutes hW hT) (cwV 2 hts (lw_V q1344 q1345 q1346 q56 q1347) rfl rfl rfl hdV_X1_costOf ⟨Nat.le_of_ble_eq_true rfl, Nat.le_of_ble_eq_true rfl⟩) (xpreV (xrecv hK (xw_0 hR) rfl) hWK1 hS1 hR) rfl rfl hl.1 rfl (lv_room (Nat.le_of_ble_eq_true rfl)) dX0_costOf_5 ⟨Nat.le_of_ble_eq_true rfl, Nat.le_of_ble_eq_true rfl⟩) hS1 (fun E ce q9 H locs hX hz hk hS hq9 hv9 hc9 => ?_) (fun H locs hP hz hk hS => ?_)
  · have hO := hO.kept (hk o hO.lt (fun c => c.2 rfl))
    have hS := xS.more (A := A) hS (fun q c => c.1)
    rcases hC with e1 | e1
    · exact absurd e1 hX.2.1
    · rw [e1] at hX
      obtain ⟨rfl, -, z9, hR⟩ := hX
      refine xw_catch (name := xExn 1) hown [(0, 10, 13, 13)] (by rw [htb]; rfl) 0 rfl (fun i hi => absurd hi (Nat.not_lt_zero i)) (by decide) (by decide) (by decide) (hts _ q749) ((xnC hWK g q131).use rfl) hq9 hv9 hc9 ?_
      refine lv_astore (lv' := [(4, .ref q9), (0, .ref (ad (0, 0))), (1, .int kind), (2, .int minutes), (3, .ref o)]) hx hb dX0_costOf_13 hl (by decide) rfl (fun ls hl => ?_)
      refine lv_iconst (v := 1) hx hb dX0_costOf_15 (by decide) ?_
      exact vx_ret (xr_Ci hx hb hr hlocks (by rw [e1]; rfl) ⟨ad, z9, f, by rw [e1]; exact hR, rfl, hO, fun c => by rw [e1] at c; cases c⟩ hS (by first | omega | decide) (by first | omega | decide) dX0_costOf_16)
  · have hO := hO.kept (hk o hO.lt (fun c => c.2 rfl))
    have hS := xS.more (A := A) hS (fun q c => c.1)
    obtain ⟨e1, ad9, z9, hR, e2⟩ := hP
    refine lv_i2l hx hb dX0_costOf_8 rfl ?_
    refine x_last hx hb hK hS hO hA9 (⟨by unfold vp_in; decide, by decide⟩ : xi 0 0 1) dX0_costOf_9 (fun H locs hat hof hS => ?_)
    refine lv_goto (tgt := 17) hx hb dX0_costOf_10 (by decide) ?_
    refine lv_iconst (v := 0) hx hb dX0_costOf_17 (by decide) ?_
    exact vx_ret (xr_Ci hx hb hr hlocks (by rw [e1]; rfl) ⟨ad9, z9, _, by rw [e1]; exact hR.off (fun k i b e hb hi he c => (hR.A k i hb hi he).2 c) hof, e2, hat, fun _ => rfl⟩ hS (by first | omega | decide) (by first | omega | decide) dX0_costOf_18)
theorem xX0_breakDown {l : Launch} {G : xG} {s0 : State} {b0 : Nat} (g2 : xG2 l G s0 b0) {A : Nat → Prop} {S : xS} {ad : Nat × Nat → Nat} {z : xZ} (o : Nat) (f : Nat → Value) (machine cost : Int32) (hW : xW S) (hC : (xBreak S machine cost).1 = 0 ∨ (xBreak S machine cost).1 = 4 ∨ (xBreak S machine cost).1 = 1 ∨ (xBreak S machine cost).1 = 2) : vx_Met l yX0_breakDown (wsW_ yX0_breakDown cX0_breakDown 5 (some .int) [(0, 10, 13, 28), (0, 10, 17, 13), (0, 10, 21, 15)]) ({ frames := 8, cells := 11, slots := 70, locals := 136 } : Room) (xP s0 A [.ref (ad (0, 0)), .int machine, .int cost, .ref o] (fun H => xRX G (xA1 A o) S ad z H ∧ xat G o (xA 1 1 f) H ∧ A o)) (xQc (some (.int (xCd [4, 1, 2] (xBreak S machine cost).1))) (fun _ H => ∃ ad9 z9 f9, xRX G (xA1 A o) (if (xBreak S machine cost).1 = 0 then (xBreak S machine cost).2.2 else S) ad9 z9 H ∧ ad9 (0, 0) = ad (0, 0) ∧ xat G o (xA 1 1 f9) H ∧ ((xBreak S machine cost).1 = 0 → f9 0 = .long (xBreak S machine cost).2.1.toInt64)) A) (xXc (fun _ _ _ => False) A) 11 70 A := by
  refine vx_ofWH (cc := cX0_breakDown) (maxL := 5) (ret := (some .int)) (by decide) rfl ?_
  intro p e s m args below meth c s₁ B hml hv
  obtain ⟨rfl, hWK, hR, hO, hA9⟩ := hv
  have g := g2.1.1
  have hx := B.exec
  have hb := B.bytes
  have hr := B.returns
  have hts := atoms_spec (ws := wsW_ yX0_breakDown cX0_breakDown 5 (some .int) [(0, 10, 13, 28), (0, 10, 17, 13), (0, 10, 21, 15)]) B.pre
  have htb := vx_table (x := yX0_breakDown) B (hts _ List.mem_cons_self)
  have hts : ∀ w ∈ lw_all, w.before _ s = true := fun w h => hts w (List.mem_cons_of_mem _ h)
  have hown : s.vm.findClass "LendlatheLaw" = some m.cls := findClass_of_methodNamed B.named
  have hlocks := B.notSynchronized
  have hK := hWK.K g
  have F : CallFix p m c cX0_breakDown 5 s _ lw_all "LendlatheLaw" := ⟨hx, hb, hml, hown, hts⟩
  have hWK1 := hWK.less hO.lt
  have hS1 : va_S (xA1 A o) s.heap s.heap [] := va_S.rf
  have hl := lv_entry ([.ref (ad (0, 0)), .int machine, .int cost, .ref o]) (n := 5) (Nat.le_of_ble_eq_true rfl)
  rw [lg_entry_eq]
  generalize (lg_sl ([.ref (ad (0, 0)), .int machine, .int cost, .ref o]) ++ List.replicate (5 - (lg_sl ([.ref (ad (0, 0)), .int machine, .int cost, .ref o])).length) Slot.unset).toArray = ls at hl ⊢
  have hl : lv_has ls 5 [(0, .ref (ad (0, 0))), (1, .int machine), (2, .int cost), (3, .ref o)] := hl
  refine lv_aload_n hx hb dX0_breakDown_0 rfl (lv_at hl 3 rfl) ?_
  refine lv_iconst (v := 0) hx hb dX0_breakDown_1 (by decide) ?_
  refine lv_aload_n hx hb dX0_breakDown_2 rfl (lv_at hl 0 rfl) ?_
  refine lv_iload_n hx hb dX0_breakDown_3 rfl (lv_at hl 1 rfl) ?_
  refine lv_iload_n hx hb dX0_breakDown_4 rfl (lv_at hl 2 rfl) ?_
  refine xc_X (vx_runV (As := [.int machine, .int cost]) (rest := [.int 0, .ref o]) F (xX1_breakDown g2.1 (A := xA1 A o) (S := S) (ad := ad) (z := z) machine cost hW) (cwV 2 hts (lw_V q1351 q1352 q1353 q56 q1354) rfl rfl rfl hdV_X1_breakDown ⟨Nat.le_of_ble_eq_true rfl, Nat.le_of_ble_eq_true rfl⟩) (xpreV (xrecv hK (xw_0 hR) rfl) hWK1 hS1 hR) rfl rfl hl.1 rfl (lv_room (Nat.le_of_ble_eq_true rfl)) dX0_breakDown_5 ⟨Nat.le_of_ble_eq_true rfl, Nat.le_of_ble_eq_true rfl⟩) hS1 (fun E ce q9 H locs hX hz hk hS hq9 hv9 hc9 => ?_) (fun H locs hP hz hk hS => ?_)
  · have hO := hO.kept (hk o hO.lt (fun c => c.2 rfl))
    have hS := xS.more (A := A) hS (fun q c => c.1)
    rcases hC with e1 | e1 | e1 | e1
    · exact absurd e1 hX.2.1
    · rw [e1] at hX
      obtain ⟨rfl, -, z9, hR⟩ := hX
      refine xw_catch (name := xExn 4) hown [(0, 10, 13, 28), (0, 10, 17, 13), (0, 10, 21, 15)] (by rw [htb]; rfl) 0 rfl (fun i hi => absurd hi (Nat.not_lt_zero i)) (by decide) (by decide) (by decide) (hts _ q909) ((xnC hWK g q942).use rfl) hq9 hv9 hc9 ?_
      refine lv_astore (lv' := [(4, .ref q9), (0, .ref (ad (0, 0))), (1, .int machine), (2, .int cost), (3, .ref o)]) hx hb dX0_breakDown_13 hl (by decide) rfl (fun ls hl => ?_)
      refine lv_iconst (v := 1) hx hb dX0_breakDown_15 (by decide) ?_
      exact vx_ret (xr_Ci hx hb hr hlocks (by rw [e1]; rfl) ⟨ad, z9, f, by rw [e1]; exact hR, rfl, hO, fun c => by rw [e1] at c; cases c⟩ hS (by first | omega | decide) (by first | omega | decide) dX0_breakDown_16)
    · rw [e1] at hX
      obtain ⟨rfl, -, z9, hR⟩ := hX
      refine xw_catch (name := xExn 1) hown [(0, 10, 13, 28), (0, 10, 17, 13), (0, 10, 21, 15)] (by rw [htb]; rfl) 1 rfl (fun i hi r hr9 => by rcases (show i = 0 by omega) with hi0 <;> subst hi0 <;> cases hr9 <;> first | exact ⟨by decide, xExn 4, hts _ q909, xNcAt (i := 1) (j := 4) hWK g2.2 (by decide) (by decide) (by decide) (by decide) (by decide)⟩) (by decide) (by decide) (by decide) (hts _ q749) ((xnC hWK g q131).use rfl) hq9 hv9 hc9 ?_
      refine lv_astore (lv' := [(4, .ref q9), (0, .ref (ad (0, 0))), (1, .int machine), (2, .int cost), (3, .ref o)]) hx hb dX0_breakDown_17 hl (by decide) rfl (fun ls hl => ?_)
      refine lv_iconst (v := 2) hx hb dX0_breakDown_19 (by decide) ?_
      exact vx_ret (xr_Ci hx hb hr hlocks (by rw [e1]; rfl) ⟨ad, z9, f, by rw [e1]; exact hR, rfl, hO, fun c => by rw [e1] at c; cases c⟩ hS (by first | omega | decide) (by first | omega | decide) dX0_breakDown_20)
    · rw [e1] at hX
      obtain ⟨rfl, -, z9, hR⟩ := hX
      refine xw_catch (name := xExn 2) hown [(0, 10, 13, 28), (0, 10, 17, 13), (0, 10, 21, 15)] (by rw [htb]; rfl) 2 rfl (fun i hi r hr9 => by rcases (show i = 0 ∨ i = 1 by omega) with hi0 | hi0 <;> subst hi0 <;> cases hr9 <;> first | exact ⟨by decide, xExn 4, hts _ q909, xNcAt (i := 2) (j := 4) hWK g2.2 (by decide) (by decide) (by decide) (by decide) (by decide)⟩ | exact ⟨by decide, xExn 1, hts _ q749, xNcAt (i := 2) (j := 1) hWK g2.2 (by decide) (by decide) (by decide) (by decide) (by decide)⟩) (by decide) (by decide) (by decide) (hts _ q750) ((xnC hWK g q774).use rfl) hq9 hv9 hc9 ?_
      refine lv_astore (lv' := [(4, .ref q9), (0, .ref (ad (0, 0))), (1, .int machine), (2, .int cost), (3, .ref o)]) hx hb dX0_breakDown_21 hl (by decide) rfl (fun ls hl => ?_)
      refine lv_iconst (v := 3) hx hb dX0_breakDown_23 (by decide) ?_
      exact vx_ret (xr_Ci hx hb hr hlocks (by rw [e1]; rfl) ⟨ad, z9, f, by rw [e1]; exact hR, rfl, hO, fun c => by rw [e1] at c; cases c⟩ hS (by first | omega | decide) (by first | omega | decide) dX0_breakDown_24)
  · have hO := hO.kept (hk o hO.lt (fun c => c.2 rfl))
    have hS := xS.more (A := A) hS (fun q c => c.1)
    obtain ⟨e1, ad9, z9, hR, e2⟩ := hP
    refine lv_i2l hx hb dX0_breakDown_8 rfl ?_
    refine x_last hx hb hK hS hO hA9 (⟨by unfold vp_in; decide, by decide⟩ : xi 0 0 1) dX0_breakDown_9 (fun H locs hat hof hS => ?_)
    refine lv_goto (tgt := 25) hx hb dX0_breakDown_10 (by decide) ?_
    refine lv_iconst (v := 0) hx hb dX0_breakDown_25 (by decide) ?_
    exact vx_ret (xr_Ci hx hb hr hlocks (by rw [e1]; rfl) ⟨ad9, z9, _, by rw [e1]; exact hR.off (fun k i b e hb hi he c => (hR.A k i hb hi he).2 c) hof, e2, hat, fun _ => rfl⟩ hS (by first | omega | decide) (by first | omega | decide) dX0_breakDown_26)
theorem xX0_shareOf {l : Launch} {G : xG} {s0 : State} {b0 : Nat} (g2 : xG2 l G s0 b0) {A : Nat → Prop} {S : xS} {ad : Nat × Nat → Nat} {z : xZ} (o : Nat) (f : Nat → Value) (breakage member : Int32) (hW : xW S) (hC : (xShareOf S breakage member).1 = 0 ∨ (xShareOf S breakage member).1 = 3 ∨ (xShareOf S breakage member).1 = 4) : vx_Met l yX0_shareOf (wsW_ yX0_shareOf cX0_shareOf 5 (some .int) [(0, 10, 13, 42), (0, 10, 17, 28)]) ({ frames := 8, cells := 1, slots := 6, locals := 136 } : Room) (xP s0 A [.ref (ad (0, 0)), .int breakage, .int member, .ref o] (fun H => xRX G (xA1 A o) S ad z H ∧ xat G o (xA 1 1 f) H ∧ A o)) (xQc (some (.int (xCd [3, 4] (xShareOf S breakage member).1))) (fun _ H => ∃ ad9 z9 f9, xRX G (xA1 A o) (if (xShareOf S breakage member).1 = 0 then (xShareOf S breakage member).2.2 else S) ad9 z9 H ∧ ad9 (0, 0) = ad (0, 0) ∧ xat G o (xA 1 1 f9) H ∧ ((xShareOf S breakage member).1 = 0 → f9 0 = .long (xShareOf S breakage member).2.1.toInt64)) A) (xXc (fun _ _ _ => False) A) 1 6 A := by
  refine vx_ofWH (cc := cX0_shareOf) (maxL := 5) (ret := (some .int)) (by decide) rfl ?_
  intro p e s m args below meth c s₁ B hml hv
  obtain ⟨rfl, hWK, hR, hO, hA9⟩ := hv
  have g := g2.1.1
  have hx := B.exec
  have hb := B.bytes
  have hr := B.returns
  have hts := atoms_spec (ws := wsW_ yX0_shareOf cX0_shareOf 5 (some .int) [(0, 10, 13, 42), (0, 10, 17, 28)]) B.pre
  have htb := vx_table (x := yX0_shareOf) B (hts _ List.mem_cons_self)
  have hts : ∀ w ∈ lw_all, w.before _ s = true := fun w h => hts w (List.mem_cons_of_mem _ h)
  have hown : s.vm.findClass "LendlatheLaw" = some m.cls := findClass_of_methodNamed B.named
  have hlocks := B.notSynchronized
  have hK := hWK.K g
  have F : CallFix p m c cX0_shareOf 5 s _ lw_all "LendlatheLaw" := ⟨hx, hb, hml, hown, hts⟩
  have hWK1 := hWK.less hO.lt
  have hS1 : va_S (xA1 A o) s.heap s.heap [] := va_S.rf
  have hl := lv_entry ([.ref (ad (0, 0)), .int breakage, .int member, .ref o]) (n := 5) (Nat.le_of_ble_eq_true rfl)
  rw [lg_entry_eq]
  generalize (lg_sl ([.ref (ad (0, 0)), .int breakage, .int member, .ref o]) ++ List.replicate (5 - (lg_sl ([.ref (ad (0, 0)), .int breakage, .int member, .ref o])).length) Slot.unset).toArray = ls at hl ⊢
  have hl : lv_has ls 5 [(0, .ref (ad (0, 0))), (1, .int breakage), (2, .int member), (3, .ref o)] := hl
  refine lv_aload_n hx hb dX0_shareOf_0 rfl (lv_at hl 3 rfl) ?_
  refine lv_iconst (v := 0) hx hb dX0_shareOf_1 (by decide) ?_
  refine lv_aload_n hx hb dX0_shareOf_2 rfl (lv_at hl 0 rfl) ?_
  refine lv_iload_n hx hb dX0_shareOf_3 rfl (lv_at hl 1 rfl) ?_
  refine lv_iload_n hx hb dX0_shareOf_4 rfl (lv_at hl 2 rfl) ?_
  refine xc_X (vx_runV (As := [.int breakage, .int member]) (rest := [.int 0, .ref o]) F (xX1_shareOf g2.1 (A := xA1 A o) (S := S) (ad := ad) (z := z) breakage member hW) (cwV 2 hts (lw_V q1395 q1396 q1397 q56 q1398) rfl rfl rfl hdV_X1_shareOf ⟨Nat.le_of_ble_eq_true rfl, Nat.le_of_ble_eq_true rfl⟩) (xpreV (xrecv hK (xw_0 hR) rfl) hWK1 hS1 hR) rfl rfl hl.1 rfl (lv_room (Nat.le_of_ble_eq_true rfl)) dX0_shareOf_5 ⟨Nat.le_of_ble_eq_true rfl, Nat.le_of_ble_eq_true rfl⟩) hS1 (fun E ce q9 H locs hX hz hk hS hq9 hv9 hc9 => ?_) (fun H locs hP hz hk hS => ?_)
  · have hO := hO.kept (hk o hO.lt (fun c => c.2 rfl))
    have hS := xS.more (A := A) hS (fun q c => c.1)
    rcases hC with e1 | e1 | e1
    · exact absurd e1 hX.2.1
    · rw [e1] at hX
      obtain ⟨rfl, -, z9, hR⟩ := hX
      refine xw_catch (name := xExn 3) hown [(0, 10, 13, 42), (0, 10, 17, 28)] (by rw [htb]; rfl) 0 rfl (fun i hi => absurd hi (Nat.not_lt_zero i)) (by decide) (by decide) (by decide) (hts _ q994) ((xnC hWK g q572).use rfl) hq9 hv9 hc9 ?_
      refine lv_astore (lv' := [(4, .ref q9), (0, .ref (ad (0, 0))), (1, .int breakage), (2, .int member), (3, .ref o)]) hx hb dX0_shareOf_13 hl (by decide) rfl (fun ls hl => ?_)
      refine lv_iconst (v := 1) hx hb dX0_shareOf_15 (by decide) ?_
      exact vx_ret (xr_Ci hx hb hr hlocks (by rw [e1]; rfl) ⟨ad, z9, f, by rw [e1]; exact hR, rfl, hO, fun c => by rw [e1] at c; cases c⟩ hS (by first | omega | decide) (by first | omega | decide) dX0_shareOf_16)
    · rw [e1] at hX
      obtain ⟨rfl, -, z9, hR⟩ := hX
      refine xw_catch (name := xExn 4) hown [(0, 10, 13, 42), (0, 10, 17, 28)] (by rw [htb]; rfl) 1 rfl (fun i hi r hr9 => by rcases (show i = 0 by omega) with hi0 <;> subst hi0 <;> cases hr9 <;> first | exact ⟨by decide, xExn 3, hts _ q994, xNcAt (i := 4) (j := 3) hWK g2.2 (by decide) (by decide) (by decide) (by decide) (by decide)⟩) (by decide) (by decide) (by decide) (hts _ q909) ((xnC hWK g q942).use rfl) hq9 hv9 hc9 ?_
      refine lv_astore (lv' := [(4, .ref q9), (0, .ref (ad (0, 0))), (1, .int breakage), (2, .int member), (3, .ref o)]) hx hb dX0_shareOf_17 hl (by decide) rfl (fun ls hl => ?_)
      refine lv_iconst (v := 2) hx hb dX0_shareOf_19 (by decide) ?_
      exact vx_ret (xr_Ci hx hb hr hlocks (by rw [e1]; rfl) ⟨ad, z9, f, by rw [e1]; exact hR, rfl, hO, fun c => by rw [e1] at c; cases c⟩ hS (by first | omega | decide) (by first | omega | decide) dX0_shareOf_20)
  · have hO := hO.kept (hk o hO.lt (fun c => c.2 rfl))
    have hS := xS.more (A := A) hS (fun q c => c.1)
    obtain ⟨e1, ad9, z9, hR, e2⟩ := hP
    refine lv_i2l hx hb dX0_shareOf_8 rfl ?_
    refine x_last hx hb hK hS hO hA9 (⟨by unfold vp_in; decide, by decide⟩ : xi 0 0 1) dX0_shareOf_9 (fun H locs hat hof hS => ?_)
    refine lv_goto (tgt := 21) hx hb dX0_shareOf_10 (by decide) ?_
    refine lv_iconst (v := 0) hx hb dX0_shareOf_21 (by decide) ?_
    exact vx_ret (xr_Ci hx hb hr hlocks (by rw [e1]; rfl) ⟨ad9, z9, _, by rw [e1]; exact hR.off (fun k i b e hb hi he c => (hR.A k i hb hi he).2 c) hof, e2, hat, fun _ => rfl⟩ hS (by first | omega | decide) (by first | omega | decide) dX0_shareOf_22)
theorem xX0_pay {l : Launch} {G : xG} {s0 : State} {b0 : Nat} (g2 : xG2 l G s0 b0) {A : Nat → Prop} {S : xS} {ad : Nat × Nat → Nat} {z : xZ} (o : Nat) (f : Nat → Value) (member amount : Int32) (hW : xW S) (hC : (xPay S member amount).1 = 0 ∨ (xPay S member amount).1 = 4 ∨ (xPay S member amount).1 = 1 ∨ (xPay S member amount).1 = 2) : vx_Met l yX0_pay (wsW_ yX0_pay cX0_pay 5 (some .int) [(0, 10, 13, 28), (0, 10, 17, 13), (0, 10, 21, 15)]) ({ frames := 8, cells := 1, slots := 6, locals := 136 } : Room) (xP s0 A [.ref (ad (0, 0)), .int member, .int amount, .ref o] (fun H => xRX G (xA1 A o) S ad z H ∧ xat G o (xA 1 1 f) H ∧ A o)) (xQc (some (.int (xCd [4, 1, 2] (xPay S member amount).1))) (fun _ H => ∃ ad9 z9 f9, xRX G (xA1 A o) (if (xPay S member amount).1 = 0 then (xPay S member amount).2.2 else S) ad9 z9 H ∧ ad9 (0, 0) = ad (0, 0) ∧ xat G o (xA 1 1 f9) H ∧ ((xPay S member amount).1 = 0 → f9 0 = .long (xPay S member amount).2.1.toInt64)) A) (xXc (fun _ _ _ => False) A) 1 6 A := by
  refine vx_ofWH (cc := cX0_pay) (maxL := 5) (ret := (some .int)) (by decide) rfl ?_
  intro p e s m args below meth c s₁ B hml hv
  obtain ⟨rfl, hWK, hR, hO, hA9⟩ := hv
  have g := g2.1.1
  have hx := B.exec
  have hb := B.bytes
  have hr := B.returns
  have hts := atoms_spec (ws := wsW_ yX0_pay cX0_pay 5 (some .int) [(0, 10, 13, 28), (0, 10, 17, 13), (0, 10, 21, 15)]) B.pre
  have htb := vx_table (x := yX0_pay) B (hts _ List.mem_cons_self)
  have hts : ∀ w ∈ lw_all, w.before _ s = true := fun w h => hts w (List.mem_cons_of_mem _ h)
  have hown : s.vm.findClass "LendlatheLaw" = some m.cls := findClass_of_methodNamed B.named
  have hlocks := B.notSynchronized
  have hK := hWK.K g
  have F : CallFix p m c cX0_pay 5 s _ lw_all "LendlatheLaw" := ⟨hx, hb, hml, hown, hts⟩
  have hWK1 := hWK.less hO.lt
  have hS1 : va_S (xA1 A o) s.heap s.heap [] := va_S.rf
  have hl := lv_entry ([.ref (ad (0, 0)), .int member, .int amount, .ref o]) (n := 5) (Nat.le_of_ble_eq_true rfl)
  rw [lg_entry_eq]
  generalize (lg_sl ([.ref (ad (0, 0)), .int member, .int amount, .ref o]) ++ List.replicate (5 - (lg_sl ([.ref (ad (0, 0)), .int member, .int amount, .ref o])).length) Slot.unset).toArray = ls at hl ⊢
  have hl : lv_has ls 5 [(0, .ref (ad (0, 0))), (1, .int member), (2, .int amount), (3, .ref o)] := hl
  refine lv_aload_n hx hb dX0_pay_0 rfl (lv_at hl 3 rfl) ?_
  refine lv_iconst (v := 0) hx hb dX0_pay_1 (by decide) ?_
  refine lv_aload_n hx hb dX0_pay_2 rfl (lv_at hl 0 rfl) ?_
  refine lv_iload_n hx hb dX0_pay_3 rfl (lv_at hl 1 rfl) ?_
  refine lv_iload_n hx hb dX0_pay_4 rfl (lv_at hl 2 rfl) ?_
  refine xc_X (vx_runV (As := [.int member, .int amount]) (rest := [.int 0, .ref o]) F (xX1_pay g2.1 (A := xA1 A o) (S := S) (ad := ad) (z := z) member amount hW) (cwV 2 hts (lw_V q1402 q1403 q1404 q56 q1405) rfl rfl rfl hdV_X1_pay ⟨Nat.le_of_ble_eq_true rfl, Nat.le_of_ble_eq_true rfl⟩) (xpreV (xrecv hK (xw_0 hR) rfl) hWK1 hS1 hR) rfl rfl hl.1 rfl (lv_room (Nat.le_of_ble_eq_true rfl)) dX0_pay_5 ⟨Nat.le_of_ble_eq_true rfl, Nat.le_of_ble_eq_true rfl⟩) hS1 (fun E ce q9 H locs hX hz hk hS hq9 hv9 hc9 => ?_) (fun H locs hP hz hk hS => ?_)
  · have hO := hO.kept (hk o hO.lt (fun c => c.2 rfl))
    have hS := xS.more (A := A) hS (fun q c => c.1)
    rcases hC with e1 | e1 | e1 | e1
    · exact absurd e1 hX.2.1
    · rw [e1] at hX
      obtain ⟨rfl, -, z9, hR⟩ := hX
      refine xw_catch (name := xExn 4) hown [(0, 10, 13, 28), (0, 10, 17, 13), (0, 10, 21, 15)] (by rw [htb]; rfl) 0 rfl (fun i hi => absurd hi (Nat.not_lt_zero i)) (by decide) (by decide) (by decide) (hts _ q909) ((xnC hWK g q942).use rfl) hq9 hv9 hc9 ?_
      refine lv_astore (lv' := [(4, .ref q9), (0, .ref (ad (0, 0))), (1, .int member), (2, .int amount), (3, .ref o)]) hx hb dX0_pay_13 hl (by decide) rfl (fun ls hl => ?_)
      refine lv_iconst (v := 1) hx hb dX0_pay_15 (by decide) ?_
      exact vx_ret (xr_Ci hx hb hr hlocks (by rw [e1]; rfl) ⟨ad, z9, f, by rw [e1]; exact hR, rfl, hO, fun c => by rw [e1] at c; cases c⟩ hS (by first | omega | decide) (by first | omega | decide) dX0_pay_16)
    · rw [e1] at hX
      obtain ⟨rfl, -, z9, hR⟩ := hX
      refine xw_catch (name := xExn 1) hown [(0, 10, 13, 28), (0, 10, 17, 13), (0, 10, 21, 15)] (by rw [htb]; rfl) 1 rfl (fun i hi r hr9 => by rcases (show i = 0 by omega) with hi0 <;> subst hi0 <;> cases hr9 <;> first | exact ⟨by decide, xExn 4, hts _ q909, xNcAt (i := 1) (j := 4) hWK g2.2 (by decide) (by decide) (by decide) (by decide) (by decide)⟩) (by decide) (by decide) (by decide) (hts _ q749) ((xnC hWK g q131).use rfl) hq9 hv9 hc9 ?_
      refine lv_astore (lv' := [(4, .ref q9), (0, .ref (ad (0, 0))), (1, .int member), (2, .int amount), (3, .ref o)]) hx hb dX0_pay_17 hl (by decide) rfl (fun ls hl => ?_)
      refine lv_iconst (v := 2) hx hb dX0_pay_19 (by decide) ?_
      exact vx_ret (xr_Ci hx hb hr hlocks (by rw [e1]; rfl) ⟨ad, z9, f, by rw [e1]; exact hR, rfl, hO, fun c => by rw [e1] at c; cases c⟩ hS (by first | omega | decide) (by first | omega | decide) dX0_pay_20)
    · rw [e1] at hX
      obtain ⟨rfl, -, z9, hR⟩ := hX
      refine xw_catch (name := xExn 2) hown [(0, 10, 13, 28), (0, 10, 17, 13), (0, 10, 21, 15)] (by rw [htb]; rfl) 2 rfl (fun i hi r hr9 => by rcases (show i = 0 ∨ i = 1 by omega) with hi0 | hi0 <;> subst hi0 <;> cases hr9 <;> first | exact ⟨by decide, xExn 4, hts _ q909, xNcAt (i := 2) (j := 4) hWK g2.2 (by decide) (by decide) (by decide) (by decide) (by decide)⟩ | exact ⟨by decide, xExn 1, hts _ q749, xNcAt (i := 2) (j := 1) hWK g2.2 (by decide) (by decide) (by decide) (by decide) (by decide)⟩) (by decide) (by decide) (by decide) (hts _ q750) ((xnC hWK g q774).use rfl) hq9 hv9 hc9 ?_
      refine lv_astore (lv' := [(4, .ref q9), (0, .ref (ad (0, 0))), (1, .int member), (2, .int amount), (3, .ref o)]) hx hb dX0_pay_21 hl (by decide) rfl (fun ls hl => ?_)
      refine lv_iconst (v := 3) hx hb dX0_pay_23 (by decide) ?_
      exact vx_ret (xr_Ci hx hb hr hlocks (by rw [e1]; rfl) ⟨ad, z9, f, by rw [e1]; exact hR, rfl, hO, fun c => by rw [e1] at c; cases c⟩ hS (by first | omega | decide) (by first | omega | decide) dX0_pay_24)
  · have hO := hO.kept (hk o hO.lt (fun c => c.2 rfl))
    have hS := xS.more (A := A) hS (fun q c => c.1)
    obtain ⟨e1, ad9, z9, hR, e2⟩ := hP
    refine lv_i2l hx hb dX0_pay_8 rfl ?_
    refine x_last hx hb hK hS hO hA9 (⟨by unfold vp_in; decide, by decide⟩ : xi 0 0 1) dX0_pay_9 (fun H locs hat hof hS => ?_)
    refine lv_goto (tgt := 25) hx hb dX0_pay_10 (by decide) ?_
    refine lv_iconst (v := 0) hx hb dX0_pay_25 (by decide) ?_
    exact vx_ret (xr_Ci hx hb hr hlocks (by rw [e1]; rfl) ⟨ad9, z9, _, by rw [e1]; exact hR.off (fun k i b e hb hi he c => (hR.A k i hb hi he).2 c) hof, e2, hat, fun _ => rfl⟩ hS (by first | omega | decide) (by first | omega | decide) dX0_pay_26)
theorem xX0_owes {l : Launch} {G : xG} {s0 : State} {b0 : Nat} (g2 : xG2 l G s0 b0) {A : Nat → Prop} {S : xS} {ad : Nat × Nat → Nat} {z : xZ} (o : Nat) (f : Nat → Value) (member : Int32) (hW : xW S) (hC : (xOwes S member).1 = 0 ∨ (xOwes S member).1 = 4) : vx_Met l yX0_owes (wsW_ yX0_owes cX0_owes 4 (some .int) [(0, 9, 12, 28)]) ({ frames := 8, cells := 1, slots := 6, locals := 135 } : Room) (xP s0 A [.ref (ad (0, 0)), .int member, .ref o] (fun H => xRX G (xA1 A o) S ad z H ∧ xat G o (xA 1 1 f) H ∧ A o)) (xQc (some (.int (xCd [4] (xOwes S member).1))) (fun _ H => ∃ ad9 z9 f9, xRX G (xA1 A o) (if (xOwes S member).1 = 0 then (xOwes S member).2.2 else S) ad9 z9 H ∧ ad9 (0, 0) = ad (0, 0) ∧ xat G o (xA 1 1 f9) H ∧ ((xOwes S member).1 = 0 → f9 0 = .long (xOwes S member).2.1.toInt64)) A) (xXc (fun _ _ _ => False) A) 1 6 A := by
  refine vx_ofWH (cc := cX0_owes) (maxL := 4) (ret := (some .int)) (by decide) rfl ?_
  intro p e s m args below meth c s₁ B hml hv
  obtain ⟨rfl, hWK, hR, hO, hA9⟩ := hv
  have g := g2.1.1
  have hx := B.exec
  have hb := B.bytes
  have hr := B.returns
  have hts := atoms_spec (ws := wsW_ yX0_owes cX0_owes 4 (some .int) [(0, 9, 12, 28)]) B.pre
  have htb := vx_table (x := yX0_owes) B (hts _ List.mem_cons_self)
  have hts : ∀ w ∈ lw_all, w.before _ s = true := fun w h => hts w (List.mem_cons_of_mem _ h)
  have hown : s.vm.findClass "LendlatheLaw" = some m.cls := findClass_of_methodNamed B.named
  have hlocks := B.notSynchronized
  have hK := hWK.K g
  have F : CallFix p m c cX0_owes 4 s _ lw_all "LendlatheLaw" := ⟨hx, hb, hml, hown, hts⟩
  have hWK1 := hWK.less hO.lt
  have hS1 : va_S (xA1 A o) s.heap s.heap [] := va_S.rf
  have hl := lv_entry ([.ref (ad (0, 0)), .int member, .ref o]) (n := 4) (Nat.le_of_ble_eq_true rfl)
  rw [lg_entry_eq]
  generalize (lg_sl ([.ref (ad (0, 0)), .int member, .ref o]) ++ List.replicate (4 - (lg_sl ([.ref (ad (0, 0)), .int member, .ref o])).length) Slot.unset).toArray = ls at hl ⊢
  have hl : lv_has ls 4 [(0, .ref (ad (0, 0))), (1, .int member), (2, .ref o)] := hl
  refine lv_aload_n hx hb dX0_owes_0 rfl (lv_at hl 2 rfl) ?_
  refine lv_iconst (v := 0) hx hb dX0_owes_1 (by decide) ?_
  refine lv_aload_n hx hb dX0_owes_2 rfl (lv_at hl 0 rfl) ?_
  refine lv_iload_n hx hb dX0_owes_3 rfl (lv_at hl 1 rfl) ?_
  refine xc_X (vx_runV (As := [.int member]) (rest := [.int 0, .ref o]) F (xX1_owes g2.1 (A := xA1 A o) (S := S) (ad := ad) (z := z) member hW) (cwV 1 hts (lw_V q1411 q1412 q1413 q56 q1414) rfl rfl rfl hdV_X1_owes ⟨Nat.le_of_ble_eq_true rfl, Nat.le_of_ble_eq_true rfl⟩) (xpreV (xrecv hK (xw_0 hR) rfl) hWK1 hS1 hR) rfl rfl hl.1 rfl (lv_room (Nat.le_of_ble_eq_true rfl)) dX0_owes_4 ⟨Nat.le_of_ble_eq_true rfl, Nat.le_of_ble_eq_true rfl⟩) hS1 (fun E ce q9 H locs hX hz hk hS hq9 hv9 hc9 => ?_) (fun H locs hP hz hk hS => ?_)
  · have hO := hO.kept (hk o hO.lt (fun c => c.2 rfl))
    have hS := xS.more (A := A) hS (fun q c => c.1)
    rcases hC with e1 | e1
    · exact absurd e1 hX.2.1
    · rw [e1] at hX
      obtain ⟨rfl, -, z9, hR⟩ := hX
      refine xw_catch (name := xExn 4) hown [(0, 9, 12, 28)] (by rw [htb]; rfl) 0 rfl (fun i hi => absurd hi (Nat.not_lt_zero i)) (by decide) (by decide) (by decide) (hts _ q909) ((xnC hWK g q942).use rfl) hq9 hv9 hc9 ?_
      refine lv_astore_n (lv' := [(3, .ref q9), (0, .ref (ad (0, 0))), (1, .int member), (2, .ref o)]) hx hb dX0_owes_12 rfl hl (by decide) rfl (fun ls hl => ?_)
      refine lv_iconst (v := 1) hx hb dX0_owes_13 (by decide) ?_
      exact vx_ret (xr_Ci hx hb hr hlocks (by rw [e1]; rfl) ⟨ad, z9, f, by rw [e1]; exact hR, rfl, hO, fun c => by rw [e1] at c; cases c⟩ hS (by first | omega | decide) (by first | omega | decide) dX0_owes_14)
  · have hO := hO.kept (hk o hO.lt (fun c => c.2 rfl))
    have hS := xS.more (A := A) hS (fun q c => c.1)
    obtain ⟨e1, ad9, z9, hR, e2⟩ := hP
    refine lv_i2l hx hb dX0_owes_7 rfl ?_
    refine x_last hx hb hK hS hO hA9 (⟨by unfold vp_in; decide, by decide⟩ : xi 0 0 1) dX0_owes_8 (fun H locs hat hof hS => ?_)
    refine lv_goto (tgt := 15) hx hb dX0_owes_9 (by decide) ?_
    refine lv_iconst (v := 0) hx hb dX0_owes_15 (by decide) ?_
    exact vx_ret (xr_Ci hx hb hr hlocks (by rw [e1]; rfl) ⟨ad9, z9, _, by rw [e1]; exact hR.off (fun k i b e hb hi he c => (hR.A k i hb hi he).2 c) hof, e2, hat, fun _ => rfl⟩ hS (by first | omega | decide) (by first | omega | decide) dX0_owes_16)
theorem xX0_owesByEntries {l : Launch} {G : xG} {s0 : State} {b0 : Nat} (g2 : xG2 l G s0 b0) {A : Nat → Prop} {S : xS} {ad : Nat × Nat → Nat} {z : xZ} (o : Nat) (f : Nat → Value) (member : Int32) (hW : xW S) (hC : (xOwesE S member).1 = 0 ∨ (xOwesE S member).1 = 4) : vx_Met l yX0_owesByEntries (wsW_ yX0_owesByEntries cX0_owesByEntries 4 (some .int) [(0, 9, 12, 28)]) ({ frames := 8, cells := 1, slots := 6, locals := 135 } : Room) (xP s0 A [.ref (ad (0, 0)), .int member, .ref o] (fun H => xRX G (xA1 A o) S ad z H ∧ xat G o (xA 1 1 f) H ∧ A o)) (xQc (some (.int (xCd [4] (xOwesE S member).1))) (fun _ H => ∃ ad9 z9 f9, xRX G (xA1 A o) (if (xOwesE S member).1 = 0 then (xOwesE S member).2.2 else S) ad9 z9 H ∧ ad9 (0, 0) = ad (0, 0) ∧ xat G o (xA 1 1 f9) H ∧ ((xOwesE S member).1 = 0 → f9 0 = .long (xOwesE S member).2.1.toInt64)) A) (xXc (fun _ _ _ => False) A) 1 6 A := by
  refine vx_ofWH (cc := cX0_owesByEntries) (maxL := 4) (ret := (some .int)) (by decide) rfl ?_
  intro p e s m args below meth c s₁ B hml hv
  obtain ⟨rfl, hWK, hR, hO, hA9⟩ := hv
  have g := g2.1.1
  have hx := B.exec
  have hb := B.bytes
  have hr := B.returns
  have hts := atoms_spec (ws := wsW_ yX0_owesByEntries cX0_owesByEntries 4 (some .int) [(0, 9, 12, 28)]) B.pre
  have htb := vx_table (x := yX0_owesByEntries) B (hts _ List.mem_cons_self)
  have hts : ∀ w ∈ lw_all, w.before _ s = true := fun w h => hts w (List.mem_cons_of_mem _ h)
  have hown : s.vm.findClass "LendlatheLaw" = some m.cls := findClass_of_methodNamed B.named
  have hlocks := B.notSynchronized
  have hK := hWK.K g
  have F : CallFix p m c cX0_owesByEntries 4 s _ lw_all "LendlatheLaw" := ⟨hx, hb, hml, hown, hts⟩
  have hWK1 := hWK.less hO.lt
  have hS1 : va_S (xA1 A o) s.heap s.heap [] := va_S.rf
  have hl := lv_entry ([.ref (ad (0, 0)), .int member, .ref o]) (n := 4) (Nat.le_of_ble_eq_true rfl)
  rw [lg_entry_eq]
  generalize (lg_sl ([.ref (ad (0, 0)), .int member, .ref o]) ++ List.replicate (4 - (lg_sl ([.ref (ad (0, 0)), .int member, .ref o])).length) Slot.unset).toArray = ls at hl ⊢
  have hl : lv_has ls 4 [(0, .ref (ad (0, 0))), (1, .int member), (2, .ref o)] := hl
  refine lv_aload_n hx hb dX0_owesByEntries_0 rfl (lv_at hl 2 rfl) ?_
  refine lv_iconst (v := 0) hx hb dX0_owesByEntries_1 (by decide) ?_
  refine lv_aload_n hx hb dX0_owesByEntries_2 rfl (lv_at hl 0 rfl) ?_
  refine lv_iload_n hx hb dX0_owesByEntries_3 rfl (lv_at hl 1 rfl) ?_
  refine xc_X (vx_runV (As := [.int member]) (rest := [.int 0, .ref o]) F (xX1_owesByEntries g2.1 (A := xA1 A o) (S := S) (ad := ad) (z := z) member hW) (cwV 1 hts (lw_V q1418 q1419 q1420 q56 q1421) rfl rfl rfl hdV_X1_owesByEntries ⟨Nat.le_of_ble_eq_true rfl, Nat.le_of_ble_eq_true rfl⟩) (xpreV (xrecv hK (xw_0 hR) rfl) hWK1 hS1 hR) rfl rfl hl.1 rfl (lv_room (Nat.le_of_ble_eq_true rfl)) dX0_owesByEntries_4 ⟨Nat.le_of_ble_eq_true rfl, Nat.le_of_ble_eq_true rfl⟩) hS1 (fun E ce q9 H locs hX hz hk hS hq9 hv9 hc9 => ?_) (fun H locs hP hz hk hS => ?_)
  · have hO := hO.kept (hk o hO.lt (fun c => c.2 rfl))
    have hS := xS.more (A := A) hS (fun q c => c.1)
    rcases hC with e1 | e1
    · exact absurd e1 hX.2.1
    · rw [e1] at hX
      obtain ⟨rfl, -, z9, hR⟩ := hX
      refine xw_catch (name := xExn 4) hown [(0, 9, 12, 28)] (by rw [htb]; rfl) 0 rfl (fun i hi => absurd hi (Nat.not_lt_zero i)) (by decide) (by decide) (by decide) (hts _ q909) ((xnC hWK g q942).use rfl) hq9 hv9 hc9 ?_
      refine lv_astore_n (lv' := [(3, .ref q9), (0, .ref (ad (0, 0))), (1, .int member), (2, .ref o)]) hx hb dX0_owesByEntries_12 rfl hl (by decide) rfl (fun ls hl => ?_)
      refine lv_iconst (v := 1) hx hb dX0_owesByEntries_13 (by decide) ?_
      exact vx_ret (xr_Ci hx hb hr hlocks (by rw [e1]; rfl) ⟨ad, z9, f, by rw [e1]; exact hR, rfl, hO, fun c => by rw [e1] at c; cases c⟩ hS (by first | omega | decide) (by first | omega | decide) dX0_owesByEntries_14)
  · have hO := hO.kept (hk o hO.lt (fun c => c.2 rfl))
    have hS := xS.more (A := A) hS (fun q c => c.1)
    obtain ⟨e1, ad9, z9, hR, e2⟩ := hP
    refine lv_i2l hx hb dX0_owesByEntries_7 rfl ?_
    refine x_last hx hb hK hS hO hA9 (⟨by unfold vp_in; decide, by decide⟩ : xi 0 0 1) dX0_owesByEntries_8 (fun H locs hat hof hS => ?_)
    refine lv_goto (tgt := 15) hx hb dX0_owesByEntries_9 (by decide) ?_
    refine lv_iconst (v := 0) hx hb dX0_owesByEntries_15 (by decide) ?_
    exact vx_ret (xr_Ci hx hb hr hlocks (by rw [e1]; rfl) ⟨ad9, z9, _, by rw [e1]; exact hR.off (fun k i b e hb hi he c => (hR.A k i hb hi he).2 c) hof, e2, hat, fun _ => rfl⟩ hS (by first | omega | decide) (by first | omega | decide) dX0_owesByEntries_16)
theorem xX0_dueOf {l : Launch} {G : xG} {s0 : State} {b0 : Nat} (g2 : xG2 l G s0 b0) {A : Nat → Prop} {S : xS} {ad : Nat × Nat → Nat} {z : xZ} (o : Nat) (f : Nat → Value) (entry : Int32) (hW : xW S) (hC : (xDueOf S entry).1 = 0 ∨ (xDueOf S entry).1 = 3) : vx_Met l yX0_dueOf (wsW_ yX0_dueOf cX0_dueOf 4 (some .int) [(0, 9, 12, 42)]) ({ frames := 9, cells := 1, slots := 6, locals := 156 } : Room) (xP s0 A [.ref (ad (0, 0)), .int entry, .ref o] (fun H => xRX G (xA1 A o) S ad z H ∧ xat G o (xA 1 1 f) H ∧ A o)) (xQc (some (.int (xCd [3] (xDueOf S entry).1))) (fun _ H => ∃ ad9 z9 f9, xRX G (xA1 A o) (if (xDueOf S entry).1 = 0 then (xDueOf S entry).2.2 else S) ad9 z9 H ∧ ad9 (0, 0) = ad (0, 0) ∧ xat G o (xA 1 1 f9) H ∧ ((xDueOf S entry).1 = 0 → f9 0 = .long (xDueOf S entry).2.1.toInt64)) A) (xXc (fun _ _ _ => False) A) 1 6 A := by
  refine vx_ofWH (cc := cX0_dueOf) (maxL := 4) (ret := (some .int)) (by decide) rfl ?_
  intro p e s m args below meth c s₁ B hml hv
  obtain ⟨rfl, hWK, hR, hO, hA9⟩ := hv
  have g := g2.1.1
  have hx := B.exec
  have hb := B.bytes
  have hr := B.returns
  have hts := atoms_spec (ws := wsW_ yX0_dueOf cX0_dueOf 4 (some .int) [(0, 9, 12, 42)]) B.pre
  have htb := vx_table (x := yX0_dueOf) B (hts _ List.mem_cons_self)
  have hts : ∀ w ∈ lw_all, w.before _ s = true := fun w h => hts w (List.mem_cons_of_mem _ h)
  have hown : s.vm.findClass "LendlatheLaw" = some m.cls := findClass_of_methodNamed B.named
  have hlocks := B.notSynchronized
  have hK := hWK.K g
  have F : CallFix p m c cX0_dueOf 4 s _ lw_all "LendlatheLaw" := ⟨hx, hb, hml, hown, hts⟩
  have hWK1 := hWK.less hO.lt
  have hS1 : va_S (xA1 A o) s.heap s.heap [] := va_S.rf
  have hl := lv_entry ([.ref (ad (0, 0)), .int entry, .ref o]) (n := 4) (Nat.le_of_ble_eq_true rfl)
  rw [lg_entry_eq]
  generalize (lg_sl ([.ref (ad (0, 0)), .int entry, .ref o]) ++ List.replicate (4 - (lg_sl ([.ref (ad (0, 0)), .int entry, .ref o])).length) Slot.unset).toArray = ls at hl ⊢
  have hl : lv_has ls 4 [(0, .ref (ad (0, 0))), (1, .int entry), (2, .ref o)] := hl
  refine lv_aload_n hx hb dX0_dueOf_0 rfl (lv_at hl 2 rfl) ?_
  refine lv_iconst (v := 0) hx hb dX0_dueOf_1 (by decide) ?_
  refine lv_aload_n hx hb dX0_dueOf_2 rfl (lv_at hl 0 rfl) ?_
  refine lv_iload_n hx hb dX0_dueOf_3 rfl (lv_at hl 1 rfl) ?_
  refine xc_X (vx_runV (As := [.int entry]) (rest := [.int 0, .ref o]) F (xX1_dueOf g2.1 (A := xA1 A o) (S := S) (ad := ad) (z := z) entry hW) (cwV 1 hts (lw_V q1425 q1426 q1427 q56 q1428) rfl rfl rfl hdV_X1_dueOf ⟨Nat.le_of_ble_eq_true rfl, Nat.le_of_ble_eq_true rfl⟩) (xpreV (xrecv hK (xw_0 hR) rfl) hWK1 hS1 hR) rfl rfl hl.1 rfl (lv_room (Nat.le_of_ble_eq_true rfl)) dX0_dueOf_4 ⟨Nat.le_of_ble_eq_true rfl, Nat.le_of_ble_eq_true rfl⟩) hS1 (fun E ce q9 H locs hX hz hk hS hq9 hv9 hc9 => ?_) (fun H locs hP hz hk hS => ?_)
  · have hO := hO.kept (hk o hO.lt (fun c => c.2 rfl))
    have hS := xS.more (A := A) hS (fun q c => c.1)
    rcases hC with e1 | e1
    · exact absurd e1 hX.2.1
    · rw [e1] at hX
      obtain ⟨rfl, -, z9, hR⟩ := hX
      refine xw_catch (name := xExn 3) hown [(0, 9, 12, 42)] (by rw [htb]; rfl) 0 rfl (fun i hi => absurd hi (Nat.not_lt_zero i)) (by decide) (by decide) (by decide) (hts _ q994) ((xnC hWK g q572).use rfl) hq9 hv9 hc9 ?_
      refine lv_astore_n (lv' := [(3, .ref q9), (0, .ref (ad (0, 0))), (1, .int entry), (2, .ref o)]) hx hb dX0_dueOf_12 rfl hl (by decide) rfl (fun ls hl => ?_)
      refine lv_iconst (v := 1) hx hb dX0_dueOf_13 (by decide) ?_
      exact vx_ret (xr_Ci hx hb hr hlocks (by rw [e1]; rfl) ⟨ad, z9, f, by rw [e1]; exact hR, rfl, hO, fun c => by rw [e1] at c; cases c⟩ hS (by first | omega | decide) (by first | omega | decide) dX0_dueOf_14)
  · have hO := hO.kept (hk o hO.lt (fun c => c.2 rfl))
    have hS := xS.more (A := A) hS (fun q c => c.1)
    obtain ⟨e1, ad9, z9, hR, e2⟩ := hP
    refine lv_i2l hx hb dX0_dueOf_7 rfl ?_
    refine x_last hx hb hK hS hO hA9 (⟨by unfold vp_in; decide, by decide⟩ : xi 0 0 1) dX0_dueOf_8 (fun H locs hat hof hS => ?_)
    refine lv_goto (tgt := 15) hx hb dX0_dueOf_9 (by decide) ?_
    refine lv_iconst (v := 0) hx hb dX0_dueOf_15 (by decide) ?_
    exact vx_ret (xr_Ci hx hb hr hlocks (by rw [e1]; rfl) ⟨ad9, z9, _, by rw [e1]; exact hR.off (fun k i b e hb hi he c => (hR.A k i hb hi he).2 c) hof, e2, hat, fun _ => rfl⟩ hS (by first | omega | decide) (by first | omega | decide) dX0_dueOf_16)
theorem xX0_meanMinutes {l : Launch} {G : xG} {s0 : State} {b0 : Nat} (g2 : xG2 l G s0 b0) {A : Nat → Prop} {S : xS} {ad : Nat × Nat → Nat} {z : xZ} (o : Nat) (f : Nat → Value)  (hW : xW S) (hC : (xMean S).1 = 0 ∨ (xMean S).1 = 6) : vx_Met l yX0_meanMinutes (wsW_ yX0_meanMinutes cX0_meanMinutes 3 (some .int) [(0, 7, 10, 40)]) ({ frames := 7, cells := 1, slots := 6, locals := 114 } : Room) (xP s0 A [.ref (ad (0, 0)), .ref o] (fun H => xRX G (xA1 A o) S ad z H ∧ xat G o (xA 2 1 f) H ∧ A o)) (xQc (some (.int (xCd [6] (xMean S).1))) (fun _ H => ∃ ad9 z9 f9, xRX G (xA1 A o) (if (xMean S).1 = 0 then (xMean S).2.2 else S) ad9 z9 H ∧ ad9 (0, 0) = ad (0, 0) ∧ xat G o (xA 2 1 f9) H ∧ ((xMean S).1 = 0 → f9 0 = .double (xMean S).2.1)) A) (xXc (fun _ _ _ => False) A) 1 6 A := by
  refine vx_ofWH (cc := cX0_meanMinutes) (maxL := 3) (ret := (some .int)) (by decide) rfl ?_
  intro p e s m args below meth c s₁ B hml hv
  obtain ⟨rfl, hWK, hR, hO, hA9⟩ := hv
  have g := g2.1.1
  have hx := B.exec
  have hb := B.bytes
  have hr := B.returns
  have hts := atoms_spec (ws := wsW_ yX0_meanMinutes cX0_meanMinutes 3 (some .int) [(0, 7, 10, 40)]) B.pre
  have htb := vx_table (x := yX0_meanMinutes) B (hts _ List.mem_cons_self)
  have hts : ∀ w ∈ lw_all, w.before _ s = true := fun w h => hts w (List.mem_cons_of_mem _ h)
  have hown : s.vm.findClass "LendlatheLaw" = some m.cls := findClass_of_methodNamed B.named
  have hlocks := B.notSynchronized
  have hK := hWK.K g
  have F : CallFix p m c cX0_meanMinutes 3 s _ lw_all "LendlatheLaw" := ⟨hx, hb, hml, hown, hts⟩
  have hWK1 := hWK.less hO.lt
  have hS1 : va_S (xA1 A o) s.heap s.heap [] := va_S.rf
  have hl := lv_entry ([.ref (ad (0, 0)), .ref o]) (n := 3) (Nat.le_of_ble_eq_true rfl)
  rw [lg_entry_eq]
  generalize (lg_sl ([.ref (ad (0, 0)), .ref o]) ++ List.replicate (3 - (lg_sl ([.ref (ad (0, 0)), .ref o])).length) Slot.unset).toArray = ls at hl ⊢
  have hl : lv_has ls 3 [(0, .ref (ad (0, 0))), (1, .ref o)] := hl
  refine lv_aload_n hx hb dX0_meanMinutes_0 rfl (lv_at hl 1 rfl) ?_
  refine lv_iconst (v := 0) hx hb dX0_meanMinutes_1 (by decide) ?_
  refine lv_aload_n hx hb dX0_meanMinutes_2 rfl (lv_at hl 0 rfl) ?_
  refine xc_X (vx_runV (As := []) (rest := [.int 0, .ref o]) F (xX1_meanMinutes g2.1 (A := xA1 A o) (S := S) (ad := ad) (z := z) hW) (cwV 0 hts (lw_V q1440 q1441 q1442 q56 q1443) rfl rfl rfl hdV_X1_meanMinutes ⟨Nat.le_of_ble_eq_true rfl, Nat.le_of_ble_eq_true rfl⟩) (xpreV (xrecv hK (xw_0 hR) rfl) hWK1 hS1 hR) rfl rfl hl.1 rfl (lv_room (Nat.le_of_ble_eq_true rfl)) dX0_meanMinutes_3 ⟨Nat.le_of_ble_eq_true rfl, Nat.le_of_ble_eq_true rfl⟩) hS1 (fun E ce q9 H locs hX hz hk hS hq9 hv9 hc9 => ?_) (fun H locs hP hz hk hS => ?_)
  · have hO := hO.kept (hk o hO.lt (fun c => c.2 rfl))
    have hS := xS.more (A := A) hS (fun q c => c.1)
    rcases hC with e1 | e1
    · exact absurd e1 hX.2.1
    · rw [e1] at hX
      obtain ⟨rfl, -, z9, hR⟩ := hX
      refine xw_catch (name := xExn 6) hown [(0, 7, 10, 40)] (by rw [htb]; rfl) 0 rfl (fun i hi => absurd hi (Nat.not_lt_zero i)) (by decide) (by decide) (by decide) (hts _ q980) ((xnC hWK g q992).use rfl) hq9 hv9 hc9 ?_
      refine lv_astore_n (lv' := [(2, .ref q9), (0, .ref (ad (0, 0))), (1, .ref o)]) hx hb dX0_meanMinutes_10 rfl hl (by decide) rfl (fun ls hl => ?_)
      refine lv_iconst (v := 1) hx hb dX0_meanMinutes_11 (by decide) ?_
      exact vx_ret (xr_Ci hx hb hr hlocks (by rw [e1]; rfl) ⟨ad, z9, f, by rw [e1]; exact hR, rfl, hO, fun c => by rw [e1] at c; cases c⟩ hS (by first | omega | decide) (by first | omega | decide) dX0_meanMinutes_12)
  · have hO := hO.kept (hk o hO.lt (fun c => c.2 rfl))
    have hS := xS.more (A := A) hS (fun q c => c.1)
    obtain ⟨e1, ad9, z9, hR, e2⟩ := hP
    refine x_dast hx hb hK hS hO hA9 (⟨by unfold vp_in; decide, by decide⟩ : xi 0 0 1) dX0_meanMinutes_6 (fun H locs hat hof hS => ?_)
    refine lv_goto (tgt := 13) hx hb dX0_meanMinutes_7 (by decide) ?_
    refine lv_iconst (v := 0) hx hb dX0_meanMinutes_13 (by decide) ?_
    exact vx_ret (xr_Ci hx hb hr hlocks (by rw [e1]; rfl) ⟨ad9, z9, _, by rw [e1]; exact hR.off (fun k i b e hb hi he c => (hR.A k i hb hi he).2 c) hof, e2, hat, fun _ => rfl⟩ hS (by first | omega | decide) (by first | omega | decide) dX0_meanMinutes_14)
