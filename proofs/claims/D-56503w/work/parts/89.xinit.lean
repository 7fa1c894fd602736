/-! contracts (printed by gen/mx14.py) -/
set_option maxRecDepth 100000
set_option maxHeartbeats 4000000 in
theorem xX1_init {l : Launch} {G : xG} {s0 : State} {b0 : Nat} (g1 : xG1 l G s0 b0) {A : Nat → Prop} (a : Nat) : Met l yX1_init (ws_ yX1_init cX1_init 3 none) ({ frames := 4, cells := 44, slots := 620, locals := 3080 } : Room) (xP s0 A [.ref a] (fun H => xat G a (xO 0 [.null, .null, .null, .null, .null, .null, .null, .null, .int 0, .null, .null, .null, .int 0]) H ∧ A a)) (xQc none (fun _ H => ∃ ad : Nat × Nat → Nat, ad (0, 0) = a ∧ xRX G A xInit ad xZ0 H) A) 44 620 A := by
  refine Met.ofW (cc := cX1_init) (maxL := 3) (ret := none) (by decide) rfl ?_
  intro p e s m args below meth c s₁ B hml hv
  obtain ⟨rfl, hWK, hR⟩ := hv
  have g := g1.1
  have hx := B.exec
  have hb := B.bytes
  have hr := B.returns
  have hts := atoms_spec (ws := ws_ yX1_init cX1_init 3 none) B.pre
  have hts : ∀ w ∈ lw_all, w.before _ s = true := fun w h => hts w (List.mem_cons_of_mem _ h)
  have hown : s.vm.findClass "Lendlathe" = some m.cls := findClass_of_methodNamed B.named
  have hlocks := B.notSynchronized
  have hK := hWK.K g
  have F : CallFix p m c cX1_init 3 s _ lw_all "Lendlathe" := ⟨hx, hb, hml, hown, hts⟩
  have hS : va_S A s.heap s.heap [] := va_S.rf
  have hl := lv_entry ([.ref a]) (n := 3) (Nat.le_of_ble_eq_true rfl)
  rw [lg_entry_eq]
  generalize (lg_sl ([.ref a]) ++ List.replicate (3 - (lg_sl ([.ref a])).length) Slot.unset).toArray = ls at hl ⊢
  have hl : lv_has ls 3 [(0, .ref a)] := hl
  obtain ⟨hO, hA9⟩ := hR
  have hini : meth.name = "<init>" := (name_of_methodNamed B.named B.method).1
  have hAh : ∀ q, s.heap.size ≤ q → A q := hWK.2.2.2.1
  have hlt := hO.lt
  obtain ⟨h0, hh0⟩ : ∃ h0, h0 = s.heap.size := ⟨_, rfl⟩
  rw [← hh0] at hAh hlt
  have hB : xBd G h0 [] s.heap := by rw [hh0]; exact xBd.nil _
  refine lv_aload_n hx hb dX1_init_0 rfl (lv_at hl 0 rfl) ?_
  refine W.objInit hx hb hown (hts _ q97) (hts _ q98) (hts _ q99) rfl (by rw [hml]; exact hl.1) rfl dX1_init_1 (Nat.le_of_ble_eq_true rfl) (Nat.le_of_ble_eq_true rfl) ?_
  refine lv_aload_n hx hb dX1_init_4 rfl (lv_at hl 0 rfl) ?_
  refine lv_iconst (v := 4) hx hb dX1_init_5 (by decide) ?_
  refine x_newq F hK (C := "Lendlathe$Tariff") (t := 6) rfl (hts _ q100) (xnO hWK g q101) (n := 4) (by decide) (by decide) (by decide) (Nat.le_of_ble_eq_true rfl) (Nat.le_of_ble_eq_true rfl) dX1_init_6 (fun H1 hat hz hg => ?_)
  have ez : Array.size s.heap = h0 + 0 := hB.1
  have hS := hg.S hS
  have hO := hg.at hO
  have hB := hB.one hat hz hg
  refine x_topr ez ?_
  clear ez hat hz hg
  have hB : xBd G h0 [xA 6 4 (fun _ => .null)] H1 := hB
  refine p_X1_11 F hini hK hS hO hA9 (v := .ref (h0 + 0)) rfl rfl (Nat.le_of_ble_eq_true rfl) dX1_init_9 (fun H2 locs hO hof hS => ?_)
  have hB := hB.off hlt hof
  clear hof
  refine lv_aload_n hx hb dX1_init_12 rfl (lv_at hl 0 rfl) ?_
  refine lv_iconst (v := 4) hx hb dX1_init_13 (by decide) ?_
  refine x_newa hx hb hK (ty := .int) (t := 0) rfl rfl (hts _ q112) (n := 4) (dv := .int 0) (by decide) (by decide) rfl (by decide) (Nat.le_of_ble_eq_true rfl) (Nat.le_of_ble_eq_true rfl) dX1_init_14 (fun H3 hat hz hg => ?_)
  have ez : Array.size H2 = h0 + 1 := hB.1
  have hS := hg.S hS
  have hO := hg.at hO
  have hB := hB.one hat hz hg
  refine x_topr ez ?_
  clear ez hat hz hg
  have hB : xBd G h0 [xA 6 4 (fun _ => .null), xA 0 4 (fun _ => .int 0)] H3 := hB
  refine p_X1_15 F hini hK hS hO hA9 (v := .ref (h0 + 1)) rfl rfl (Nat.le_of_ble_eq_true rfl) dX1_init_16 (fun H4 locs hO hof hS => ?_)
  have hB := hB.off hlt hof
  clear hof
  refine x_new (ci := 1) F hK in_X2 tyX2 tyX2_ok rfl (hts _ q102) (hts _ q103) (hts _ q57) df1 (Nat.le_of_ble_eq_true rfl) (Nat.le_of_ble_eq_true rfl) dX1_init_19 (fun H5 hat hz hg => ?_)
  have ez : Array.size H4 = h0 + 2 := hB.1
  have hS := hg.S hS
  have hO := hg.at hO
  have hB := hB.one hat hz hg
  refine x_topr ez ?_
  clear ez hat hz hg
  have hB : xBd G h0 [xA 6 4 (fun _ => .null), xA 0 4 (fun _ => .int 0), xO 1 [.null]] H5 := hB
  refine lv_dup hx hb dX1_init_22 rfl ?_
  refine lv_aload_n hx hb dX1_init_23 rfl (lv_at hl 0 rfl) ?_
  have ez : Array.size H5 = h0 + 3 := hB.1
  refine xc_C0 (va_runI (As := [.ref a]) (rest := [.ref (h0 + 2)]) F (xX2_init g1 (A := A) (h0 + 2) a) (xcI 1 hts q104 q105 q57 q106 rfl (by decide +kernel) ⟨Nat.le_of_ble_eq_true rfl, Nat.le_of_ble_eq_true rfl⟩) (xpre hWK hS ⟨(hB.2 2 _ rfl), (hAh (h0 + 2) (Nat.le_add_right _ _))⟩) rfl rfl hl.1 rfl (lv_room (Nat.le_of_ble_eq_true rfl)) dX1_init_24 ⟨Nat.le_of_ble_eq_true rfl, Nat.le_of_ble_eq_true rfl⟩) hS (fun H6 locs hR1 hz hk hS => ?_)
  obtain ⟨hat, h9⟩ := hR1
  have hO := h9.at hO (by omega)
  have hB := hB.call0 2 h9 hat
  clear hat h9 hz hk ez
  have hB : xBd G h0 [xA 6 4 (fun _ => .null), xA 0 4 (fun _ => .int 0), xO 1 [.ref a]] H6 := hB
  refine lv_astore_n (lv' := [(1, .ref (h0 + 2)), (0, .ref a)]) hx hb dX1_init_27 rfl hl (by decide) rfl (fun ls hl => ?_)
  refine lv_iconst (v := 0) hx hb dX1_init_28 (by decide) ?_
  refine lv_istore_n (lv' := [(2, .int 0), (1, .ref (h0 + 2)), (0, .ref a)]) hx hb dX1_init_29 rfl hl (by decide) rfl (fun ls hl => ?_)
  refine lv_iload_n hx hb dX1_init_30 rfl (lv_at hl 0 rfl) ?_
  refine lv_iconst (v := 4) hx hb dX1_init_31 (by decide) ?_
  refine lv_icmp_ge (tgt := 55) hx hb dX1_init_32 rfl (fun c9 => absurd c9 (by decide)) (fun c9 => ?_)
  refine lv_aload_n hx hb dX1_init_35 rfl (lv_at hl 2 rfl) ?_
  refine g_X1_11 F hK hO (v := .ref (h0 + 0)) rfl dX1_init_36 ?_
  refine lv_iload_n hx hb dX1_init_39 rfl (lv_at hl 0 rfl) ?_
  refine lv_aload_n hx hb dX1_init_40 rfl (lv_at hl 1 rfl) ?_
  refine x_aastC hx hb hK hS (hB.2 0 _ rfl) (hAh (h0 + 0) (Nat.le_add_right _ _)) (ci := 1) rfl rfl (xnC hWK g q1136) (⟨by unfold vp_in; decide, by decide⟩ : xi 0 0 4) (hB.2 2 _ rfl) dX1_init_41 (fun H7 locs hat hof hS => ?_)
  have hO := hof.at hO (by omega)
  have hB := hB.set 0 hof hat
  clear hat hof c9
  have hB : xBd G h0 [xA 6 4 (updV (fun _ => .null) 0 (.ref (h0 + 2))), xA 0 4 (fun _ => .int 0), xO 1 [.ref a]] H7 := hB
  refine lv_aload_n hx hb dX1_init_42 rfl (lv_at hl 2 rfl) ?_
  refine g_X1_15 F hK hO (v := .ref (h0 + 1)) rfl dX1_init_43 ?_
  refine lv_iload_n hx hb dX1_init_46 rfl (lv_at hl 0 rfl) ?_
  refine lv_iconst (v := 1) hx hb dX1_init_47 (by decide) ?_
  refine x_iast hx hb hK hS (hB.2 1 _ rfl) (hAh (h0 + 1) (Nat.le_add_right _ _)) (⟨by unfold vp_in; decide, by decide⟩ : xi 0 0 4) dX1_init_48 (fun H8 locs hat hof hS => ?_)
  have hO := hof.at hO (by omega)
  have hB := hB.set 1 hof hat
  clear hat hof
  have hB : xBd G h0 [xA 6 4 (updV (fun _ => .null) 0 (.ref (h0 + 2))), xA 0 4 (updV (fun _ => .int 0) 0 (.int 1)), xO 1 [.ref a]] H8 := hB
  refine lv_iinc (v := 1) (lv' := [(2, .int 1), (1, .ref (h0 + 2)), (0, .ref a)]) hx hb dX1_init_49 hl (k := 0) rfl (by decide) (by decide) rfl (fun ls hl => ?_)
  refine lv_goto (tgt := 30) hx hb dX1_init_52 rfl ?_
  refine lv_iload_n hx hb dX1_init_30 rfl (lv_at hl 0 rfl) ?_
  refine lv_iconst (v := 4) hx hb dX1_init_31 (by decide) ?_
  refine lv_icmp_ge (tgt := 55) hx hb dX1_init_32 rfl (fun c9 => absurd c9 (by decide)) (fun c9 => ?_)
  refine lv_aload_n hx hb dX1_init_35 rfl (lv_at hl 2 rfl) ?_
  refine g_X1_11 F hK hO (v := .ref (h0 + 0)) rfl dX1_init_36 ?_
  refine lv_iload_n hx hb dX1_init_39 rfl (lv_at hl 0 rfl) ?_
  refine lv_aload_n hx hb dX1_init_40 rfl (lv_at hl 1 rfl) ?_
  refine x_aastC hx hb hK hS (hB.2 0 _ rfl) (hAh (h0 + 0) (Nat.le_add_right _ _)) (ci := 1) rfl rfl (xnC hWK g q1136) (⟨by unfold vp_in; decide, by decide⟩ : xi 1 1 4) (hB.2 2 _ rfl) dX1_init_41 (fun H9 locs hat hof hS => ?_)
  have hO := hof.at hO (by omega)
  have hB := hB.set 0 hof hat
  clear hat hof c9
  have hB : xBd G h0 [xA 6 4 (updV (updV (fun _ => .null) 0 (.ref (h0 + 2))) 1 (.ref (h0 + 2))), xA 0 4 (updV (fun _ => .int 0) 0 (.int 1)), xO 1 [.ref a]] H9 := hB
  refine lv_aload_n hx hb dX1_init_42 rfl (lv_at hl 2 rfl) ?_
  refine g_X1_15 F hK hO (v := .ref (h0 + 1)) rfl dX1_init_43 ?_
  refine lv_iload_n hx hb dX1_init_46 rfl (lv_at hl 0 rfl) ?_
  refine lv_iconst (v := 1) hx hb dX1_init_47 (by decide) ?_
  refine x_iast hx hb hK hS (hB.2 1 _ rfl) (hAh (h0 + 1) (Nat.le_add_right _ _)) (⟨by unfold vp_in; decide, by decide⟩ : xi 1 1 4) dX1_init_48 (fun H10 locs hat hof hS => ?_)
  have hO := hof.at hO (by omega)
  have hB := hB.set 1 hof hat
  clear hat hof
  have hB : xBd G h0 [xA 6 4 (updV (updV (fun _ => .null) 0 (.ref (h0 + 2))) 1 (.ref (h0 + 2))), xA 0 4 (updV (updV (fun _ => .int 0) 0 (.int 1)) 1 (.int 1)), xO 1 [.ref a]] H10 := hB
  refine lv_iinc (v := 2) (lv' := [(2, .int 2), (1, .ref (h0 + 2)), (0, .ref a)]) hx hb dX1_init_49 hl (k := 0) rfl (by decide) (by decide) rfl (fun ls hl => ?_)
  refine lv_goto (tgt := 30) hx hb dX1_init_52 rfl ?_
  refine lv_iload_n hx hb dX1_init_30 rfl (lv_at hl 0 rfl) ?_
  refine lv_iconst (v := 4) hx hb dX1_init_31 (by decide) ?_
  refine lv_icmp_ge (tgt := 55) hx hb dX1_init_32 rfl (fun c9 => absurd c9 (by decide)) (fun c9 => ?_)
  refine lv_aload_n hx hb dX1_init_35 rfl (lv_at hl 2 rfl) ?_
  refine g_X1_11 F hK hO (v := .ref (h0 + 0)) rfl dX1_init_36 ?_
  refine lv_iload_n hx hb dX1_init_39 rfl (lv_at hl 0 rfl) ?_
  refine lv_aload_n hx hb dX1_init_40 rfl (lv_at hl 1 rfl) ?_
  refine x_aastC hx hb hK hS (hB.2 0 _ rfl) (hAh (h0 + 0) (Nat.le_add_right _ _)) (ci := 1) rfl rfl (xnC hWK g q1136) (⟨by unfold vp_in; decide, by decide⟩ : xi 2 2 4) (hB.2 2 _ rfl) dX1_init_41 (fun H11 locs hat hof hS => ?_)
  have hO := hof.at hO (by omega)
  have hB := hB.set 0 hof hat
  clear hat hof c9
  have hB : xBd G h0 [xA 6 4 (updV (updV (updV (fun _ => .null) 0 (.ref (h0 + 2))) 1 (.ref (h0 + 2))) 2 (.ref (h0 + 2))), xA 0 4 (updV (updV (fun _ => .int 0) 0 (.int 1)) 1 (.int 1)), xO 1 [.ref a]] H11 := hB
  refine lv_aload_n hx hb dX1_init_42 rfl (lv_at hl 2 rfl) ?_
  refine g_X1_15 F hK hO (v := .ref (h0 + 1)) rfl dX1_init_43 ?_
  refine lv_iload_n hx hb dX1_init_46 rfl (lv_at hl 0 rfl) ?_
  refine lv_iconst (v := 1) hx hb dX1_init_47 (by decide) ?_
  refine x_iast hx hb hK hS (hB.2 1 _ rfl) (hAh (h0 + 1) (Nat.le_add_right _ _)) (⟨by unfold vp_in; decide, by decide⟩ : xi 2 2 4) dX1_init_48 (fun H12 locs hat hof hS => ?_)
  have hO := hof.at hO (by omega)
  have hB := hB.set 1 hof hat
  clear hat hof
  have hB : xBd G h0 [xA 6 4 (updV (updV (updV (fun _ => .null) 0 (.ref (h0 + 2))) 1 (.ref (h0 + 2))) 2 (.ref (h0 + 2))), xA 0 4 (updV (updV (updV (fun _ => .int 0) 0 (.int 1)) 1 (.int 1)) 2 (.int 1)), xO 1 [.ref a]] H12 := hB
  refine lv_iinc (v := 3) (lv' := [(2, .int 3), (1, .ref (h0 + 2)), (0, .ref a)]) hx hb dX1_init_49 hl (k := 0) rfl (by decide) (by decide) rfl (fun ls hl => ?_)
  refine lv_goto (tgt := 30) hx hb dX1_init_52 rfl ?_
  refine lv_iload_n hx hb dX1_init_30 rfl (lv_at hl 0 rfl) ?_
  refine lv_iconst (v := 4) hx hb dX1_init_31 (by decide) ?_
  refine lv_icmp_ge (tgt := 55) hx hb dX1_init_32 rfl (fun c9 => absurd c9 (by decide)) (fun c9 => ?_)
  refine lv_aload_n hx hb dX1_init_35 rfl (lv_at hl 2 rfl) ?_
  refine g_X1_11 F hK hO (v := .ref (h0 + 0)) rfl dX1_init_36 ?_
  refine lv_iload_n hx hb dX1_init_39 rfl (lv_at hl 0 rfl) ?_
  refine lv_aload_n hx hb dX1_init_40 rfl (lv_at hl 1 rfl) ?_
  refine x_aastC hx hb hK hS (hB.2 0 _ rfl) (hAh (h0 + 0) (Nat.le_add_right _ _)) (ci := 1) rfl rfl (xnC hWK g q1136) (⟨by unfold vp_in; decide, by decide⟩ : xi 3 3 4) (hB.2 2 _ rfl) dX1_init_41 (fun H13 locs hat hof hS => ?_)
  have hO := hof.at hO (by omega)
  have hB := hB.set 0 hof hat
  clear hat hof c9
  have hB : xBd G h0 [xA 6 4 (updV (updV (updV (updV (fun _ => .null) 0 (.ref (h0 + 2))) 1 (.ref (h0 + 2))) 2 (.ref (h0 + 2))) 3 (.ref (h0 + 2))), xA 0 4 (updV (updV (updV (fun _ => .int 0) 0 (.int 1)) 1 (.int 1)) 2 (.int 1)), xO 1 [.ref a]] H13 := hB
  refine lv_aload_n hx hb dX1_init_42 rfl (lv_at hl 2 rfl) ?_
  refine g_X1_15 F hK hO (v := .ref (h0 + 1)) rfl dX1_init_43 ?_
  refine lv_iload_n hx hb dX1_init_46 rfl (lv_at hl 0 rfl) ?_
  refine lv_iconst (v := 1) hx hb dX1_init_47 (by decide) ?_
  refine x_iast hx hb hK hS (hB.2 1 _ rfl) (hAh (h0 + 1) (Nat.le_add_right _ _)) (⟨by unfold vp_in; decide, by decide⟩ : xi 3 3 4) dX1_init_48 (fun H14 locs hat hof hS => ?_)
  have hO := hof.at hO (by omega)
  have hB := hB.set 1 hof hat
  clear hat hof
  have hB : xBd G h0 [xA 6 4 (updV (updV (updV (updV (fun _ => .null) 0 (.ref (h0 + 2))) 1 (.ref (h0 + 2))) 2 (.ref (h0 + 2))) 3 (.ref (h0 + 2))), xA 0 4 (updV (updV (updV (updV (fun _ => .int 0) 0 (.int 1)) 1 (.int 1)) 2 (.int 1)) 3 (.int 1)), xO 1 [.ref a]] H14 := hB
  refine lv_iinc (v := 4) (lv' := [(2, .int 4), (1, .ref (h0 + 2)), (0, .ref a)]) hx hb dX1_init_49 hl (k := 0) rfl (by decide) (by decide) rfl (fun ls hl => ?_)
  refine lv_goto (tgt := 30) hx hb dX1_init_52 rfl ?_
  refine lv_iload_n hx hb dX1_init_30 rfl (lv_at hl 0 rfl) ?_
  refine lv_iconst (v := 4) hx hb dX1_init_31 (by decide) ?_
  refine lv_icmp_ge (tgt := 55) hx hb dX1_init_32 rfl (fun c9 => ?_) (fun c9 => absurd (by decide) c9)
  refine lv_aload_n hx hb dX1_init_55 rfl (lv_at hl 2 rfl) ?_
  refine x_new (ci := 2) F hK in_J2 tyJ2 tyJ2_ok rfl (hts _ q113) (hts _ q114) (hts _ q60) df2 (Nat.le_of_ble_eq_true rfl) (Nat.le_of_ble_eq_true rfl) dX1_init_56 (fun H15 hat hz hg => ?_)
  have ez : Array.size H14 = h0 + 3 := hB.1
  have hS := hg.S hS
  have hO := hg.at hO
  have hB := hB.one hat hz hg
  refine x_topr ez ?_
  clear ez hat hz hg
  have hB : xBd G h0 [xA 6 4 (updV (updV (updV (updV (fun _ => .null) 0 (.ref (h0 + 2))) 1 (.ref (h0 + 2))) 2 (.ref (h0 + 2))) 3 (.ref (h0 + 2))), xA 0 4 (updV (updV (updV (updV (fun _ => .int 0) 0 (.int 1)) 1 (.int 1)) 2 (.int 1)) 3 (.int 1)), xO 1 [.ref a], xO 2 [.int 0, .null, .int 0]] H15 := hB
  refine lv_dup hx hb dX1_init_59 rfl ?_
  refine lv_bipush (v := 6) hx hb dX1_init_60 (by decide) ?_
  have ez : Array.size H15 = h0 + 4 := hB.1
  refine xc_C0 (va_runI (As := [.int 6]) (rest := [.ref (h0 + 3), .ref a]) F (xJ2_init_6 g1 (A := A) (h0 + 3)) (xcI 1 hts q115 q116 q60 q117 rfl (by decide +kernel) ⟨Nat.le_of_ble_eq_true rfl, Nat.le_of_ble_eq_true rfl⟩) (xpre hWK hS ⟨(hB.2 3 _ rfl), (hAh (h0 + 3) (Nat.le_add_right _ _))⟩) rfl rfl hl.1 rfl (lv_room (Nat.le_of_ble_eq_true rfl)) dX1_init_62 ⟨Nat.le_of_ble_eq_true rfl, Nat.le_of_ble_eq_true rfl⟩) hS (fun H16 locs hR1 hz hk hS => ?_)
  obtain ⟨hea, hat, h9⟩ := hR1
  rw [ez] at hat
  have hO := h9.at hO (by omega)
  have hB := hB.call1 3 (show 3 < 4 from by decide) h9 hat hea
  clear hea hat h9 hz hk ez
  have hB : xBd G h0 [xA 6 4 (updV (updV (updV (updV (fun _ => .null) 0 (.ref (h0 + 2))) 1 (.ref (h0 + 2))) 2 (.ref (h0 + 2))) 3 (.ref (h0 + 2))), xA 0 4 (updV (updV (updV (updV (fun _ => .int 0) 0 (.int 1)) 1 (.int 1)) 2 (.int 1)) 3 (.int 1)), xO 1 [.ref a], xO 2 [.int 0, .ref (h0 + 4), .int 0], xA 5 6 (fun _ => .null)] H16 := hB
  refine p_X1_29 F hini hK hS hO hA9 (v := .ref (h0 + 3)) rfl rfl (Nat.le_of_ble_eq_true rfl) dX1_init_65 (fun H17 locs hO hof hS => ?_)
  have hB := hB.off hlt hof
  clear hof
  refine lv_aload_n hx hb dX1_init_68 rfl (lv_at hl 2 rfl) ?_
  refine x_new (ci := 2) F hK in_J2 tyJ2 tyJ2_ok rfl (hts _ q113) (hts _ q114) (hts _ q60) df2 (Nat.le_of_ble_eq_true rfl) (Nat.le_of_ble_eq_true rfl) dX1_init_69 (fun H18 hat hz hg => ?_)
  have ez : Array.size H17 = h0 + 5 := hB.1
  have hS := hg.S hS
  have hO := hg.at hO
  have hB := hB.one hat hz hg
  refine x_topr ez ?_
  clear ez hat hz hg
  have hB : xBd G h0 [xA 6 4 (updV (updV (updV (updV (fun _ => .null) 0 (.ref (h0 + 2))) 1 (.ref (h0 + 2))) 2 (.ref (h0 + 2))) 3 (.ref (h0 + 2))), xA 0 4 (updV (updV (updV (updV (fun _ => .int 0) 0 (.int 1)) 1 (.int 1)) 2 (.int 1)) 3 (.int 1)), xO 1 [.ref a], xO 2 [.int 0, .ref (h0 + 4), .int 0], xA 5 6 (fun _ => .null), xO 2 [.int 0, .null, .int 0]] H18 := hB
  refine lv_dup hx hb dX1_init_72 rfl ?_
  refine lv_bipush (v := 10) hx hb dX1_init_73 (by decide) ?_
  have ez : Array.size H18 = h0 + 6 := hB.1
  refine xc_C0 (va_runI (As := [.int 10]) (rest := [.ref (h0 + 5), .ref a]) F (xJ2_init_10 g1 (A := A) (h0 + 5)) (xcI 1 hts q115 q116 q60 q117 rfl (by decide +kernel) ⟨Nat.le_of_ble_eq_true rfl, Nat.le_of_ble_eq_true rfl⟩) (xpre hWK hS ⟨(hB.2 5 _ rfl), (hAh (h0 + 5) (Nat.le_add_right _ _))⟩) rfl rfl hl.1 rfl (lv_room (Nat.le_of_ble_eq_true rfl)) dX1_init_75 ⟨Nat.le_of_ble_eq_true rfl, Nat.le_of_ble_eq_true rfl⟩) hS (fun H19 locs hR1 hz hk hS => ?_)
  obtain ⟨hea, hat, h9⟩ := hR1
  rw [ez] at hat
  have hO := h9.at hO (by omega)
  have hB := hB.call1 5 (show 5 < 6 from by decide) h9 hat hea
  clear hea hat h9 hz hk ez
  have hB : xBd G h0 [xA 6 4 (updV (updV (updV (updV (fun _ => .null) 0 (.ref (h0 + 2))) 1 (.ref (h0 + 2))) 2 (.ref (h0 + 2))) 3 (.ref (h0 + 2))), xA 0 4 (updV (updV (updV (updV (fun _ => .int 0) 0 (.int 1)) 1 (.int 1)) 2 (.int 1)) 3 (.int 1)), xO 1 [.ref a], xO 2 [.int 0, .ref (h0 + 4), .int 0], xA 5 6 (fun _ => .null), xO 2 [.int 0, .ref (h0 + 6), .int 0], xA 5 10 (fun _ => .null)] H19 := hB
  refine p_X1_33 F hini hK hS hO hA9 (v := .ref (h0 + 5)) rfl rfl (Nat.le_of_ble_eq_true rfl) dX1_init_78 (fun H20 locs hO hof hS => ?_)
  have hB := hB.off hlt hof
  clear hof
  refine lv_aload_n hx hb dX1_init_81 rfl (lv_at hl 2 rfl) ?_
  refine x_new (ci := 2) F hK in_J2 tyJ2 tyJ2_ok rfl (hts _ q113) (hts _ q114) (hts _ q60) df2 (Nat.le_of_ble_eq_true rfl) (Nat.le_of_ble_eq_true rfl) dX1_init_82 (fun H21 hat hz hg => ?_)
  have ez : Array.size H20 = h0 + 7 := hB.1
  have hS := hg.S hS
  have hO := hg.at hO
  have hB := hB.one hat hz hg
  refine x_topr ez ?_
  clear ez hat hz hg
  have hB : xBd G h0 [xA 6 4 (updV (updV (updV (updV (fun _ => .null) 0 (.ref (h0 + 2))) 1 (.ref (h0 + 2))) 2 (.ref (h0 + 2))) 3 (.ref (h0 + 2))), xA 0 4 (updV (updV (updV (updV (fun _ => .int 0) 0 (.int 1)) 1 (.int 1)) 2 (.int 1)) 3 (.int 1)), xO 1 [.ref a], xO 2 [.int 0, .ref (h0 + 4), .int 0], xA 5 6 (fun _ => .null), xO 2 [.int 0, .ref (h0 + 6), .int 0], xA 5 10 (fun _ => .null), xO 2 [.int 0, .null, .int 0]] H21 := hB
  refine lv_dup hx hb dX1_init_85 rfl ?_
  refine lv_sipush (v := 150) hx hb dX1_init_86 (by decide) ?_
  have ez : Array.size H21 = h0 + 8 := hB.1
  refine xc_C0 (va_runI (As := [.int 150]) (rest := [.ref (h0 + 7), .ref a]) F (xJ2_init_150 g1 (A := A) (h0 + 7)) (xcI 1 hts q115 q116 q60 q117 rfl (by decide +kernel) ⟨Nat.le_of_ble_eq_true rfl, Nat.le_of_ble_eq_true rfl⟩) (xpre hWK hS ⟨(hB.2 7 _ rfl), (hAh (h0 + 7) (Nat.le_add_right _ _))⟩) rfl rfl hl.1 rfl (lv_room (Nat.le_of_ble_eq_true rfl)) dX1_init_89 ⟨Nat.le_of_ble_eq_true rfl, Nat.le_of_ble_eq_true rfl⟩) hS (fun H22 locs hR1 hz hk hS => ?_)
  obtain ⟨hea, hat, h9⟩ := hR1
  rw [ez] at hat
  have hO := h9.at hO (by omega)
  have hB := hB.call1 7 (show 7 < 8 from by decide) h9 hat hea
  clear hea hat h9 hz hk ez
  have hB : xBd G h0 [xA 6 4 (updV (updV (updV (updV (fun _ => .null) 0 (.ref (h0 + 2))) 1 (.ref (h0 + 2))) 2 (.ref (h0 + 2))) 3 (.ref (h0 + 2))), xA 0 4 (updV (updV (updV (updV (fun _ => .int 0) 0 (.int 1)) 1 (.int 1)) 2 (.int 1)) 3 (.int 1)), xO 1 [.ref a], xO 2 [.int 0, .ref (h0 + 4), .int 0], xA 5 6 (fun _ => .null), xO 2 [.int 0, .ref (h0 + 6), .int 0], xA 5 10 (fun _ => .null), xO 2 [.int 0, .ref (h0 + 8), .int 0], xA 5 150 (fun _ => .null)] H22 := hB
  refine p_X1_36 F hini hK hS hO hA9 (v := .ref (h0 + 7)) rfl rfl (Nat.le_of_ble_eq_true rfl) dX1_init_92 (fun H23 locs hO hof hS => ?_)
  have hB := hB.off hlt hof
  clear hof
  refine lv_aload_n hx hb dX1_init_95 rfl (lv_at hl 2 rfl) ?_
  refine x_new (ci := 2) F hK in_J2 tyJ2 tyJ2_ok rfl (hts _ q113) (hts _ q114) (hts _ q60) df2 (Nat.le_of_ble_eq_true rfl) (Nat.le_of_ble_eq_true rfl) dX1_init_96 (fun H24 hat hz hg => ?_)
  have ez : Array.size H23 = h0 + 9 := hB.1
  have hS := hg.S hS
  have hO := hg.at hO
  have hB := hB.one hat hz hg
  refine x_topr ez ?_
  clear ez hat hz hg
  have hB : xBd G h0 [xA 6 4 (updV (updV (updV (updV (fun _ => .null) 0 (.ref (h0 + 2))) 1 (.ref (h0 + 2))) 2 (.ref (h0 + 2))) 3 (.ref (h0 + 2))), xA 0 4 (updV (updV (updV (updV (fun _ => .int 0) 0 (.int 1)) 1 (.int 1)) 2 (.int 1)) 3 (.int 1)), xO 1 [.ref a], xO 2 [.int 0, .ref (h0 + 4), .int 0], xA 5 6 (fun _ => .null), xO 2 [.int 0, .ref (h0 + 6), .int 0], xA 5 10 (fun _ => .null), xO 2 [.int 0, .ref (h0 + 8), .int 0], xA 5 150 (fun _ => .null), xO 2 [.int 0, .null, .int 0]] H24 := hB
  refine lv_dup hx hb dX1_init_99 rfl ?_
  refine lv_bipush (v := 30) hx hb dX1_init_100 (by decide) ?_
  have ez : Array.size H24 = h0 + 10 := hB.1
  refine xc_C0 (va_runI (As := [.int 30]) (rest := [.ref (h0 + 9), .ref a]) F (xJ2_init_30 g1 (A := A) (h0 + 9)) (xcI 1 hts q115 q116 q60 q117 rfl (by decide +kernel) ⟨Nat.le_of_ble_eq_true rfl, Nat.le_of_ble_eq_true rfl⟩) (xpre hWK hS ⟨(hB.2 9 _ rfl), (hAh (h0 + 9) (Nat.le_add_right _ _))⟩) rfl rfl hl.1 rfl (lv_room (Nat.le_of_ble_eq_true rfl)) dX1_init_102 ⟨Nat.le_of_ble_eq_true rfl, Nat.le_of_ble_eq_true rfl⟩) hS (fun H25 locs hR1 hz hk hS => ?_)
  obtain ⟨hea, hat, h9⟩ := hR1
  rw [ez] at hat
  have hO := h9.at hO (by omega)
  have hB := hB.call1 9 (show 9 < 10 from by decide) h9 hat hea
  clear hea hat h9 hz hk ez
  have hB : xBd G h0 [xA 6 4 (updV (updV (updV (updV (fun _ => .null) 0 (.ref (h0 + 2))) 1 (.ref (h0 + 2))) 2 (.ref (h0 + 2))) 3 (.ref (h0 + 2))), xA 0 4 (updV (updV (updV (updV (fun _ => .int 0) 0 (.int 1)) 1 (.int 1)) 2 (.int 1)) 3 (.int 1)), xO 1 [.ref a], xO 2 [.int 0, .ref (h0 + 4), .int 0], xA 5 6 (fun _ => .null), xO 2 [.int 0, .ref (h0 + 6), .int 0], xA 5 10 (fun _ => .null), xO 2 [.int 0, .ref (h0 + 8), .int 0], xA 5 150 (fun _ => .null), xO 2 [.int 0, .ref (h0 + 10), .int 0], xA 5 30 (fun _ => .null)] H25 := hB
  refine p_X1_39 F hini hK hS hO hA9 (v := .ref (h0 + 9)) rfl rfl (Nat.le_of_ble_eq_true rfl) dX1_init_105 (fun H26 locs hO hof hS => ?_)
  have hB := hB.off hlt hof
  clear hof
  refine lv_aload_n hx hb dX1_init_108 rfl (lv_at hl 2 rfl) ?_
  refine lv_iconst (v := 4) hx hb dX1_init_109 (by decide) ?_
  refine lv_iconst (v := 4) hx hb dX1_init_110 (by decide) ?_
  have ez : Array.size H26 = h0 + 11 := hB.1
  refine x_multi F hK (ty := .boolean) (t1 := 11) (t2 := 3) rfl rfl (hts _ q457) (xnO2 hWK g q458) (hts _ q480) (n := 4) (k := 4) (N := 4) (M := 4) (dv := .int 0) (by decide) (by decide) (by decide) (by decide) rfl (by decide) (by decide) (by decide) rfl rfl (Nat.le_of_ble_eq_true rfl) (Nat.le_of_ble_eq_true rfl) dX1_init_111 (fun H27 hz hg hat hin => ?_)
  have hS := hg.S hS
  have hO := hg.at hO
  have hB := hB.grid hz hg hat hin
  rw [ez] at hB
  refine x_topr ez ?_
  clear ez hat hz hg hin
  have hB : xBd G h0 [xA 6 4 (updV (updV (updV (updV (fun _ => .null) 0 (.ref (h0 + 2))) 1 (.ref (h0 + 2))) 2 (.ref (h0 + 2))) 3 (.ref (h0 + 2))), xA 0 4 (updV (updV (updV (updV (fun _ => .int 0) 0 (.int 1)) 1 (.int 1)) 2 (.int 1)) 3 (.int 1)), xO 1 [.ref a], xO 2 [.int 0, .ref (h0 + 4), .int 0], xA 5 6 (fun _ => .null), xO 2 [.int 0, .ref (h0 + 6), .int 0], xA 5 10 (fun _ => .null), xO 2 [.int 0, .ref (h0 + 8), .int 0], xA 5 150 (fun _ => .null), xO 2 [.int 0, .ref (h0 + 10), .int 0], xA 5 30 (fun _ => .null), xA 11 4 (fun j => .ref (h0 + 11 + 1 + j)), xA 3 4 (fun _ => .int 0), xA 3 4 (fun _ => .int 0), xA 3 4 (fun _ => .int 0), xA 3 4 (fun _ => .int 0)] H27 := hB
  refine p_X1_44 F hini hK hS hO hA9 (v := .ref (h0 + 11)) rfl rfl (Nat.le_of_ble_eq_true rfl) dX1_init_115 (fun H28 locs hO hof hS => ?_)
  have hB := hB.off hlt hof
  clear hof
  refine lv_aload_n hx hb dX1_init_118 rfl (lv_at hl 2 rfl) ?_
  refine lv_iconst (v := 3) hx hb dX1_init_119 (by decide) ?_
  refine x_newa hx hb hK (ty := .int) (t := 0) rfl rfl (hts _ q112) (n := 3) (dv := .int 0) (by decide) (by decide) rfl (by decide) (Nat.le_of_ble_eq_true rfl) (Nat.le_of_ble_eq_true rfl) dX1_init_120 (fun H29 hat hz hg => ?_)
  have ez : Array.size H28 = h0 + 16 := hB.1
  have hS := hg.S hS
  have hO := hg.at hO
  have hB := hB.one hat hz hg
  refine x_topr ez ?_
  clear ez hat hz hg
  have hB : xBd G h0 [xA 6 4 (updV (updV (updV (updV (fun _ => .null) 0 (.ref (h0 + 2))) 1 (.ref (h0 + 2))) 2 (.ref (h0 + 2))) 3 (.ref (h0 + 2))), xA 0 4 (updV (updV (updV (updV (fun _ => .int 0) 0 (.int 1)) 1 (.int 1)) 2 (.int 1)) 3 (.int 1)), xO 1 [.ref a], xO 2 [.int 0, .ref (h0 + 4), .int 0], xA 5 6 (fun _ => .null), xO 2 [.int 0, .ref (h0 + 6), .int 0], xA 5 10 (fun _ => .null), xO 2 [.int 0, .ref (h0 + 8), .int 0], xA 5 150 (fun _ => .null), xO 2 [.int 0, .ref (h0 + 10), .int 0], xA 5 30 (fun _ => .null), xA 11 4 (fun j => .ref (h0 + 11 + 1 + j)), xA 3 4 (fun _ => .int 0), xA 3 4 (fun _ => .int 0), xA 3 4 (fun _ => .int 0), xA 3 4 (fun _ => .int 0), xA 0 3 (fun _ => .int 0)] H29 := hB
  refine p_X1_47 F hini hK hS hO hA9 (v := .ref (h0 + 16)) rfl rfl (Nat.le_of_ble_eq_true rfl) dX1_init_122 (fun H30 locs hO hof hS => ?_)
  have hB := hB.off hlt hof
  clear hof
  refine lv_aload_n hx hb dX1_init_125 rfl (lv_at hl 2 rfl) ?_
  refine x_new (ci := 3) F hK in_X3 tyX3 tyX3_ok rfl (hts _ q459) (hts _ q460) (hts _ q77) df3 (Nat.le_of_ble_eq_true rfl) (Nat.le_of_ble_eq_true rfl) dX1_init_126 (fun H31 hat hz hg => ?_)
  have ez : Array.size H30 = h0 + 17 := hB.1
  have hS := hg.S hS
  have hO := hg.at hO
  have hB := hB.one hat hz hg
  refine x_topr ez ?_
  clear ez hat hz hg
  have hB : xBd G h0 [xA 6 4 (updV (updV (updV (updV (fun _ => .null) 0 (.ref (h0 + 2))) 1 (.ref (h0 + 2))) 2 (.ref (h0 + 2))) 3 (.ref (h0 + 2))), xA 0 4 (updV (updV (updV (updV (fun _ => .int 0) 0 (.int 1)) 1 (.int 1)) 2 (.int 1)) 3 (.int 1)), xO 1 [.ref a], xO 2 [.int 0, .ref (h0 + 4), .int 0], xA 5 6 (fun _ => .null), xO 2 [.int 0, .ref (h0 + 6), .int 0], xA 5 10 (fun _ => .null), xO 2 [.int 0, .ref (h0 + 8), .int 0], xA 5 150 (fun _ => .null), xO 2 [.int 0, .ref (h0 + 10), .int 0], xA 5 30 (fun _ => .null), xA 11 4 (fun j => .ref (h0 + 11 + 1 + j)), xA 3 4 (fun _ => .int 0), xA 3 4 (fun _ => .int 0), xA 3 4 (fun _ => .int 0), xA 3 4 (fun _ => .int 0), xA 0 3 (fun _ => .int 0), xO 3 [.null, .int 0, .int 0, .null]] H31 := hB
  refine lv_dup hx hb dX1_init_129 rfl ?_
  refine lv_aload_n hx hb dX1_init_130 rfl (lv_at hl 2 rfl) ?_
  have ez : Array.size H31 = h0 + 18 := hB.1
  refine xc_C0 (va_runIN (As := [.ref a]) (rest := [.ref (h0 + 17), .ref a]) F (xX3_init g1 (A := A) (h0 + 17) a) ⟨va_cnB 1 hts (lw_meth q463) rfl rfl rfl (xnMw hWK g q461) (hts _ q77) hdS_X3_init ⟨Nat.le_of_ble_eq_true rfl, Nat.le_of_ble_eq_true rfl⟩, rfl, hts _ q462⟩ (xpre hWK hS ⟨(hB.2 17 _ rfl), (hAh (h0 + 17) (Nat.le_add_right _ _))⟩) rfl rfl hl.1 rfl (lv_room (Nat.le_of_ble_eq_true rfl)) dX1_init_131 ⟨Nat.le_of_ble_eq_true rfl, Nat.le_of_ble_eq_true rfl⟩) hS (fun H32 locs hR1 hz hk hS => ?_)
  obtain ⟨hea, hat, h9⟩ := hR1
  rw [ez] at hat
  have hO := h9.at hO (by omega)
  have hB := hB.call1 17 (show 17 < 18 from by decide) h9 hat hea
  clear hea hat h9 hz hk ez
  have hB : xBd G h0 [xA 6 4 (updV (updV (updV (updV (fun _ => .null) 0 (.ref (h0 + 2))) 1 (.ref (h0 + 2))) 2 (.ref (h0 + 2))) 3 (.ref (h0 + 2))), xA 0 4 (updV (updV (updV (updV (fun _ => .int 0) 0 (.int 1)) 1 (.int 1)) 2 (.int 1)) 3 (.int 1)), xO 1 [.ref a], xO 2 [.int 0, .ref (h0 + 4), .int 0], xA 5 6 (fun _ => .null), xO 2 [.int 0, .ref (h0 + 6), .int 0], xA 5 10 (fun _ => .null), xO 2 [.int 0, .ref (h0 + 8), .int 0], xA 5 150 (fun _ => .null), xO 2 [.int 0, .ref (h0 + 10), .int 0], xA 5 30 (fun _ => .null), xA 11 4 (fun j => .ref (h0 + 11 + 1 + j)), xA 3 4 (fun _ => .int 0), xA 3 4 (fun _ => .int 0), xA 3 4 (fun _ => .int 0), xA 3 4 (fun _ => .int 0), xA 0 3 (fun _ => .int 0), xO 3 [.ref (h0 + 18), .int 0, .int 0, .ref a], xA 8 150 (fun _ => .null)] H32 := hB
  refine p_X1_53 F hini hK hS hO hA9 (v := .ref (h0 + 17)) rfl rfl (Nat.le_of_ble_eq_true rfl) dX1_init_134 (fun H33 locs hO hof hS => ?_)
  have hB := hB.off hlt hof
  clear hof
  refine lv_aload_n hx hb dX1_init_137 rfl (lv_at hl 2 rfl) ?_
  refine lv_iconst (v := 3) hx hb dX1_init_138 (by decide) ?_
  refine x_newq F hK (C := "Lendlathe$Check") (t := 7) rfl (hts _ q481) (xnO hWK g q482) (n := 3) (by decide) (by decide) (by decide) (Nat.le_of_ble_eq_true rfl) (Nat.le_of_ble_eq_true rfl) dX1_init_139 (fun H34 hat hz hg => ?_)
  have ez : Array.size H33 = h0 + 19 := hB.1
  have hS := hg.S hS
  have hO := hg.at hO
  have hB := hB.one hat hz hg
  refine x_topr ez ?_
  clear ez hat hz hg
  have hB : xBd G h0 [xA 6 4 (updV (updV (updV (updV (fun _ => .null) 0 (.ref (h0 + 2))) 1 (.ref (h0 + 2))) 2 (.ref (h0 + 2))) 3 (.ref (h0 + 2))), xA 0 4 (updV (updV (updV (updV (fun _ => .int 0) 0 (.int 1)) 1 (.int 1)) 2 (.int 1)) 3 (.int 1)), xO 1 [.ref a], xO 2 [.int 0, .ref (h0 + 4), .int 0], xA 5 6 (fun _ => .null), xO 2 [.int 0, .ref (h0 + 6), .int 0], xA 5 10 (fun _ => .null), xO 2 [.int 0, .ref (h0 + 8), .int 0], xA 5 150 (fun _ => .null), xO 2 [.int 0, .ref (h0 + 10), .int 0], xA 5 30 (fun _ => .null), xA 11 4 (fun j => .ref (h0 + 11 + 1 + j)), xA 3 4 (fun _ => .int 0), xA 3 4 (fun _ => .int 0), xA 3 4 (fun _ => .int 0), xA 3 4 (fun _ => .int 0), xA 0 3 (fun _ => .int 0), xO 3 [.ref (h0 + 18), .int 0, .int 0, .ref a], xA 8 150 (fun _ => .null), xA 7 3 (fun _ => .null)] H34 := hB
  refine lv_dup hx hb dX1_init_142 rfl ?_
  refine lv_iconst (v := 0) hx hb dX1_init_143 (by decide) ?_
  refine lv_aload_n hx hb dX1_init_144 rfl (lv_at hl 2 rfl) ?_
  have hs9 := xmk0 g1 hWK
  refine x_indy (vals := [.ref a]) (rest := [.int 0, .ref (h0 + 19), .ref (h0 + 19), .ref a]) hx hb hml B.named hs9.1 (xMk.cls (hs9.2 s.vm (State.WarmedH.refl s))) rfl rfl (xfit0 a) hl.1 (Nat.le_of_ble_eq_true rfl) (Nat.le_of_ble_eq_true rfl) (Nat.le_of_ble_eq_true rfl) dX1_init_145 (fun H35 hat hz hg => ?_)
  show W _ _ _ _ _ _ _ _ _ _ _ _ 21 398 _ _
  have hat : xat G (Array.size H34) (xR ({ cls := G.2.2.2 0, slots := [Value.ref a].toArray, vm := .none } : Cell)) H35 := hat
  have ez : Array.size H34 = h0 + 20 := hB.1
  have hS := hg.S hS
  have hO := hg.at hO
  have hB := hB.one hat hz hg
  refine x_topr ez ?_
  clear ez hat hz hg
  have hB : xBd G h0 [xA 6 4 (updV (updV (updV (updV (fun _ => .null) 0 (.ref (h0 + 2))) 1 (.ref (h0 + 2))) 2 (.ref (h0 + 2))) 3 (.ref (h0 + 2))), xA 0 4 (updV (updV (updV (updV (fun _ => .int 0) 0 (.int 1)) 1 (.int 1)) 2 (.int 1)) 3 (.int 1)), xO 1 [.ref a], xO 2 [.int 0, .ref (h0 + 4), .int 0], xA 5 6 (fun _ => .null), xO 2 [.int 0, .ref (h0 + 6), .int 0], xA 5 10 (fun _ => .null), xO 2 [.int 0, .ref (h0 + 8), .int 0], xA 5 150 (fun _ => .null), xO 2 [.int 0, .ref (h0 + 10), .int 0], xA 5 30 (fun _ => .null), xA 11 4 (fun j => .ref (h0 + 11 + 1 + j)), xA 3 4 (fun _ => .int 0), xA 3 4 (fun _ => .int 0), xA 3 4 (fun _ => .int 0), xA 3 4 (fun _ => .int 0), xA 0 3 (fun _ => .int 0), xO 3 [.ref (h0 + 18), .int 0, .int 0, .ref a], xA 8 150 (fun _ => .null), xA 7 3 (fun _ => .null), xR ({ cls := G.2.2.2 0, slots := [Value.ref a].toArray, vm := .none } : Cell)] H35 := hB
  obtain ⟨kc9, hk9, -⟩ := xMk.cls (hs9.2 s.vm (State.WarmedH.refl s))
  refine x_aastL hx hb hK hS (hB.2 19 _ rfl) (hAh (h0 + 19) (Nat.le_add_right _ _)) hs9.1 ⟨kc9, hk9⟩ rfl (⟨by unfold vp_in; decide, by decide⟩ : xi 0 0 3) (hB.2 20 _ rfl) rfl rfl dX1_init_150 (fun H36 locs hat hof hS => ?_)
  have hO := hof.at hO (by omega)
  have hB := hB.set 19 hof hat
  clear hat hof hs9 hk9
  have hB : xBd G h0 [xA 6 4 (updV (updV (updV (updV (fun _ => .null) 0 (.ref (h0 + 2))) 1 (.ref (h0 + 2))) 2 (.ref (h0 + 2))) 3 (.ref (h0 + 2))), xA 0 4 (updV (updV (updV (updV (fun _ => .int 0) 0 (.int 1)) 1 (.int 1)) 2 (.int 1)) 3 (.int 1)), xO 1 [.ref a], xO 2 [.int 0, .ref (h0 + 4), .int 0], xA 5 6 (fun _ => .null), xO 2 [.int 0, .ref (h0 + 6), .int 0], xA 5 10 (fun _ => .null), xO 2 [.int 0, .ref (h0 + 8), .int 0], xA 5 150 (fun _ => .null), xO 2 [.int 0, .ref (h0 + 10), .int 0], xA 5 30 (fun _ => .null), xA 11 4 (fun j => .ref (h0 + 11 + 1 + j)), xA 3 4 (fun _ => .int 0), xA 3 4 (fun _ => .int 0), xA 3 4 (fun _ => .int 0), xA 3 4 (fun _ => .int 0), xA 0 3 (fun _ => .int 0), xO 3 [.ref (h0 + 18), .int 0, .int 0, .ref a], xA 8 150 (fun _ => .null), xA 7 3 (updV (fun _ => .null) 0 (.ref (h0 + 20))), xR ({ cls := G.2.2.2 0, slots := [Value.ref a].toArray, vm := .none } : Cell)] H36 := hB
  refine lv_dup hx hb dX1_init_151 rfl ?_
  refine lv_iconst (v := 1) hx hb dX1_init_152 (by decide) ?_
  refine lv_aload_n hx hb dX1_init_153 rfl (lv_at hl 2 rfl) ?_
  have hs9 := xmk1 g1 hWK
  refine x_indy (vals := [.ref a]) (rest := [.int 1, .ref (h0 + 19), .ref (h0 + 19), .ref a]) hx hb hml B.named hs9.1 (xMk.cls (hs9.2 s.vm (State.WarmedH.refl s))) rfl rfl (xfit0 a) hl.1 (Nat.le_of_ble_eq_true rfl) (Nat.le_of_ble_eq_true rfl) (Nat.le_of_ble_eq_true rfl) dX1_init_154 (fun H37 hat hz hg => ?_)
  show W _ _ _ _ _ _ _ _ _ _ _ _ 22 399 _ _
  have hat : xat G (Array.size H36) (xR ({ cls := G.2.2.2 1, slots := [Value.ref a].toArray, vm := .none } : Cell)) H37 := hat
  have ez : Array.size H36 = h0 + 21 := hB.1
  have hS := hg.S hS
  have hO := hg.at hO
  have hB := hB.one hat hz hg
  refine x_topr ez ?_
  clear ez hat hz hg
  have hB : xBd G h0 [xA 6 4 (updV (updV (updV (updV (fun _ => .null) 0 (.ref (h0 + 2))) 1 (.ref (h0 + 2))) 2 (.ref (h0 + 2))) 3 (.ref (h0 + 2))), xA 0 4 (updV (updV (updV (updV (fun _ => .int 0) 0 (.int 1)) 1 (.int 1)) 2 (.int 1)) 3 (.int 1)), xO 1 [.ref a], xO 2 [.int 0, .ref (h0 + 4), .int 0], xA 5 6 (fun _ => .null), xO 2 [.int 0, .ref (h0 + 6), .int 0], xA 5 10 (fun _ => .null), xO 2 [.int 0, .ref (h0 + 8), .int 0], xA 5 150 (fun _ => .null), xO 2 [.int 0, .ref (h0 + 10), .int 0], xA 5 30 (fun _ => .null), xA 11 4 (fun j => .ref (h0 + 11 + 1 + j)), xA 3 4 (fun _ => .int 0), xA 3 4 (fun _ => .int 0), xA 3 4 (fun _ => .int 0), xA 3 4 (fun _ => .int 0), xA 0 3 (fun _ => .int 0), xO 3 [.ref (h0 + 18), .int 0, .int 0, .ref a], xA 8 150 (fun _ => .null), xA 7 3 (updV (fun _ => .null) 0 (.ref (h0 + 20))), xR ({ cls := G.2.2.2 0, slots := [Value.ref a].toArray, vm := .none } : Cell), xR ({ cls := G.2.2.2 1, slots := [Value.ref a].toArray, vm := .none } : Cell)] H37 := hB
  obtain ⟨kc9, hk9, -⟩ := xMk.cls (hs9.2 s.vm (State.WarmedH.refl s))
  refine x_aastL hx hb hK hS (hB.2 19 _ rfl) (hAh (h0 + 19) (Nat.le_add_right _ _)) hs9.1 ⟨kc9, hk9⟩ rfl (⟨by unfold vp_in; decide, by decide⟩ : xi 1 1 3) (hB.2 21 _ rfl) rfl rfl dX1_init_159 (fun H38 locs hat hof hS => ?_)
  have hO := hof.at hO (by omega)
  have hB := hB.set 19 hof hat
  clear hat hof hs9 hk9
  have hB : xBd G h0 [xA 6 4 (updV (updV (updV (updV (fun _ => .null) 0 (.ref (h0 + 2))) 1 (.ref (h0 + 2))) 2 (.ref (h0 + 2))) 3 (.ref (h0 + 2))), xA 0 4 (updV (updV (updV (updV (fun _ => .int 0) 0 (.int 1)) 1 (.int 1)) 2 (.int 1)) 3 (.int 1)), xO 1 [.ref a], xO 2 [.int 0, .ref (h0 + 4), .int 0], xA 5 6 (fun _ => .null), xO 2 [.int 0, .ref (h0 + 6), .int 0], xA 5 10 (fun _ => .null), xO 2 [.int 0, .ref (h0 + 8), .int 0], xA 5 150 (fun _ => .null), xO 2 [.int 0, .ref (h0 + 10), .int 0], xA 5 30 (fun _ => .null), xA 11 4 (fun j => .ref (h0 + 11 + 1 + j)), xA 3 4 (fun _ => .int 0), xA 3 4 (fun _ => .int 0), xA 3 4 (fun _ => .int 0), xA 3 4 (fun _ => .int 0), xA 0 3 (fun _ => .int 0), xO 3 [.ref (h0 + 18), .int 0, .int 0, .ref a], xA 8 150 (fun _ => .null), xA 7 3 (updV (updV (fun _ => .null) 0 (.ref (h0 + 20))) 1 (.ref (h0 + 21))), xR ({ cls := G.2.2.2 0, slots := [Value.ref a].toArray, vm := .none } : Cell), xR ({ cls := G.2.2.2 1, slots := [Value.ref a].toArray, vm := .none } : Cell)] H38 := hB
  refine lv_dup hx hb dX1_init_160 rfl ?_
  refine lv_iconst (v := 2) hx hb dX1_init_161 (by decide) ?_
  refine lv_aload_n hx hb dX1_init_162 rfl (lv_at hl 2 rfl) ?_
  have hs9 := xmk2 g1 hWK
  refine x_indy (vals := [.ref a]) (rest := [.int 2, .ref (h0 + 19), .ref (h0 + 19), .ref a]) hx hb hml B.named hs9.1 (xMk.cls (hs9.2 s.vm (State.WarmedH.refl s))) rfl rfl (xfit0 a) hl.1 (Nat.le_of_ble_eq_true rfl) (Nat.le_of_ble_eq_true rfl) (Nat.le_of_ble_eq_true rfl) dX1_init_163 (fun H39 hat hz hg => ?_)
  show W _ _ _ _ _ _ _ _ _ _ _ _ 23 400 _ _
  have hat : xat G (Array.size H38) (xR ({ cls := G.2.2.2 2, slots := [Value.ref a].toArray, vm := .none } : Cell)) H39 := hat
  have ez : Array.size H38 = h0 + 22 := hB.1
  have hS := hg.S hS
  have hO := hg.at hO
  have hB := hB.one hat hz hg
  refine x_topr ez ?_
  clear ez hat hz hg
  have hB : xBd G h0 [xA 6 4 (updV (updV (updV (updV (fun _ => .null) 0 (.ref (h0 + 2))) 1 (.ref (h0 + 2))) 2 (.ref (h0 + 2))) 3 (.ref (h0 + 2))), xA 0 4 (updV (updV (updV (updV (fun _ => .int 0) 0 (.int 1)) 1 (.int 1)) 2 (.int 1)) 3 (.int 1)), xO 1 [.ref a], xO 2 [.int 0, .ref (h0 + 4), .int 0], xA 5 6 (fun _ => .null), xO 2 [.int 0, .ref (h0 + 6), .int 0], xA 5 10 (fun _ => .null), xO 2 [.int 0, .ref (h0 + 8), .int 0], xA 5 150 (fun _ => .null), xO 2 [.int 0, .ref (h0 + 10), .int 0], xA 5 30 (fun _ => .null), xA 11 4 (fun j => .ref (h0 + 11 + 1 + j)), xA 3 4 (fun _ => .int 0), xA 3 4 (fun _ => .int 0), xA 3 4 (fun _ => .int 0), xA 3 4 (fun _ => .int 0), xA 0 3 (fun _ => .int 0), xO 3 [.ref (h0 + 18), .int 0, .int 0, .ref a], xA 8 150 (fun _ => .null), xA 7 3 (updV (updV (fun _ => .null) 0 (.ref (h0 + 20))) 1 (.ref (h0 + 21))), xR ({ cls := G.2.2.2 0, slots := [Value.ref a].toArray, vm := .none } : Cell), xR ({ cls := G.2.2.2 1, slots := [Value.ref a].toArray, vm := .none } : Cell), xR ({ cls := G.2.2.2 2, slots := [Value.ref a].toArray, vm := .none } : Cell)] H39 := hB
  obtain ⟨kc9, hk9, -⟩ := xMk.cls (hs9.2 s.vm (State.WarmedH.refl s))
  refine x_aastL hx hb hK hS (hB.2 19 _ rfl) (hAh (h0 + 19) (Nat.le_add_right _ _)) hs9.1 ⟨kc9, hk9⟩ rfl (⟨by unfold vp_in; decide, by decide⟩ : xi 2 2 3) (hB.2 22 _ rfl) rfl rfl dX1_init_168 (fun H40 locs hat hof hS => ?_)
  have hO := hof.at hO (by omega)
  have hB := hB.set 19 hof hat
  clear hat hof hs9 hk9
  have hB : xBd G h0 [xA 6 4 (updV (updV (updV (updV (fun _ => .null) 0 (.ref (h0 + 2))) 1 (.ref (h0 + 2))) 2 (.ref (h0 + 2))) 3 (.ref (h0 + 2))), xA 0 4 (updV (updV (updV (updV (fun _ => .int 0) 0 (.int 1)) 1 (.int 1)) 2 (.int 1)) 3 (.int 1)), xO 1 [.ref a], xO 2 [.int 0, .ref (h0 + 4), .int 0], xA 5 6 (fun _ => .null), xO 2 [.int 0, .ref (h0 + 6), .int 0], xA 5 10 (fun _ => .null), xO 2 [.int 0, .ref (h0 + 8), .int 0], xA 5 150 (fun _ => .null), xO 2 [.int 0, .ref (h0 + 10), .int 0], xA 5 30 (fun _ => .null), xA 11 4 (fun j => .ref (h0 + 11 + 1 + j)), xA 3 4 (fun _ => .int 0), xA 3 4 (fun _ => .int 0), xA 3 4 (fun _ => .int 0), xA 3 4 (fun _ => .int 0), xA 0 3 (fun _ => .int 0), xO 3 [.ref (h0 + 18), .int 0, .int 0, .ref a], xA 8 150 (fun _ => .null), xA 7 3 (updV (updV (updV (fun _ => .null) 0 (.ref (h0 + 20))) 1 (.ref (h0 + 21))) 2 (.ref (h0 + 22))), xR ({ cls := G.2.2.2 0, slots := [Value.ref a].toArray, vm := .none } : Cell), xR ({ cls := G.2.2.2 1, slots := [Value.ref a].toArray, vm := .none } : Cell), xR ({ cls := G.2.2.2 2, slots := [Value.ref a].toArray, vm := .none } : Cell)] H40 := hB
  refine p_X1_65 F hini hK hS hO hA9 (v := .ref (h0 + 19)) rfl rfl (Nat.le_of_ble_eq_true rfl) dX1_init_169 (fun H41 locs hO hof hS => ?_)
  have hB := hB.off hlt hof
  clear hof
  refine lv_aload_n hx hb dX1_init_172 rfl (lv_at hl 2 rfl) ?_
  refine lv_bipush (v := 20) hx hb dX1_init_173 (by decide) ?_
  refine lv_bipush (v := 10) hx hb dX1_init_175 (by decide) ?_
  have ez : Array.size H41 = h0 + 23 := hB.1
  refine x_multi F hK (ty := .int) (t1 := 10) (t2 := 0) rfl rfl (hts _ q603) (xnO2 hWK g q604) (hts _ q112) (n := 20) (k := 10) (N := 20) (M := 10) (dv := .int 0) (by decide) (by decide) (by decide) (by decide) rfl (by decide) (by decide) (by decide) rfl rfl (Nat.le_of_ble_eq_true rfl) (Nat.le_of_ble_eq_true rfl) dX1_init_177 (fun H42 hz hg hat hin => ?_)
  have hS := hg.S hS
  have hO := hg.at hO
  have hB := hB.grid hz hg hat hin
  rw [ez] at hB
  refine x_topr ez ?_
  clear ez hat hz hg hin
  have hB : xBd G h0 ([xA 6 4 (updV (updV (updV (updV (fun _ => .null) 0 (.ref (h0 + 2))) 1 (.ref (h0 + 2))) 2 (.ref (h0 + 2))) 3 (.ref (h0 + 2))), xA 0 4 (updV (updV (updV (updV (fun _ => .int 0) 0 (.int 1)) 1 (.int 1)) 2 (.int 1)) 3 (.int 1)), xO 1 [.ref a], xO 2 [.int 0, .ref (h0 + 4), .int 0], xA 5 6 (fun _ => .null), xO 2 [.int 0, .ref (h0 + 6), .int 0], xA 5 10 (fun _ => .null), xO 2 [.int 0, .ref (h0 + 8), .int 0], xA 5 150 (fun _ => .null), xO 2 [.int 0, .ref (h0 + 10), .int 0], xA 5 30 (fun _ => .null), xA 11 4 (fun j => .ref (h0 + 11 + 1 + j)), xA 3 4 (fun _ => .int 0), xA 3 4 (fun _ => .int 0), xA 3 4 (fun _ => .int 0), xA 3 4 (fun _ => .int 0), xA 0 3 (fun _ => .int 0), xO 3 [.ref (h0 + 18), .int 0, .int 0, .ref a], xA 8 150 (fun _ => .null), xA 7 3 (updV (updV (updV (fun _ => .null) 0 (.ref (h0 + 20))) 1 (.ref (h0 + 21))) 2 (.ref (h0 + 22))), xR ({ cls := G.2.2.2 0, slots := [Value.ref a].toArray, vm := .none } : Cell), xR ({ cls := G.2.2.2 1, slots := [Value.ref a].toArray, vm := .none } : Cell), xR ({ cls := G.2.2.2 2, slots := [Value.ref a].toArray, vm := .none } : Cell), xA 10 20 (fun j => .ref (h0 + 23 + 1 + j))] ++ List.replicate 20 (xA 0 10 (fun _ => .int 0))) H42 := hB
  refine p_X1_71 F hini hK hS hO hA9 (v := .ref (h0 + 23)) rfl rfl (Nat.le_of_ble_eq_true rfl) dX1_init_181 (fun H43 locs hO hof hS => ?_)
  have hB := hB.off hlt hof
  clear hof
  exact xr_Cv hx hb hr hlocks (xBuilt hO hA9 hlt hB hAh (fun k hk => by rcases (show k = 0 ∨ k = 1 ∨ k = 2 ∨ k = 3 by omega) with e | e | e | e <;> subst e <;> rfl) (fun k hk => by rcases (show k = 0 ∨ k = 1 ∨ k = 2 ∨ k = 3 by omega) with e | e | e | e <;> subst e <;> rfl) (fun k hk => by rcases (show k = 0 ∨ k = 1 ∨ k = 2 by omega) with e | e | e <;> subst e <;> rfl)) hS (Nat.le_of_ble_eq_true rfl) (Nat.le_of_ble_eq_true rfl) dX1_init_184

