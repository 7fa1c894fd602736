/-! contracts (printed by gen/mx6.py) -/
set_option maxRecDepth 100000
set_option maxHeartbeats 4000000 in
theorem xJ9_isLatin1 {l : Launch} {G : xG} {s0 : State} {b0 : Nat} (g1 : xG1 l G s0 b0) {A : Nat → Prop} {adK adV : Nat → Nat} (hvS : vk_S 1 [3] [[105, 109, 116]] adK adV (xOldA s0) s0 s0.heap) : Met l yJ9_isLatin1 (ws_ yJ9_isLatin1 cJ9_isLatin1 1 (some .boolean)) ({ frames := 0, cells := 0, slots := 0, locals := 0 } : Room) (xP s0 A [.ref (adK 0)] (fun H => True)) (xQp (some (.int (bI true)))) 0 0 (fun _ => False) := by
  refine Met.ofW (cc := cJ9_isLatin1) (maxL := 1) (ret := (some .boolean)) (by decide) rfl ?_
  intro p e s m args below meth c s₁ B hml hv
  obtain ⟨rfl, hWK, hR⟩ := hv
  have g := g1.1
  have hx := B.exec
  have hb := B.bytes
  have hr := B.returns
  have hts := atoms_spec (ws := ws_ yJ9_isLatin1 cJ9_isLatin1 1 (some .boolean)) B.pre
  have hts : ∀ w ∈ lw_all, w.before _ s = true := fun w h => hts w (List.mem_cons_of_mem _ h)
  have hown : s.vm.findClass "java/lang/String" = some m.cls := findClass_of_methodNamed B.named
  have hlocks := B.notSynchronized
  have hK := hWK.K g
  have F : CallFix p m c cJ9_isLatin1 1 s _ lw_all "java/lang/String" := ⟨hx, hb, hml, hown, hts⟩
  have hS : va_S A s.heap s.heap [] := va_S.rf
  have hl := lv_entry ([.ref (adK 0)]) (n := 1) (Nat.le_of_ble_eq_true rfl)
  rw [lg_entry_eq]
  generalize (lg_sl ([.ref (adK 0)]) ++ List.replicate (1 - (lg_sl ([.ref (adK 0)])).length) Slot.unset).toArray = ls at hl ⊢
  have hl : lv_has ls 1 [(0, .ref (adK 0))] := hl
  have hE := xSAt hWK hvS
  refine va_gets (C := "java/lang/String") hx hb (xVzAt hWK g1.2.2.2.2.2.2.1) hS hown (hts _ q292) (fun _ h => h) dJ9_isLatin1_0 ?_
  refine lv_if_eq (tgt := 17) hx hb dJ9_isLatin1_3 (by decide) (fun c_3 => (by first | exact absurd c_3 (by decide) | exact absurd (by decide) c_3)) (fun c_3 => ?_)
  refine lv_aload_n hx hb dJ9_isLatin1_6 rfl (lv_at hl 0 rfl) ?_
  refine vk_getf hx hb (hE.1 0 (by decide)).2.1 hS hown (hts _ q434) (fun _ h => h) dJ9_isLatin1_7 ?_
  refine lv_if_ne (tgt := 17) hx hb dJ9_isLatin1_10 (by decide) (fun c_10 => (by first | exact absurd c_10 (by decide) | exact absurd (by decide) c_10)) (fun c_10 => ?_)
  refine lv_iconst (v := 1) hx hb dJ9_isLatin1_13 (by decide) ?_
  refine lv_goto (tgt := 18) hx hb dJ9_isLatin1_14 (by decide) ?_
  exact xr_Pz hx hb hr hlocks ((bI_t rfl).symm) dJ9_isLatin1_18

set_option maxHeartbeats 4000000 in
theorem xJ9_checkIndex {l : Launch} {G : xG} {s0 : State} {b0 : Nat} (g1 : xG1 l G s0 b0) {A : Nat → Prop} (i n : Int32) (h0 : ¬ i < 0) (h1 : i < n) : Met l yJ9_checkIndex (ws_ yJ9_checkIndex cJ9_checkIndex 2 none) ({ frames := 1, cells := 0, slots := 0, locals := 22 } : Room) (xP s0 A [.int i, .int n] (fun H => True)) (xQp none) 0 0 (fun _ => False) := by
  refine Met.ofW (cc := cJ9_checkIndex) (maxL := 2) (ret := none) (by decide) rfl ?_
  intro p e s m args below meth c s₁ B hml hv
  obtain ⟨rfl, hWK, hR⟩ := hv
  have g := g1.1
  have hx := B.exec
  have hb := B.bytes
  have hr := B.returns
  have hts := atoms_spec (ws := ws_ yJ9_checkIndex cJ9_checkIndex 2 none) B.pre
  have hts : ∀ w ∈ lw_all, w.before _ s = true := fun w h => hts w (List.mem_cons_of_mem _ h)
  have hown : s.vm.findClass "java/lang/String" = some m.cls := findClass_of_methodNamed B.named
  have hlocks := B.notSynchronized
  have hK := hWK.K g
  have F : CallFix p m c cJ9_checkIndex 2 s _ lw_all "java/lang/String" := ⟨hx, hb, hml, hown, hts⟩
  have hS : va_S A s.heap s.heap [] := va_S.rf
  have hl := lv_entry ([.int i, .int n]) (n := 2) (Nat.le_of_ble_eq_true rfl)
  rw [lg_entry_eq]
  generalize (lg_sl ([.int i, .int n]) ++ List.replicate (2 - (lg_sl ([.int i, .int n])).length) Slot.unset).toArray = ls at hl ⊢
  have hl : lv_has ls 2 [(0, .int i), (1, .int n)] := hl
  refine lv_iload_n hx hb dJ9_checkIndex_0 rfl (lv_at hl 0 rfl) ?_
  refine lv_iload_n hx hb dJ9_checkIndex_1 rfl (lv_at hl 1 rfl) ?_
  rcases xVqAt hWK g1.2.2.2.2.2.2.2 with hz9 | ⟨q, hz9⟩
  · refine va_gets (C := "jdk/internal/util/Preconditions") hx hb hz9 hS hown (hts _ q270) (fun _ h => h) dJ9_checkIndex_2 ?_
    refine xc_P (va_runS (As := [.int i, .int n, .null]) (rest := []) F (xJ14_null g1 (A := A) i n (by first | assumption | omega) (by first | assumption | omega)) (va_cwS 3 hts (lw_S q701 q494 q73 q495) rfl rfl rfl hdS_J14_checkIndex ⟨Nat.le_of_ble_eq_true rfl, Nat.le_of_ble_eq_true rfl⟩) (xpre hWK hS trivial) rfl rfl hl.1 rfl (lv_room (Nat.le_of_ble_eq_true rfl)) dJ9_checkIndex_5 ⟨Nat.le_of_ble_eq_true rfl, Nat.le_of_ble_eq_true rfl⟩) ?_
    refine lv_pop hx hb dJ9_checkIndex_8 rfl ?_
    exact xr_Pv hx hb hr hlocks dJ9_checkIndex_9
  · refine va_gets (C := "jdk/internal/util/Preconditions") hx hb hz9 hS hown (hts _ q270) (fun _ h => h) dJ9_checkIndex_2 ?_
    refine xc_P (va_runS (As := [.int i, .int n, .ref q]) (rest := []) F (xJ14_ref g1 (A := A) i n q (by first | assumption | omega) (by first | assumption | omega)) (va_cwS 3 hts (lw_S q701 q494 q73 q495) rfl rfl rfl hdS_J14_checkIndex ⟨Nat.le_of_ble_eq_true rfl, Nat.le_of_ble_eq_true rfl⟩) (xpre hWK hS trivial) rfl rfl hl.1 rfl (lv_room (Nat.le_of_ble_eq_true rfl)) dJ9_checkIndex_5 ⟨Nat.le_of_ble_eq_true rfl, Nat.le_of_ble_eq_true rfl⟩) ?_
    refine lv_pop hx hb dJ9_checkIndex_8 rfl ?_
    exact xr_Pv hx hb hr hlocks dJ9_checkIndex_9

set_option maxHeartbeats 4000000 in
theorem xJ15_charAt {l : Launch} {G : xG} {s0 : State} {b0 : Nat} (g1 : xG1 l G s0 b0) {A : Nat → Prop} {adK adV : Nat → Nat} (k : Nat) (hk : k < 3) (hvS : vk_S 1 [3] [[105, 109, 116]] adK adV (xOldA s0) s0 s0.heap) : Met l yJ15_charAt (ws_ yJ15_charAt cJ15_charAt 2 (some .char)) ({ frames := 2, cells := 0, slots := 0, locals := 43 } : Room) (xP s0 A [.ref (adV 0), .int (nI k)] (fun H => True)) (xQp (some (.int (xchr k)))) 0 0 (fun _ => False) := by
  refine Met.ofW (cc := cJ15_charAt) (maxL := 2) (ret := (some .char)) (by decide) rfl ?_
  intro p e s m args below meth c s₁ B hml hv
  obtain ⟨rfl, hWK, hR⟩ := hv
  have g := g1.1
  have hx := B.exec
  have hb := B.bytes
  have hr := B.returns
  have hts := atoms_spec (ws := ws_ yJ15_charAt cJ15_charAt 2 (some .char)) B.pre
  have hts : ∀ w ∈ lw_all, w.before _ s = true := fun w h => hts w (List.mem_cons_of_mem _ h)
  have hown : s.vm.findClass "java/lang/StringLatin1" = some m.cls := findClass_of_methodNamed B.named
  have hlocks := B.notSynchronized
  have hK := hWK.K g
  have F : CallFix p m c cJ15_charAt 2 s _ lw_all "java/lang/StringLatin1" := ⟨hx, hb, hml, hown, hts⟩
  have hS : va_S A s.heap s.heap [] := va_S.rf
  have hl := lv_entry ([.ref (adV 0), .int (nI k)]) (n := 2) (Nat.le_of_ble_eq_true rfl)
  rw [lg_entry_eq]
  generalize (lg_sl ([.ref (adV 0), .int (nI k)]) ++ List.replicate (2 - (lg_sl ([.ref (adV 0), .int (nI k)])).length) Slot.unset).toArray = ls at hl ⊢
  have hl : lv_has ls 2 [(0, .ref (adV 0)), (1, .int (nI k))] := hl
  have hE := xSAt hWK hvS
  have hT := (hE.1 0 (by decide)).2.2.2
  refine lv_iload_n hx hb dJ15_charAt_0 rfl (lv_at hl 1 rfl) ?_
  refine lv_aload_n hx hb dJ15_charAt_1 rfl (lv_at hl 0 rfl) ?_
  refine va_tlen hx hb hT hS (v := 3) (by decide) dJ15_charAt_2 ?_
  refine xc_P0 (va_runS (As := [.int (nI k), .int 3]) (rest := []) F (xJ9_checkIndex g1 (A := A) (nI k) 3 (nI_pos (by omega)) ((nI_ltI (b := 3) (by omega) (by omega)).mpr hk)) (va_cwS 2 hts (lw_S q698 q699 q67 q700) rfl rfl rfl hdS_J9_checkIndex ⟨Nat.le_of_ble_eq_true rfl, Nat.le_of_ble_eq_true rfl⟩) (xpre hWK hS trivial) rfl rfl hl.1 rfl (lv_room (Nat.le_of_ble_eq_true rfl)) dJ15_charAt_3 ⟨Nat.le_of_ble_eq_true rfl, Nat.le_of_ble_eq_true rfl⟩) ?_
  refine lv_aload_n hx hb dJ15_charAt_6 rfl (lv_at hl 0 rfl) ?_
  refine lv_iload_n hx hb dJ15_charAt_7 rfl (lv_at hl 1 rfl) ?_
  refine va_tb hx hb hT hS (show vp_in (nI k) 3 from vp_in_nI hk (by omega)) (v := .int (xchr k)) (by rw [nI_clamp (by omega)]; rfl) dJ15_charAt_8 ?_
  refine lv_sipush (v := 255) hx hb dJ15_charAt_9 (by decide) ?_
  refine lv_iand hx hb dJ15_charAt_12 ?_
  refine x_topi (xchr_and hk) ?_
  refine lv_i2c hx hb dJ15_charAt_13 (xchr_c hk) ?_
  exact xr_Pc hx hb hr hlocks (rfl) (xchr_nar hk) dJ15_charAt_14

set_option maxHeartbeats 4000000 in
theorem xJ9_charAt {l : Launch} {G : xG} {s0 : State} {b0 : Nat} (g1 : xG1 l G s0 b0) {A : Nat → Prop} {adK adV : Nat → Nat} (k : Nat) (hk : k < 3) (hvS : vk_S 1 [3] [[105, 109, 116]] adK adV (xOldA s0) s0 s0.heap) : Met l yJ9_charAt (ws_ yJ9_charAt cJ9_charAt 2 (some .char)) ({ frames := 3, cells := 0, slots := 0, locals := 64 } : Room) (xP s0 A [.ref (adK 0), .int (nI k)] (fun H => True)) (xQp (some (.int (xchr k)))) 0 0 (fun _ => False) := by
  refine Met.ofW (cc := cJ9_charAt) (maxL := 2) (ret := (some .char)) (by decide) rfl ?_
  intro p e s m args below meth c s₁ B hml hv
  obtain ⟨rfl, hWK, hR⟩ := hv
  have g := g1.1
  have hx := B.exec
  have hb := B.bytes
  have hr := B.returns
  have hts := atoms_spec (ws := ws_ yJ9_charAt cJ9_charAt 2 (some .char)) B.pre
  have hts : ∀ w ∈ lw_all, w.before _ s = true := fun w h => hts w (List.mem_cons_of_mem _ h)
  have hown : s.vm.findClass "java/lang/String" = some m.cls := findClass_of_methodNamed B.named
  have hlocks := B.notSynchronized
  have hK := hWK.K g
  have F : CallFix p m c cJ9_charAt 2 s _ lw_all "java/lang/String" := ⟨hx, hb, hml, hown, hts⟩
  have hS : va_S A s.heap s.heap [] := va_S.rf
  have hl := lv_entry ([.ref (adK 0), .int (nI k)]) (n := 2) (Nat.le_of_ble_eq_true rfl)
  rw [lg_entry_eq]
  generalize (lg_sl ([.ref (adK 0), .int (nI k)]) ++ List.replicate (2 - (lg_sl ([.ref (adK 0), .int (nI k)])).length) Slot.unset).toArray = ls at hl ⊢
  have hl : lv_has ls 2 [(0, .ref (adK 0)), (1, .int (nI k))] := hl
  have hE := xSAt hWK hvS
  refine lv_aload_n hx hb dJ9_charAt_0 rfl (lv_at hl 0 rfl) ?_
  refine xc_P (va_runV (As := []) (rest := []) F (xJ9_isLatin1 g1 (A := A) hvS) (cwV 0 hts (lw_V q691 q692 q693 q67 q694) rfl rfl rfl hdV_J9_isLatin1 ⟨Nat.le_of_ble_eq_true rfl, Nat.le_of_ble_eq_true rfl⟩) (xpreV (vk_recv hE (i := 0) (by decide) hS) hWK hS trivial) rfl rfl hl.1 rfl (lv_room (Nat.le_of_ble_eq_true rfl)) dJ9_charAt_1 ⟨Nat.le_of_ble_eq_true rfl, Nat.le_of_ble_eq_true rfl⟩) ?_
  refine x_topi (show bI true = 1 from rfl) ?_
  refine lv_if_eq (tgt := 16) hx hb dJ9_charAt_4 (by decide) (fun c_4 => (by first | exact absurd c_4 (by decide) | exact absurd (by decide) c_4)) (fun c_4 => ?_)
  refine lv_aload_n hx hb dJ9_charAt_7 rfl (lv_at hl 0 rfl) ?_
  refine vk_getf hx hb (hE.1 0 (by decide)).2.2.1 hS hown (hts _ q433) (fun _ h => h) dJ9_charAt_8 ?_
  refine lv_iload_n hx hb dJ9_charAt_11 rfl (lv_at hl 1 rfl) ?_
  refine xc_P (va_runS (As := [.ref (adV 0), .int (nI k)]) (rest := []) F (xJ15_charAt g1 (A := A) k hk hvS) (va_cwS 2 hts (lw_S q695 q696 q74 q697) rfl rfl rfl hdS_J15_charAt ⟨Nat.le_of_ble_eq_true rfl, Nat.le_of_ble_eq_true rfl⟩) (xpre hWK hS trivial) rfl rfl hl.1 rfl (lv_room (Nat.le_of_ble_eq_true rfl)) dJ9_charAt_12 ⟨Nat.le_of_ble_eq_true rfl, Nat.le_of_ble_eq_true rfl⟩) ?_
  exact xr_Pc hx hb hr hlocks (rfl) (xchr_nar hk) dJ9_charAt_15

set_option maxHeartbeats 4000000 in
theorem xX1_checks {l : Launch} {G : xG} {s0 : State} {b0 : Nat} (g1 : xG1 l G s0 b0) {A : Nat → Prop} {S : xS} {ad : Nat × Nat → Nat} {z : xZ} (on start minutes work : Int32) {member : Int32} {mi : Nat} (h_member : xi member mi (S.1 1 0)) {machine : Int32} {mac : Nat} (h_machine : xi machine mac (S.1 0 0)) (hW : xW S) (hA : ∃ rk, rkOK S.2.1 rk ∧ ∀ i, rk i < 4) : Met l yX1_checks (ws_ yX1_checks cX1_checks 8 (some .char)) ({ frames := 7, cells := 0, slots := 0, locals := 211 } : Room) (xP s0 A [.ref (ad (0, 0)), .int member, .int machine, .int on, .int start, .int minutes, .int work] (fun H => xRX G A S ad z H)) (xQc (some (.int (xLet S member machine on start minutes work))) (fun _ H => ∃ z9, xRX G A S ad z9 H) A) 0 0 A := by
  refine Met.ofW (cc := cX1_checks) (maxL := 8) (ret := (some .char)) (by decide) rfl ?_
  intro p e s m args below meth c s₁ B hml hv
  obtain ⟨rfl, hWK, hR⟩ := hv
  have g := g1.1
  have hx := B.exec
  have hb := B.bytes
  have hr := B.returns
  have hts := atoms_spec (ws := ws_ yX1_checks cX1_checks 8 (some .char)) B.pre
  have hts : ∀ w ∈ lw_all, w.before _ s = true := fun w h => hts w (List.mem_cons_of_mem _ h)
  have hown : s.vm.findClass "Lendlathe" = some m.cls := findClass_of_methodNamed B.named
  have hlocks := B.notSynchronized
  have hK := hWK.K g
  have F : CallFix p m c cX1_checks 8 s _ lw_all "Lendlathe" := ⟨hx, hb, hml, hown, hts⟩
  have hS : va_S A s.heap s.heap [] := va_S.rf
  have hl := lv_entry ([.ref (ad (0, 0)), .int member, .int machine, .int on, .int start, .int minutes, .int work]) (n := 8) (Nat.le_of_ble_eq_true rfl)
  rw [lg_entry_eq]
  generalize (lg_sl ([.ref (ad (0, 0)), .int member, .int machine, .int on, .int start, .int minutes, .int work]) ++ List.replicate (8 - (lg_sl ([.ref (ad (0, 0)), .int member, .int machine, .int on, .int start, .int minutes, .int work])).length) Slot.unset).toArray = ls at hl ⊢
  have hl : lv_has ls 8 [(0, .ref (ad (0, 0))), (1, .int member), (2, .int machine), (3, .int on), (4, .int start), (5, .int minutes), (6, .int work)] := hl
  obtain ⟨adK, adV, hvS, hvR⟩ := g1.2.2.2.1
  refine lv_iconst (v := 0) hx hb dX1_checks_0 (by decide) ?_
  refine lv_istore (lv' := [(7, .int 0), (0, .ref (ad (0, 0))), (1, .int member), (2, .int machine), (3, .int on), (4, .int start), (5, .int minutes), (6, .int work)]) hx hb dX1_checks_1 hl (by decide) rfl (fun ls hl => ?_)
  refine lv_iload hx hb dX1_checks_3 (lv_at hl 0 rfl) ?_
  refine lv_aload_n hx hb dX1_checks_5 rfl (lv_at hl 1 rfl) ?_
  refine g_X1_65 F hK (xw_0 hR) (v := .ref (ad (11, 0))) rfl dX1_checks_6 ?_
  refine x_alen hx hb hK (xw_11 hR) rfl (v := 3) (by decide) dX1_checks_9 ?_
  refine lv_icmp_ge (tgt := 51) hx hb dX1_checks_10 (by decide) (fun c_10 => (by first | exact absurd c_10 (by decide) | exact absurd (by decide) c_10)) (fun c_10 => ?_)
  refine lv_aload_n hx hb dX1_checks_13 rfl (lv_at hl 1 rfl) ?_
  refine g_X1_65 F hK (xw_0 hR) (v := .ref (ad (11, 0))) rfl dX1_checks_14 ?_
  refine lv_iload hx hb dX1_checks_17 (lv_at hl 0 rfl) ?_
  refine x_aald hx hb hK (xw_11 hR) rfl rfl (v := .ref (ad (12, 0))) (⟨by unfold vp_in; decide, by decide⟩ : xi 0 0 3) (rfl) dX1_checks_19 ?_
  refine lv_iload_n hx hb dX1_checks_20 rfl (lv_at hl 2 rfl) ?_
  refine lv_iload_n hx hb dX1_checks_21 rfl (lv_at hl 3 rfl) ?_
  refine lv_iload_n hx hb dX1_checks_22 rfl (lv_at hl 4 rfl) ?_
  refine lv_iload hx hb dX1_checks_23 (lv_at hl 5 rfl) ?_
  refine lv_iload hx hb dX1_checks_25 (lv_at hl 6 rfl) ?_
  refine lv_iload hx hb dX1_checks_27 (lv_at hl 7 rfl) ?_
  refine xc5_C (x_checkC (i := 0) (tn := "lacksInduction") g1 hWK F hS hR (by decide) (xmk0 g1 hWK) (Met.PC (xX1_lacksInduction g1 (A := A) (S := S) (ad := ad) (z := z) on start minutes work h_member h_machine hW hA)) (lw_meth q485) rfl q484 qs1 rfl rfl q683 hl.1 (by decide) (Nat.le_of_ble_eq_true rfl) (Nat.le_of_ble_eq_true rfl) ⟨Nat.le_of_ble_eq_true rfl, Nat.le_of_ble_eq_true rfl⟩ dX1_checks_29) hS (fun H locs hP9 hz hk hS => ?_)
  rw [← hP9] at hR
  refine x_ifeq (tgt := 45) hx hb dX1_checks_34 (by decide) (fun c_34 => ?_) (fun c_34 => ?_)
  · have d_0 := c_34
    refine lv_iinc (v := 1) (lv' := [(7, .int 1), (0, .ref (ad (0, 0))), (1, .int member), (2, .int machine), (3, .int on), (4, .int start), (5, .int minutes), (6, .int work)]) hx hb dX1_checks_45 hl (k := 0) rfl (by decide) (by decide) rfl (fun ls hl => ?_)
    refine lv_goto (tgt := 3) hx hb dX1_checks_48 (by decide) ?_
    refine lv_iload hx hb dX1_checks_3 (lv_at hl 0 rfl) ?_
    refine lv_aload_n hx hb dX1_checks_5 rfl (lv_at hl 1 rfl) ?_
    refine g_X1_65 F hK (xw_0 hR) (v := .ref (ad (11, 0))) rfl dX1_checks_6 ?_
    refine x_alen hx hb hK (xw_11 hR) rfl (v := 3) (by decide) dX1_checks_9 ?_
    refine lv_icmp_ge (tgt := 51) hx hb dX1_checks_10 (by decide) (fun c_10 => (by first | exact absurd c_10 (by decide) | exact absurd (by decide) c_10)) (fun c_10 => ?_)
    refine lv_aload_n hx hb dX1_checks_13 rfl (lv_at hl 1 rfl) ?_
    refine g_X1_65 F hK (xw_0 hR) (v := .ref (ad (11, 0))) rfl dX1_checks_14 ?_
    refine lv_iload hx hb dX1_checks_17 (lv_at hl 0 rfl) ?_
    refine x_aald hx hb hK (xw_11 hR) rfl rfl (v := .ref (ad (12, 1))) (⟨by unfold vp_in; decide, by decide⟩ : xi 1 1 3) (rfl) dX1_checks_19 ?_
    refine lv_iload_n hx hb dX1_checks_20 rfl (lv_at hl 2 rfl) ?_
    refine lv_iload_n hx hb dX1_checks_21 rfl (lv_at hl 3 rfl) ?_
    refine lv_iload_n hx hb dX1_checks_22 rfl (lv_at hl 4 rfl) ?_
    refine lv_iload hx hb dX1_checks_23 (lv_at hl 5 rfl) ?_
    refine lv_iload hx hb dX1_checks_25 (lv_at hl 6 rfl) ?_
    refine lv_iload hx hb dX1_checks_27 (lv_at hl 7 rfl) ?_
    refine xc5_C (x_checkC (i := 1) (tn := "isElsewhere") g1 hWK F hS hR (by decide) (xmk1 g1 hWK) (Met.PC (xX1_isElsewhere g1 (A := A) (S := S) (ad := ad) (z := z) member machine on start minutes work hW)) (lw_meth q509) rfl q508 qs2 rfl rfl q683 hl.1 (by decide) (Nat.le_of_ble_eq_true rfl) (Nat.le_of_ble_eq_true rfl) ⟨Nat.le_of_ble_eq_true rfl, Nat.le_of_ble_eq_true rfl⟩ dX1_checks_29) hS (fun H locs hP9 hz hk hS => ?_)
    rw [← hP9] at hR
    refine x_ifeq (tgt := 45) hx hb dX1_checks_34 (by decide) (fun c_34 => ?_) (fun c_34 => ?_)
    · have d_1 := c_34
      refine lv_iinc (v := 2) (lv' := [(7, .int 2), (0, .ref (ad (0, 0))), (1, .int member), (2, .int machine), (3, .int on), (4, .int start), (5, .int minutes), (6, .int work)]) hx hb dX1_checks_45 hl (k := 0) rfl (by decide) (by decide) rfl (fun ls hl => ?_)
      refine lv_goto (tgt := 3) hx hb dX1_checks_48 (by decide) ?_
      refine lv_iload hx hb dX1_checks_3 (lv_at hl 0 rfl) ?_
      refine lv_aload_n hx hb dX1_checks_5 rfl (lv_at hl 1 rfl) ?_
      refine g_X1_65 F hK (xw_0 hR) (v := .ref (ad (11, 0))) rfl dX1_checks_6 ?_
      refine x_alen hx hb hK (xw_11 hR) rfl (v := 3) (by decide) dX1_checks_9 ?_
      refine lv_icmp_ge (tgt := 51) hx hb dX1_checks_10 (by decide) (fun c_10 => (by first | exact absurd c_10 (by decide) | exact absurd (by decide) c_10)) (fun c_10 => ?_)
      refine lv_aload_n hx hb dX1_checks_13 rfl (lv_at hl 1 rfl) ?_
      refine g_X1_65 F hK (xw_0 hR) (v := .ref (ad (11, 0))) rfl dX1_checks_14 ?_
      refine lv_iload hx hb dX1_checks_17 (lv_at hl 0 rfl) ?_
      refine x_aald hx hb hK (xw_11 hR) rfl rfl (v := .ref (ad (12, 2))) (⟨by unfold vp_in; decide, by decide⟩ : xi 2 2 3) (rfl) dX1_checks_19 ?_
      refine lv_iload_n hx hb dX1_checks_20 rfl (lv_at hl 2 rfl) ?_
      refine lv_iload_n hx hb dX1_checks_21 rfl (lv_at hl 3 rfl) ?_
      refine lv_iload_n hx hb dX1_checks_22 rfl (lv_at hl 4 rfl) ?_
      refine lv_iload hx hb dX1_checks_23 (lv_at hl 5 rfl) ?_
      refine lv_iload hx hb dX1_checks_25 (lv_at hl 6 rfl) ?_
      refine lv_iload hx hb dX1_checks_27 (lv_at hl 7 rfl) ?_
      refine xc5_C (x_checkC (i := 2) (tn := "isBusy") g1 hWK F hS hR (by decide) (xmk2 g1 hWK) (xX1_isBusy g1 (A := A) (S := S) (ad := ad) (z := z) member on start minutes work h_machine hW) (lw_meth q528) rfl q527 qs3 rfl rfl q683 hl.1 (by decide) (Nat.le_of_ble_eq_true rfl) (Nat.le_of_ble_eq_true rfl) ⟨Nat.le_of_ble_eq_true rfl, Nat.le_of_ble_eq_true rfl⟩ dX1_checks_29) hS (fun H locs hP9 hz hk hS => ?_)
      obtain ⟨z_29, hR⟩ := hP9
      refine x_ifeq (tgt := 45) hx hb dX1_checks_34 (by decide) (fun c_34 => ?_) (fun c_34 => ?_)
      · have d_2 := c_34
        refine lv_iinc (v := 3) (lv' := [(7, .int 3), (0, .ref (ad (0, 0))), (1, .int member), (2, .int machine), (3, .int on), (4, .int start), (5, .int minutes), (6, .int work)]) hx hb dX1_checks_45 hl (k := 0) rfl (by decide) (by decide) rfl (fun ls hl => ?_)
        refine lv_goto (tgt := 3) hx hb dX1_checks_48 (by decide) ?_
        refine lv_iload hx hb dX1_checks_3 (lv_at hl 0 rfl) ?_
        refine lv_aload_n hx hb dX1_checks_5 rfl (lv_at hl 1 rfl) ?_
        refine g_X1_65 F hK (xw_0 hR) (v := .ref (ad (11, 0))) rfl dX1_checks_6 ?_
        refine x_alen hx hb hK (xw_11 hR) rfl (v := 3) (by decide) dX1_checks_9 ?_
        refine lv_icmp_ge (tgt := 51) hx hb dX1_checks_10 (by decide) (fun c_10 => ?_) (fun c_10 => (by first | exact absurd c_10 (by decide) | exact absurd (by decide) c_10))
        refine lv_bipush (v := 111) hx hb dX1_checks_51 (by decide) ?_
        exact xr_Cc hx hb hr hlocks ((by simp [xLet, h_member.2, h_machine.2, d_0, d_1, d_2])) (⟨_, hR⟩) hS (by first | omega | decide) (by first | omega | decide) xLet_nar dX1_checks_53
      · refine va_ldcS hx hb hown (vk_R.warm hWK.1 hvR) dX1_checks_37 ?_
        refine lv_iload hx hb dX1_checks_39 (lv_at hl 0 rfl) ?_
        refine xc_P (va_runV (As := [.int 2]) (rest := []) F (xJ9_charAt g1 (A := A) 2 (by decide) hvS) (cwV 1 hts (lw_V q687 q688 q689 q67 q690) rfl rfl rfl hdV_J9_charAt ⟨Nat.le_of_ble_eq_true rfl, Nat.le_of_ble_eq_true rfl⟩) (xpreV (vk_recv (xSAt hWK hvS) (i := 0) (by decide) hS) hWK hS trivial) rfl rfl hl.1 rfl (lv_room (Nat.le_of_ble_eq_true rfl)) dX1_checks_41 ⟨Nat.le_of_ble_eq_true rfl, Nat.le_of_ble_eq_true rfl⟩) ?_
        refine x_topi (show xchr 2 = 116 from rfl) ?_
        exact xr_Cc hx hb hr hlocks ((by simp [xLet, h_member.2, h_machine.2, d_0, d_1, c_34])) (⟨_, hR⟩) hS (by first | omega | decide) (by first | omega | decide) xLet_nar dX1_checks_44
    · refine va_ldcS hx hb hown (vk_R.warm hWK.1 hvR) dX1_checks_37 ?_
      refine lv_iload hx hb dX1_checks_39 (lv_at hl 0 rfl) ?_
      refine xc_P (va_runV (As := [.int 1]) (rest := []) F (xJ9_charAt g1 (A := A) 1 (by decide) hvS) (cwV 1 hts (lw_V q687 q688 q689 q67 q690) rfl rfl rfl hdV_J9_charAt ⟨Nat.le_of_ble_eq_true rfl, Nat.le_of_ble_eq_true rfl⟩) (xpreV (vk_recv (xSAt hWK hvS) (i := 0) (by decide) hS) hWK hS trivial) rfl rfl hl.1 rfl (lv_room (Nat.le_of_ble_eq_true rfl)) dX1_checks_41 ⟨Nat.le_of_ble_eq_true rfl, Nat.le_of_ble_eq_true rfl⟩) ?_
      refine x_topi (show xchr 1 = 109 from rfl) ?_
      exact xr_Cc hx hb hr hlocks ((by simp [xLet, h_member.2, h_machine.2, d_0, c_34])) (⟨_, hR⟩) hS (by first | omega | decide) (by first | omega | decide) xLet_nar dX1_checks_44
  · refine va_ldcS hx hb hown (vk_R.warm hWK.1 hvR) dX1_checks_37 ?_
    refine lv_iload hx hb dX1_checks_39 (lv_at hl 0 rfl) ?_
    refine xc_P (va_runV (As := [.int 0]) (rest := []) F (xJ9_charAt g1 (A := A) 0 (by decide) hvS) (cwV 1 hts (lw_V q687 q688 q689 q67 q690) rfl rfl rfl hdV_J9_charAt ⟨Nat.le_of_ble_eq_true rfl, Nat.le_of_ble_eq_true rfl⟩) (xpreV (vk_recv (xSAt hWK hvS) (i := 0) (by decide) hS) hWK hS trivial) rfl rfl hl.1 rfl (lv_room (Nat.le_of_ble_eq_true rfl)) dX1_checks_41 ⟨Nat.le_of_ble_eq_true rfl, Nat.le_of_ble_eq_true rfl⟩) ?_
    refine x_topi (show xchr 0 = 105 from rfl) ?_
    exact xr_Cc hx hb hr hlocks ((by simp [xLet, h_member.2, h_machine.2, c_34])) (⟨_, hR⟩) hS (by first | omega | decide) (by first | omega | decide) xLet_nar dX1_checks_44

set_option maxHeartbeats 4000000 in
theorem xX8_check {l : Launch} {G : xG} {s0 : State} {b0 : Nat} (g1 : xG1 l G s0 b0) {A : Nat → Prop} {S : xS} {ad : Nat × Nat → Nat} {z : xZ} (en : Nat) (he : en < S.1 2 0) (hW : xW S) (hA : ∃ rk, rkOK S.2.1 rk ∧ ∀ i, rk i < 4) : Met l yX8_check (ws_ yX8_check cX8_check 1 (some .char)) ({ frames := 8, cells := 0, slots := 0, locals := 238 } : Room) (xP s0 A [.ref (ad (23, en))] (fun H => xRX G A S ad z H)) (xQc (some (.int (xLetE S en))) (fun _ H => ∃ z9, xRX G A S ad z9 H) A) 0 0 A := by
  refine Met.ofW (cc := cX8_check) (maxL := 1) (ret := (some .char)) (by decide) rfl ?_
  intro p e s m args below meth c s₁ B hml hv
  obtain ⟨rfl, hWK, hR⟩ := hv
  have g := g1.1
  have hx := B.exec
  have hb := B.bytes
  have hr := B.returns
  have hts := atoms_spec (ws := ws_ yX8_check cX8_check 1 (some .char)) B.pre
  have hts : ∀ w ∈ lw_all, w.before _ s = true := fun w h => hts w (List.mem_cons_of_mem _ h)
  have hown : s.vm.findClass "Lendlathe$Entry" = some m.cls := findClass_of_methodNamed B.named
  have hlocks := B.notSynchronized
  have hK := hWK.K g
  have F : CallFix p m c cX8_check 1 s _ lw_all "Lendlathe$Entry" := ⟨hx, hb, hml, hown, hts⟩
  have hS : va_S A s.heap s.heap [] := va_S.rf
  have hl := lv_entry ([.ref (ad (23, en))]) (n := 1) (Nat.le_of_ble_eq_true rfl)
  rw [lg_entry_eq]
  generalize (lg_sl ([.ref (ad (23, en))]) ++ List.replicate (1 - (lg_sl ([.ref (ad (23, en))])).length) Slot.unset).toArray = ls at hl ⊢
  have hl : lv_has ls 1 [(0, .ref (ad (23, en)))] := hl
  have hn0 := hW.1.1
  have hn1 := hW.1.2.1
  have hn2 := hW.1.2.2.1
  have hn3 := hW.1.2.2.2.1
  have hn4 := hW.1.2.2.2.2
  refine lv_aload_n hx hb dX8_check_0 rfl (lv_at hl 0 rfl) ?_
  refine g_X8_3 F hK (xw_23 hR he) (v := .ref (ad (0, 0))) rfl dX8_check_1 ?_
  refine lv_aload_n hx hb dX8_check_4 rfl (lv_at hl 0 rfl) ?_
  refine g_X8_85 F hK (xw_23 hR he) (v := .int (S.2.1 10 en 0)) rfl dX8_check_5 ?_
  refine lv_aload_n hx hb dX8_check_8 rfl (lv_at hl 0 rfl) ?_
  refine g_X8_62 F hK (xw_23 hR he) (v := .int (S.2.1 11 en 0)) rfl dX8_check_9 ?_
  refine lv_aload_n hx hb dX8_check_12 rfl (lv_at hl 0 rfl) ?_
  refine g_X8_96 F hK (xw_23 hR he) (v := .int (S.2.1 12 en 0)) rfl dX8_check_13 ?_
  refine lv_aload_n hx hb dX8_check_16 rfl (lv_at hl 0 rfl) ?_
  refine g_X8_103 F hK (xw_23 hR he) (v := .int (S.2.1 13 en 0)) rfl dX8_check_17 ?_
  refine lv_aload_n hx hb dX8_check_20 rfl (lv_at hl 0 rfl) ?_
  refine g_X8_70 F hK (xw_23 hR he) (v := .int (S.2.1 14 en 0)) rfl dX8_check_21 ?_
  refine lv_aload_n hx hb dX8_check_24 rfl (lv_at hl 0 rfl) ?_
  refine g_X8_22 F hK (xw_23 hR he) (v := .int (S.2.1 15 en 0)) rfl dX8_check_25 ?_
  refine xc_C (va_runVN (As := [.int (S.2.1 10 en 0), .int (S.2.1 11 en 0), .int (S.2.1 12 en 0), .int (S.2.1 13 en 0), .int (S.2.1 14 en 0), .int (S.2.1 15 en 0)]) (rest := []) F (xX1_checks g1 (A := A) (S := S) (ad := ad) (z := z) (S.2.1 12 en 0) (S.2.1 13 en 0) (S.2.1 14 en 0) (S.2.1 15 en 0) (xi.up (xi_of (hW.mem (e := en) (by first | assumption | omega))) (by first | omega | exact Nat.le_refl _)) (xi.up (xi_of (hW.mac (e := en) (by first | assumption | omega))) (by first | omega | exact Nat.le_refl _)) hW hA) ⟨va_cnB 6 hts (lw_meth q681) rfl rfl rfl (xnMw hWK g q678) (hts _ q56) hdS_X1_checks ⟨Nat.le_of_ble_eq_true rfl, Nat.le_of_ble_eq_true rfl⟩, hts _ q680, hts _ qs8⟩ (xpreV (xrecv hK (xw_0 hR) rfl) hWK hS hR) rfl rfl hl.1 rfl (lv_room (Nat.le_of_ble_eq_true rfl)) dX8_check_28 ⟨Nat.le_of_ble_eq_true rfl, Nat.le_of_ble_eq_true rfl⟩) hS (fun H locs hR1 hz hk hS => ?_)
  obtain ⟨z_28, hR⟩ := hR1
  exact xr_Cc hx hb hr hlocks (rfl) (⟨_, hR⟩) hS (by first | omega | decide) (by first | omega | decide) xLet_nar dX8_check_31

set_option maxHeartbeats 4000000 in
theorem xX1_firstToBook {l : Launch} {G : xG} {s0 : State} {b0 : Nat} (g1 : xG1 l G s0 b0) {A : Nat → Prop} {S : xS} {ad : Nat × Nat → Nat} {z : xZ} (hW : xW S) (hA : ∃ rk, rkOK S.2.1 rk ∧ ∀ i, rk i < 4) : Met l yX1_firstToBook (ws_ yX1_firstToBook cX1_firstToBook 2 (some .int)) ({ frames := 9, cells := 0, slots := 0, locals := 258 } : Room) (xP s0 A [.ref (ad (0, 0))] (fun H => xRX G A S ad z H)) (xQc (some (.int (xFirstI S))) (fun _ H => ∃ z9, xRX G A S ad z9 H) A) 0 0 A := by
  refine Met.ofW (cc := cX1_firstToBook) (maxL := 2) (ret := (some .int)) (by decide) rfl ?_
  intro p e s m args below meth c s₁ B hml hv
  obtain ⟨rfl, hWK, hR⟩ := hv
  have g := g1.1
  have hx := B.exec
  have hb := B.bytes
  have hr := B.returns
  have hts := atoms_spec (ws := ws_ yX1_firstToBook cX1_firstToBook 2 (some .int)) B.pre
  have hts : ∀ w ∈ lw_all, w.before _ s = true := fun w h => hts w (List.mem_cons_of_mem _ h)
  have hown : s.vm.findClass "Lendlathe" = some m.cls := findClass_of_methodNamed B.named
  have hlocks := B.notSynchronized
  have hK := hWK.K g
  have F : CallFix p m c cX1_firstToBook 2 s _ lw_all "Lendlathe" := ⟨hx, hb, hml, hown, hts⟩
  have hS : va_S A s.heap s.heap [] := va_S.rf
  have hl := lv_entry ([.ref (ad (0, 0))]) (n := 2) (Nat.le_of_ble_eq_true rfl)
  rw [lg_entry_eq]
  generalize (lg_sl ([.ref (ad (0, 0))]) ++ List.replicate (2 - (lg_sl ([.ref (ad (0, 0))])).length) Slot.unset).toArray = ls at hl ⊢
  have hl : lv_has ls 2 [(0, .ref (ad (0, 0)))] := hl
  have hn0 := hW.1.1
  have hn1 := hW.1.2.1
  have hn2 := hW.1.2.2.1
  have hn3 := hW.1.2.2.2.1
  have hn4 := hW.1.2.2.2.2
  refine lv_iconst (v := 0) hx hb dX1_firstToBook_0 (by decide) ?_
  refine lv_istore_n (lv' := [(1, .int 0), (0, .ref (ad (0, 0)))]) hx hb dX1_firstToBook_1 rfl hl (by decide) rfl (fun ls hl => ?_)
  have L2 : ∀ (n : Nat) (k : Nat) (z1 : xZ), S.1 2 0 - k < n → (k ≤ S.1 2 0) → (∀ j, j < k → xCand S j = false) → ∀ (H : Heap) (locs : List Loc), xRX G A S ad z1 H → va_S A s.heap H locs → ∀ (ls : Array Slot), lv_has ls 2 [(1, .int (nI k)), (0, .ref (ad (0, 0)))] → W p l e (headSpec (ws_ yX1_firstToBook cX1_firstToBook 2 (some .int)) ({ frames := 9, cells := 0, slots := 0, locals := 258 } : Room)).room s m ([.ref (ad (0, 0))] : List Value).toArray below meth c H locs 0 0 (MQ below (xQc (some (.int (xFirstI S))) (fun _ H => ∃ z9, xRX G A S ad z9 H) A) ([.ref (ad (0, 0))] : List Value).toArray s 0 0 A) (F0 m 2 ls []) := by
    intro n2
    induction n2 with
    | zero =>
      intro k z1 hn2
      exact absurd hn2 (Nat.not_lt_zero _)
    | succ n2 ih2 =>
      intro k z1 hn2 hkn hc H locs hR hS ls hl
      refine lv_iload_n hx hb dX1_firstToBook_2 rfl (lv_at hl 0 rfl) ?_
      refine lv_aload_n hx hb dX1_firstToBook_3 rfl (lv_at hl 1 rfl) ?_
      refine g_X1_36 F hK (xw_0 hR) (v := .ref (ad (5, 0))) rfl dX1_firstToBook_4 ?_
      refine xc_P (va_runV (As := []) (rest := [.int (nI k)]) F (xJ2_size_23 g1 (A := A) (S := S) (ad := ad) (z := z1) ) (cwV 0 hts (lw_V q510 q511 q512 q60 q513) rfl rfl rfl hdV_J2_size ⟨Nat.le_of_ble_eq_true rfl, Nat.le_of_ble_eq_true rfl⟩) (xpreV (xrecv hK (xw_5 hR) rfl) hWK hS hR) rfl rfl hl.1 rfl (lv_room (Nat.le_of_ble_eq_true rfl)) dX1_firstToBook_7 ⟨Nat.le_of_ble_eq_true rfl, Nat.le_of_ble_eq_true rfl⟩) ?_
      refine xn_ge (tgt := 59) k (S.1 2 0) rfl rfl (by omega) (by omega) hx hb dX1_firstToBook_10 (by decide) (fun c_10 => ?_) (fun c_10 => ?_)
      · have n_10 := Nat.not_lt.mpr c_10
        refine lv_iconst (v := (-1)) hx hb dX1_firstToBook_59 (by decide) ?_
        have hF : xFirst S = none := firstC_no (fun j _ hj => hc j (by omega))
        exact xr_Ci hx hb hr hlocks ((by unfold xFirstI; rw [hF])) (⟨_, hR⟩) hS (by first | omega | decide) (by first | omega | decide) dX1_firstToBook_60
      · have n_10 := Nat.not_le.mpr c_10
        refine lv_aload_n hx hb dX1_firstToBook_13 rfl (lv_at hl 1 rfl) ?_
        refine g_X1_36 F hK (xw_0 hR) (v := .ref (ad (5, 0))) rfl dX1_firstToBook_14 ?_
        refine lv_iload_n hx hb dX1_firstToBook_17 rfl (lv_at hl 0 rfl) ?_
        refine xc_P (va_runV (As := [.int (nI k)]) (rest := []) F (xJ2_get_23 g1 (A := A) (S := S) (ad := ad) (z := z1) (xi_nI (n := (S.1 2 0)) (by omega) (by omega)) (by first | assumption | omega)) (cwV 1 hts (lw_V q486 q487 q488 q60 q489) rfl rfl rfl hdV_J2_get ⟨Nat.le_of_ble_eq_true rfl, Nat.le_of_ble_eq_true rfl⟩) (xpreV (xrecv hK (xw_5 hR) rfl) hWK hS hR) rfl rfl hl.1 rfl (lv_room (Nat.le_of_ble_eq_true rfl)) dX1_firstToBook_18 ⟨Nat.le_of_ble_eq_true rfl, Nat.le_of_ble_eq_true rfl⟩) ?_
        refine x_castO F hK rfl (xw_23 hR (xi_nI (n := (S.1 2 0)) (by omega) (by omega)).lt) (hts _ q514) dX1_firstToBook_21 ?_
        refine g_X1_150 F hWK g hK (xw_23 hR (xi_nI (n := (S.1 2 0)) (by omega) (by omega)).lt) (v := .int (S.2.1 16 k 0)) rfl dX1_firstToBook_24 ?_
        refine lv_bipush (v := 119) hx hb dX1_firstToBook_27 (by decide) ?_
        refine lv_icmp_ne (tgt := 53) hx hb dX1_firstToBook_29 (by decide) (fun c_29 => ?_) (fun c_29 => ?_)
        · refine lv_iinc (v := nI (k + 1)) (lv' := [(1, .int (nI (k + 1))), (0, .ref (ad (0, 0)))]) hx hb dX1_firstToBook_53 hl (k := 0) rfl (nI_1 _) (by decide) rfl (fun ls hl => ?_)
          refine lv_goto (tgt := 2) hx hb dX1_firstToBook_56 (by decide) ?_
          exact ih2 (k + 1) z1 (by omega) (by omega) (lt_s hc (by simp [xCand, c_29])) _ _ hR hS ls (lv_sub hl [0, 1] rfl)
        · refine lv_aload_n hx hb dX1_firstToBook_32 rfl (lv_at hl 1 rfl) ?_
          refine g_X1_36 F hK (xw_0 hR) (v := .ref (ad (5, 0))) rfl dX1_firstToBook_33 ?_
          refine lv_iload_n hx hb dX1_firstToBook_36 rfl (lv_at hl 0 rfl) ?_
          refine xc_P (va_runV (As := [.int (nI k)]) (rest := []) F (xJ2_get_23 g1 (A := A) (S := S) (ad := ad) (z := z1) (xi_nI (n := (S.1 2 0)) (by omega) (by omega)) (by first | assumption | omega)) (cwV 1 hts (lw_V q486 q487 q488 q60 q489) rfl rfl rfl hdV_J2_get ⟨Nat.le_of_ble_eq_true rfl, Nat.le_of_ble_eq_true rfl⟩) (xpreV (xrecv hK (xw_5 hR) rfl) hWK hS hR) rfl rfl hl.1 rfl (lv_room (Nat.le_of_ble_eq_true rfl)) dX1_firstToBook_37 ⟨Nat.le_of_ble_eq_true rfl, Nat.le_of_ble_eq_true rfl⟩) ?_
          refine x_castO F hK rfl (xw_23 hR (xi_nI (n := (S.1 2 0)) (by omega) (by omega)).lt) (hts _ q514) dX1_firstToBook_40 ?_
          refine xc_C (va_runV (As := []) (rest := []) F (xX8_check g1 (A := A) (S := S) (ad := ad) (z := z1) k ((xi_nI (n := (S.1 2 0)) (by omega) (by omega)).lt) hW hA) (cwV 0 hts (lw_V q674 q675 q676 q89 q677) rfl rfl rfl hdV_X8_check ⟨Nat.le_of_ble_eq_true rfl, Nat.le_of_ble_eq_true rfl⟩) (xpreV (xrecv hK (xw_23 hR (xi_nI (n := (S.1 2 0)) (by omega) (by omega)).lt) rfl) hWK hS hR) rfl rfl hl.1 rfl (lv_room (Nat.le_of_ble_eq_true rfl)) dX1_firstToBook_43 ⟨Nat.le_of_ble_eq_true rfl, Nat.le_of_ble_eq_true rfl⟩) hS (fun H locs hR1 hz hk hS => ?_)
          obtain ⟨z_43, hR⟩ := hR1
          refine lv_bipush (v := 111) hx hb dX1_firstToBook_46 (by decide) ?_
          refine lv_icmp_ne (tgt := 53) hx hb dX1_firstToBook_48 (by decide) (fun c_48 => ?_) (fun c_48 => ?_)
          · refine lv_iinc (v := nI (k + 1)) (lv' := [(1, .int (nI (k + 1))), (0, .ref (ad (0, 0)))]) hx hb dX1_firstToBook_53 hl (k := 0) rfl (nI_1 _) (by decide) rfl (fun ls hl => ?_)
            refine lv_goto (tgt := 2) hx hb dX1_firstToBook_56 (by decide) ?_
            exact ih2 (k + 1) z_43 (by omega) (by omega) (lt_s hc (by simp [xCand, c_29, c_48])) _ _ hR hS ls (lv_sub hl [0, 1] rfl)
          · refine lv_iload_n hx hb dX1_firstToBook_51 rfl (lv_at hl 0 rfl) ?_
            have hF : xFirst S = some k := firstC_some (by simp [xCand, c_29, c_48]) (Nat.zero_le _) (by omega) (fun j _ hj => hc j hj)
            exact xr_Ci hx hb hr hlocks ((by unfold xFirstI; rw [hF])) (⟨_, hR⟩) hS (by first | omega | decide) (by first | omega | decide) dX1_firstToBook_52
  exact L2 (S.1 2 0 + 1) 0 z (by omega) (by omega) (fun j hj => absurd hj (Nat.not_lt_zero _)) _ _ hR hS ls (lv_sub hl [0, 1] rfl)

set_option maxHeartbeats 4000000 in
theorem xX1_fills {l : Launch} {G : xG} {s0 : State} {b0 : Nat} (g1 : xG1 l G s0 b0) {A : Nat → Prop} {S : xS} {ad : Nat × Nat → Nat} {z : xZ} (hW : xW S) (hA : ∃ rk, rkOK S.2.1 rk ∧ ∀ i, rk i < 4) : Met l yX1_fills (ws_ yX1_fills cX1_fills 2 none) ({ frames := 10, cells := 0, slots := 0, locals := 279 } : Room) (xP s0 A [.ref (ad (0, 0))] (fun H => xRX G A S ad z H)) (xQc none (fun _ H => ∃ z9, xRX G A (xFills S) ad z9 H) A) 0 0 A := by
  refine Met.ofW (cc := cX1_fills) (maxL := 2) (ret := none) (by decide) rfl ?_
  intro p e s m args below meth c s₁ B hml hv
  obtain ⟨rfl, hWK, hR⟩ := hv
  have g := g1.1
  have hx := B.exec
  have hb := B.bytes
  have hr := B.returns
  have hts := atoms_spec (ws := ws_ yX1_fills cX1_fills 2 none) B.pre
  have hts : ∀ w ∈ lw_all, w.before _ s = true := fun w h => hts w (List.mem_cons_of_mem _ h)
  have hown : s.vm.findClass "Lendlathe" = some m.cls := findClass_of_methodNamed B.named
  have hlocks := B.notSynchronized
  have hK := hWK.K g
  have F : CallFix p m c cX1_fills 2 s _ lw_all "Lendlathe" := ⟨hx, hb, hml, hown, hts⟩
  have hS : va_S A s.heap s.heap [] := va_S.rf
  have hl := lv_entry ([.ref (ad (0, 0))]) (n := 2) (Nat.le_of_ble_eq_true rfl)
  rw [lg_entry_eq]
  generalize (lg_sl ([.ref (ad (0, 0))]) ++ List.replicate (2 - (lg_sl ([.ref (ad (0, 0))])).length) Slot.unset).toArray = ls at hl ⊢
  have hl : lv_has ls 2 [(0, .ref (ad (0, 0)))] := hl
  have hn0 := hW.1.1
  have hn1 := hW.1.2.1
  have hn2 := hW.1.2.2.1
  have hn3 := hW.1.2.2.2.1
  have hn4 := hW.1.2.2.2.2
  refine lv_aload_n hx hb dX1_fills_0 rfl (lv_at hl 0 rfl) ?_
  refine xc_C (va_runV (As := []) (rest := []) F (xX1_firstToBook g1 (A := A) (S := S) (ad := ad) (z := z) hW hA) (cwV 0 hts (lw_V q902 q904 qs19 q56 q905) rfl rfl rfl hdV_X1_firstToBook ⟨Nat.le_of_ble_eq_true rfl, Nat.le_of_ble_eq_true rfl⟩) (xpreV (xrecv hK (xw_0 hR) rfl) hWK hS hR) rfl rfl hl.1 rfl (lv_room (Nat.le_of_ble_eq_true rfl)) dX1_fills_1 ⟨Nat.le_of_ble_eq_true rfl, Nat.le_of_ble_eq_true rfl⟩) hS (fun H locs hR1 hz hk hS => ?_)
  obtain ⟨z_1, hR⟩ := hR1
  refine lv_istore_n (lv' := [(1, .int (xFirstI S)), (0, .ref (ad (0, 0)))]) hx hb dX1_fills_4 rfl hl (by decide) rfl (fun ls hl => ?_)
  have L5 : ∀ (n : Nat) (fu : Nat) (S1 : xS) (z1 : xZ), fu < n → (S1.1 = S.1) → (xW S1) → (∃ rk, rkOK S1.2.1 rk ∧ ∀ i, rk i < 4) → (mWait S1 (S1.1 2 0) ≤ fu) → (xFillN fu S1 = xFills S) → ∀ (H : Heap) (locs : List Loc), xRX G A S1 ad z1 H → va_S A s.heap H locs → ∀ (ls : Array Slot), lv_has ls 2 [(1, .int (xFirstI S1)), (0, .ref (ad (0, 0)))] → W p l e (headSpec (ws_ yX1_fills cX1_fills 2 none) ({ frames := 10, cells := 0, slots := 0, locals := 279 } : Room)).room s m ([.ref (ad (0, 0))] : List Value).toArray below meth c H locs 0 0 (MQ below (xQc none (fun _ H => ∃ z9, xRX G A (xFills S) ad z9 H) A) ([.ref (ad (0, 0))] : List Value).toArray s 0 0 A) (F0 m 5 ls []) := by
    intro n5
    induction n5 with
    | zero =>
      intro fu S1 z1 hn5
      exact absurd hn5 (Nat.not_lt_zero _)
    | succ n5 ih5 =>
      intro fu S1 z1 hn5 hN hWs hA1 hw hG H locs hR hS ls hl
      have hn1s := hWs.n.2.2.1
      refine lv_iload_n hx hb dX1_fills_5 rfl (lv_at hl 0 rfl) ?_
      rcases xFirst_or S1 with ⟨hF, hI⟩ | ⟨k, hF, hI, hk, hs, hlE⟩
      · rw [hI] at hl ⊢
        refine lv_iconst (v := (-1)) hx hb dX1_fills_6 (by decide) ?_
        refine lv_icmp_eq (tgt := 34) hx hb dX1_fills_7 (by decide) (fun c_7 => ?_) (fun c_7 => (by first | exact absurd c_7 (by decide) | exact absurd (by decide) c_7))
        have e9 : xFills S = S1 := hG.symm.trans (xFill_done hF)
        exact xr_Cv hx hb hr hlocks (⟨z1, by rw [e9]; exact hR⟩) hS (by first | omega | decide) (by first | omega | decide) dX1_fills_34
      · rw [hI] at hl ⊢
        obtain ⟨f1, rfl, hw1, hG1⟩ := xFill_step hF hk hs hw
        refine lv_iconst (v := (-1)) hx hb dX1_fills_6 (by decide) ?_
        refine lv_icmp_eq (tgt := 34) hx hb dX1_fills_7 (by decide) (fun c_7 => ?_) (fun c_7 => ?_)
        · exact absurd c_7 (nI_ne1 (by omega))
        · refine lv_aload_n hx hb dX1_fills_10 rfl (lv_at hl 1 rfl) ?_
          refine g_X1_36 F hK (xw_0 hR) (v := .ref (ad (5, 0))) rfl dX1_fills_11 ?_
          refine lv_iload_n hx hb dX1_fills_14 rfl (lv_at hl 0 rfl) ?_
          refine xc_P (va_runV (As := [.int (nI k)]) (rest := []) F (xJ2_get_23 g1 (A := A) (S := S1) (ad := ad) (z := z1) (xi_nI (n := (S1.1 2 0)) (by omega) (by omega)) (by first | assumption | omega)) (cwV 1 hts (lw_V q486 q487 q488 q60 q489) rfl rfl rfl hdV_J2_get ⟨Nat.le_of_ble_eq_true rfl, Nat.le_of_ble_eq_true rfl⟩) (xpreV (xrecv hK (xw_5 hR) rfl) hWK hS hR) rfl rfl hl.1 rfl (lv_room (Nat.le_of_ble_eq_true rfl)) dX1_fills_15 ⟨Nat.le_of_ble_eq_true rfl, Nat.le_of_ble_eq_true rfl⟩) ?_
          refine x_castO F hK rfl (xw_23 hR (xi_nI (n := (S1.1 2 0)) (by omega) (by omega)).lt) (hts _ q514) dX1_fills_18 ?_
          refine lv_bipush (v := 98) hx hb dX1_fills_21 (by decide) ?_
          refine p_X1_150 F hWK g hK hS (xw_23 hR (xi_nI (n := (S1.1 2 0)) (by omega) (by omega)).lt) (xa_23 hR (xi_nI (n := (S1.1 2 0)) (by omega) (by omega)).lt) (v := .int 98) rfl rfl (Nat.le_of_ble_eq_true rfl) dX1_fills_23 (fun H locs hat hof hS => ?_)
          have hR := xs_23_6 hR (xi_nI (n := (S1.1 2 0)) (by omega) (by omega)).lt hof hat
          refine lv_aload_n hx hb dX1_fills_26 rfl (lv_at hl 1 rfl) ?_
          refine xc_C (va_runV (As := []) (rest := []) F (xX1_firstToBook g1 (A := A) (S := (sF S1 16 k 0 98)) (ad := ad) (z := z1) (xW_16 hWs k rfl) hA1) (cwV 0 hts (lw_V q902 q904 qs19 q56 q905) rfl rfl rfl hdV_X1_firstToBook ⟨Nat.le_of_ble_eq_true rfl, Nat.le_of_ble_eq_true rfl⟩) (xpreV (xrecv hK (xw_0 hR) rfl) hWK hS hR) rfl rfl hl.1 rfl (lv_room (Nat.le_of_ble_eq_true rfl)) dX1_fills_27 ⟨Nat.le_of_ble_eq_true rfl, Nat.le_of_ble_eq_true rfl⟩) hS (fun H locs hR1 hz hk hS => ?_)
          obtain ⟨z_27, hR⟩ := hR1
          refine lv_istore_n (lv' := [(1, .int (xFirstI (sF S1 16 k 0 98))), (0, .ref (ad (0, 0)))]) hx hb dX1_fills_30 rfl hl (by decide) rfl (fun ls hl => ?_)
          refine lv_goto (tgt := 5) hx hb dX1_fills_31 (by decide) ?_
          exact ih5 f1 (sF S1 16 k 0 98) z_27 (by omega) hN (xW_16 hWs k rfl) hA1 hw1 (hG1.symm.trans hG) _ _ hR hS ls (lv_sub hl [0, 1] rfl)
  exact L5 (mWait S (S.1 2 0) + 1) (mWait S (S.1 2 0)) S z_1 (by omega) rfl hW hA (Nat.le_refl _) rfl _ _ hR hS ls (lv_sub hl [0, 1] rfl)

set_option maxHeartbeats 4000000 in
theorem xX1_costOf {l : Launch} {G : xG} {s0 : State} {b0 : Nat} (g1 : xG1 l G s0 b0) {A : Nat → Prop} {S : xS} {ad : Nat × Nat → Nat} {z : xZ} (kind minutes : Int32) (hW : xW S) (hT : xTd S) : vx_Met l yX1_costOf (ws_ yX1_costOf cX1_costOf 3 (some .int)) ({ frames := 13, cells := 1, slots := 6, locals := 376 } : Room) (xP s0 A [.ref (ad (0, 0)), .int kind, .int minutes] (fun H => xRX G A S ad z H)) (xQc (some (.int ((xCostOf S kind minutes).2.1))) (fun _ H => (xCostOf S kind minutes).1 = 0 ∧ ∃ ad9 z9, xRX G A (xCostOf S kind minutes).2.2 ad9 z9 H ∧ ad9 (0, 0) = ad (0, 0)) A) (xXc (fun E _ H => E = xExn (xCostOf S kind minutes).1 ∧ ¬ (xCostOf S kind minutes).1 = 0 ∧ ∃ z9, xRX G A S ad z9 H) A) 1 6 A := by
  refine vx_ofW (cc := cX1_costOf) (maxL := 3) (ret := (some .int)) (by decide) rfl ?_
  intro p e s m args below meth c s₁ B hml hnt hv
  obtain ⟨rfl, hWK, hR⟩ := hv
  have g := g1.1
  have hx := B.exec
  have hb := B.bytes
  have hr := B.returns
  have hts := atoms_spec (ws := ws_ yX1_costOf cX1_costOf 3 (some .int)) B.pre
  have hts : ∀ w ∈ lw_all, w.before _ s = true := fun w h => hts w (List.mem_cons_of_mem _ h)
  have hown : s.vm.findClass "Lendlathe" = some m.cls := findClass_of_methodNamed B.named
  have hlocks := B.notSynchronized
  have hK := hWK.K g
  have F : CallFix p m c cX1_costOf 3 s _ lw_all "Lendlathe" := ⟨hx, hb, hml, hown, hts⟩
  have hS : va_S A s.heap s.heap [] := va_S.rf
  have hl := lv_entry ([.ref (ad (0, 0)), .int kind, .int minutes]) (n := 3) (Nat.le_of_ble_eq_true rfl)
  rw [lg_entry_eq]
  generalize (lg_sl ([.ref (ad (0, 0)), .int kind, .int minutes]) ++ List.replicate (3 - (lg_sl ([.ref (ad (0, 0)), .int kind, .int minutes])).length) Slot.unset).toArray = ls at hl ⊢
  have hl : lv_has ls 3 [(0, .ref (ad (0, 0))), (1, .int kind), (2, .int minutes)] := hl
  have hn0 := hW.1.1
  have hn1 := hW.1.2.1
  have hn2 := hW.1.2.2.1
  have hn3 := hW.1.2.2.2.1
  have hn4 := hW.1.2.2.2.2
  refine lv_iload_n hx hb dX1_costOf_0 rfl (lv_at hl 1 rfl) ?_
  refine xc_P (va_runS (As := [.int kind]) (rest := []) F (xX1_isKind g1 (A := A) kind) (va_cwS 1 hts (lw_S q755 q756 q56 q757) rfl rfl rfl hdS_X1_isKind ⟨Nat.le_of_ble_eq_true rfl, Nat.le_of_ble_eq_true rfl⟩) (xpre hWK hS trivial) rfl rfl hl.1 rfl (lv_room (Nat.le_of_ble_eq_true rfl)) dX1_costOf_1 ⟨Nat.le_of_ble_eq_true rfl, Nat.le_of_ble_eq_true rfl⟩) ?_
  refine x_ifeq (tgt := 22) hx hb dX1_costOf_4 (by decide) (fun c_4 => ?_) (fun c_4 => ?_)
  · refine lv_iconst (v := 0) hx hb dX1_costOf_22 (by decide) ?_
    have e9 : (xCostOf S kind minutes).1 = 1 := by simp [xCostOf, xCost, c_4]
    exact xc_T (vx_runS (As := [.int 0]) (rest := []) F (xX1_want_no g1 (A := A) false rfl) (va_cwS 1 hts (lw_S q761 q762 q56 q763) rfl rfl rfl hdS_X1_want ⟨Nat.le_of_ble_eq_true rfl, Nat.le_of_ble_eq_true rfl⟩) (xpre hWK hS trivial) rfl rfl hl.1 rfl (lv_room (Nat.le_of_ble_eq_true rfl)) dX1_costOf_23 ⟨Nat.le_of_ble_eq_true rfl, Nat.le_of_ble_eq_true rfl⟩) hS (fun E ce q9 H locs hX hz hk hS hq9 hv9 hc9 => vx_out (fun x hx => (hnt x hx).elim) hlocks hq9 hv9 hc9 (fun t ht _ => ⟨by rw [ht]; exact ⟨hX.1.trans (congrArg xExn e9).symm, (by rw [e9]; decide), z, hR.grow hX.2⟩, hS.F ht⟩) hS.2.2 (Nat.le_of_ble_eq_true rfl) (Nat.le_of_ble_eq_true rfl))
  · refine lv_iload_n hx hb dX1_costOf_7 rfl (lv_at hl 2 rfl) ?_
    refine lv_iconst (v := 0) hx hb dX1_costOf_8 (by decide) ?_
    refine lv_sipush (v := 480) hx hb dX1_costOf_9 (by decide) ?_
    refine xc_P (va_runS (As := [.int minutes, .int 0, .int 480]) (rest := []) F (xX1_in g1 (A := A) minutes 0 480) (va_cwS 3 hts (lw_S q758 q759 q56 q760) rfl rfl rfl hdS_X1_in ⟨Nat.le_of_ble_eq_true rfl, Nat.le_of_ble_eq_true rfl⟩) (xpre hWK hS trivial) rfl rfl hl.1 rfl (lv_room (Nat.le_of_ble_eq_true rfl)) dX1_costOf_12 ⟨Nat.le_of_ble_eq_true rfl, Nat.le_of_ble_eq_true rfl⟩) ?_
    refine x_ifeq (tgt := 22) hx hb dX1_costOf_15 (by decide) (fun c_15 => ?_) (fun c_15 => ?_)
    · refine lv_iconst (v := 0) hx hb dX1_costOf_22 (by decide) ?_
      have e9 : (xCostOf S kind minutes).1 = 1 := by simp [xCostOf, xCost, c_4, c_15]
      exact xc_T (vx_runS (As := [.int 0]) (rest := []) F (xX1_want_no g1 (A := A) false rfl) (va_cwS 1 hts (lw_S q761 q762 q56 q763) rfl rfl rfl hdS_X1_want ⟨Nat.le_of_ble_eq_true rfl, Nat.le_of_ble_eq_true rfl⟩) (xpre hWK hS trivial) rfl rfl hl.1 rfl (lv_room (Nat.le_of_ble_eq_true rfl)) dX1_costOf_23 ⟨Nat.le_of_ble_eq_true rfl, Nat.le_of_ble_eq_true rfl⟩) hS (fun E ce q9 H locs hX hz hk hS hq9 hv9 hc9 => vx_out (fun x hx => (hnt x hx).elim) hlocks hq9 hv9 hc9 (fun t ht _ => ⟨by rw [ht]; exact ⟨hX.1.trans (congrArg xExn e9).symm, (by rw [e9]; decide), z, hR.grow hX.2⟩, hS.F ht⟩) hS.2.2 (Nat.le_of_ble_eq_true rfl) (Nat.le_of_ble_eq_true rfl))
    · refine lv_iconst (v := 1) hx hb dX1_costOf_18 (by decide) ?_
      refine lv_goto (tgt := 23) hx hb dX1_costOf_19 (by decide) ?_
      refine xc_P0 (va_runS (As := [.int 1]) (rest := []) F (xX1_want_ok g1 (A := A) true rfl) (va_cwS 1 hts (lw_S q761 q762 q56 q763) rfl rfl rfl hdS_X1_want ⟨Nat.le_of_ble_eq_true rfl, Nat.le_of_ble_eq_true rfl⟩) (xpre hWK hS trivial) rfl rfl hl.1 rfl (lv_room (Nat.le_of_ble_eq_true rfl)) dX1_costOf_23 ⟨Nat.le_of_ble_eq_true rfl, Nat.le_of_ble_eq_true rfl⟩) ?_
      obtain ⟨kj, hkj, rfl⟩ := inI_of' (n := 4) (by first | rfl | decide) (by first | decide | omega) c_4
      refine lv_aload_n hx hb dX1_costOf_26 rfl (lv_at hl 0 rfl) ?_
      refine g_X1_11 F hK (xw_0 hR) (v := .ref (ad (1, 0))) rfl dX1_costOf_27 ?_
      refine lv_iload_n hx hb dX1_costOf_30 rfl (lv_at hl 1 rfl) ?_
      refine x_aald hx hb hK (xw_1 hR) rfl rfl (v := .ref (xtr ad (S.1 11 kj))) (xi_nI (n := 4) (by omega) (by omega)) (rfl) dX1_costOf_31 ?_
      refine lv_iload_n hx hb dX1_costOf_32 rfl (lv_at hl 2 rfl) ?_
      refine xc5_P (x_callOf g1 6 (S.1 11 kj) (hT _ (by first | assumption | omega | exact (xi_of (hW.kd _)).lt)) minutes _ _ _ _ _ _ _ _ _ _ _ _ _ _ _ _ _ [] _ _ _ F hWK hS hR q1307 hl.1 (by decide) (Nat.le_of_ble_eq_true rfl) (Nat.le_of_ble_eq_true rfl) ⟨Nat.le_of_ble_eq_true rfl, Nat.le_of_ble_eq_true rfl⟩ dX1_costOf_33) ?_
      have e9 : xCostOf S (nI kj) minutes = (0, xOf S 6 (S.1 11 kj) minutes, S) := by simp [xCostOf, xCost, c_4, c_15, nI_clamp (show kj < 2 ^ 31 by omega)]
      exact vx_ret (xr_Ci hx hb hr hlocks ((congrArg (fun q => q.2.1) e9).symm) (⟨congrArg Prod.fst e9, ad, z, by rw [show (xCostOf S (nI kj) minutes).2.2 = S from congrArg (fun q => q.2.2) e9]; exact hR, rfl⟩) hS (by first | omega | decide) (by first | omega | decide) dX1_costOf_38)

set_option maxHeartbeats 4000000 in
theorem xX8_forMinutes {l : Launch} {G : xG} {s0 : State} {b0 : Nat} (g1 : xG1 l G s0 b0) {A : Nat → Prop} {S : xS} {ad : Nat × Nat → Nat} {z : xZ} (en : Nat) (he : en < S.1 2 0) (hW : xW S) (hT : xTd S) : Met l yX8_forMinutes (ws_ yX8_forMinutes cX8_forMinutes 1 (some .int)) ({ frames := 13, cells := 0, slots := 0, locals := 376 } : Room) (xP s0 A [.ref (ad (23, en))] (fun H => xRX G A S ad z H)) (xQp (some (.int (xCostE S en)))) 0 0 (fun _ => False) := by
  refine Met.ofW (cc := cX8_forMinutes) (maxL := 1) (ret := (some .int)) (by decide) rfl ?_
  intro p e s m args below meth c s₁ B hml hv
  obtain ⟨rfl, hWK, hR⟩ := hv
  have g := g1.1
  have hx := B.exec
  have hb := B.bytes
  have hr := B.returns
  have hts := atoms_spec (ws := ws_ yX8_forMinutes cX8_forMinutes 1 (some .int)) B.pre
  have hts : ∀ w ∈ lw_all, w.before _ s = true := fun w h => hts w (List.mem_cons_of_mem _ h)
  have hown : s.vm.findClass "Lendlathe$Entry" = some m.cls := findClass_of_methodNamed B.named
  have hlocks := B.notSynchronized
  have hK := hWK.K g
  have F : CallFix p m c cX8_forMinutes 1 s _ lw_all "Lendlathe$Entry" := ⟨hx, hb, hml, hown, hts⟩
  have hS : va_S A s.heap s.heap [] := va_S.rf
  have hl := lv_entry ([.ref (ad (23, en))]) (n := 1) (Nat.le_of_ble_eq_true rfl)
  rw [lg_entry_eq]
  generalize (lg_sl ([.ref (ad (23, en))]) ++ List.replicate (1 - (lg_sl ([.ref (ad (23, en))])).length) Slot.unset).toArray = ls at hl ⊢
  have hl : lv_has ls 1 [(0, .ref (ad (23, en)))] := hl
  have hn0 := hW.1.1
  have hn1 := hW.1.2.1
  have hn2 := hW.1.2.2.1
  have hn3 := hW.1.2.2.2.1
  have hn4 := hW.1.2.2.2.2
  refine lv_aload_n hx hb dX8_forMinutes_0 rfl (lv_at hl 0 rfl) ?_
  refine g_X8_3 F hK (xw_23 hR he) (v := .ref (ad (0, 0))) rfl dX8_forMinutes_1 ?_
  refine g_X8_55 F hWK g hK (xw_0 hR) (v := .ref (ad (1, 0))) rfl dX8_forMinutes_4 ?_
  refine lv_aload_n hx hb dX8_forMinutes_7 rfl (lv_at hl 0 rfl) ?_
  refine g_X8_3 F hK (xw_23 hR he) (v := .ref (ad (0, 0))) rfl dX8_forMinutes_8 ?_
  refine g_X8_59 F hWK g hK (xw_0 hR) (v := .ref (ad (3, 0))) rfl dX8_forMinutes_11 ?_
  refine lv_aload_n hx hb dX8_forMinutes_14 rfl (lv_at hl 0 rfl) ?_
  refine g_X8_62 F hK (xw_23 hR he) (v := .int (S.2.1 11 en 0)) rfl dX8_forMinutes_15 ?_
  refine xc_P (va_runV (As := [.int (S.2.1 11 en 0)]) (rest := [.ref (ad (1, 0))]) F (xJ2_get_20 g1 (A := A) (S := S) (ad := ad) (z := z) (xi.up (xi_of (hW.mac (e := en) (by first | assumption | omega))) (by first | omega | exact Nat.le_refl _)) (by first | assumption | omega)) (cwV 1 hts (lw_V q713 q487 q488 q60 q489) rfl rfl rfl hdV_J2_get ⟨Nat.le_of_ble_eq_true rfl, Nat.le_of_ble_eq_true rfl⟩) (xpreV (xrecv hK (xw_3 hR) rfl) hWK hS hR) rfl rfl hl.1 rfl (lv_room (Nat.le_of_ble_eq_true rfl)) dX8_forMinutes_18 ⟨Nat.le_of_ble_eq_true rfl, Nat.le_of_ble_eq_true rfl⟩) ?_
  refine x_castO F hK rfl (xw_20 hR (xi.up (xi_of (hW.mac (e := en) (by first | assumption | omega))) (by first | omega | exact Nat.le_refl _)).lt) (hts _ q715) dX8_forMinutes_21 ?_
  refine g_X8_67 F hWK g hK (xw_20 hR (xi.up (xi_of (hW.mac (e := en) (by first | assumption | omega))) (by first | omega | exact Nat.le_refl _)).lt) (v := .int (S.2.1 0 ((S.2.1 11 en 0).toNatClampNeg) 0)) rfl dX8_forMinutes_24 ?_
  refine x_aald hx hb hK (xw_1 hR) rfl rfl (v := .ref (xtr ad (S.1 11 ((S.2.1 0 ((S.2.1 11 en 0).toNatClampNeg) 0).toNatClampNeg)))) (xi.up (xi_of (hW.kd ((S.2.1 11 en 0).toNatClampNeg))) (by first | omega | exact Nat.le_refl _)) (rfl) dX8_forMinutes_27 ?_
  refine lv_aload_n hx hb dX8_forMinutes_28 rfl (lv_at hl 0 rfl) ?_
  refine g_X8_70 F hK (xw_23 hR he) (v := .int (S.2.1 14 en 0)) rfl dX8_forMinutes_29 ?_
  refine xc5_P (x_callOf g1 6 (S.1 11 ((S.2.1 0 ((S.2.1 11 en 0).toNatClampNeg) 0).toNatClampNeg)) (hT _ (by first | assumption | omega | exact (xi_of (hW.kd _)).lt)) (S.2.1 14 en 0) _ _ _ _ _ _ _ _ _ _ _ _ _ _ _ _ _ [] _ _ _ F hWK hS hR q1133 hl.1 (by decide) (Nat.le_of_ble_eq_true rfl) (Nat.le_of_ble_eq_true rfl) ⟨Nat.le_of_ble_eq_true rfl, Nat.le_of_ble_eq_true rfl⟩ dX8_forMinutes_32) ?_
  exact xr_Pi hx hb hr hlocks (rfl) dX8_forMinutes_37

set_option maxHeartbeats 4000000 in
theorem xX8_owes {l : Launch} {G : xG} {s0 : State} {b0 : Nat} (g1 : xG1 l G s0 b0) {A : Nat → Prop} {S : xS} {ad : Nat × Nat → Nat} {z : xZ} (en : Nat) (amount : Int32) (he : en < S.1 2 0) (hW : xW S) : Met l yX8_owes (ws_ yX8_owes cX8_owes 2 none) ({ frames := 3, cells := 0, slots := 0, locals := 64 } : Room) (xP s0 A [.ref (ad (23, en)), .int amount] (fun H => xRX G A S ad z H)) (xQc none (fun _ H => xRX G A (xOwe S en amount) ad z H) A) 0 0 A := by
  refine Met.ofW (cc := cX8_owes) (maxL := 2) (ret := none) (by decide) rfl ?_
  intro p e s m args below meth c s₁ B hml hv
  obtain ⟨rfl, hWK, hR⟩ := hv
  have g := g1.1
  have hx := B.exec
  have hb := B.bytes
  have hr := B.returns
  have hts := atoms_spec (ws := ws_ yX8_owes cX8_owes 2 none) B.pre
  have hts : ∀ w ∈ lw_all, w.before _ s = true := fun w h => hts w (List.mem_cons_of_mem _ h)
  have hown : s.vm.findClass "Lendlathe$Entry" = some m.cls := findClass_of_methodNamed B.named
  have hlocks := B.notSynchronized
  have hK := hWK.K g
  have F : CallFix p m c cX8_owes 2 s _ lw_all "Lendlathe$Entry" := ⟨hx, hb, hml, hown, hts⟩
  have hS : va_S A s.heap s.heap [] := va_S.rf
  have hl := lv_entry ([.ref (ad (23, en)), .int amount]) (n := 2) (Nat.le_of_ble_eq_true rfl)
  rw [lg_entry_eq]
  generalize (lg_sl ([.ref (ad (23, en)), .int amount]) ++ List.replicate (2 - (lg_sl ([.ref (ad (23, en)), .int amount])).length) Slot.unset).toArray = ls at hl ⊢
  have hl : lv_has ls 2 [(0, .ref (ad (23, en))), (1, .int amount)] := hl
  have hn0 := hW.1.1
  have hn1 := hW.1.2.1
  have hn2 := hW.1.2.2.1
  have hn3 := hW.1.2.2.2.1
  have hn4 := hW.1.2.2.2.2
  refine lv_aload_n hx hb dX8_owes_0 rfl (lv_at hl 0 rfl) ?_
  refine lv_iload_n hx hb dX8_owes_1 rfl (lv_at hl 1 rfl) ?_
  refine p_X8_79 F hK hS (xw_23 hR he) (xa_23 hR he) (v := .int amount) rfl rfl (Nat.le_of_ble_eq_true rfl) dX8_owes_2 (fun H locs hat hof hS => ?_)
  have hR := xs_23_7 hR he hof hat
  refine lv_aload_n hx hb dX8_owes_5 rfl (lv_at hl 0 rfl) ?_
  refine g_X8_3 F hK (xw_23 hR he) (v := .ref (ad (0, 0))) rfl dX8_owes_6 ?_
  refine g_X8_82 F hWK g hK (xw_0 hR) (v := .ref (ad (4, 0))) rfl dX8_owes_9 ?_
  refine lv_aload_n hx hb dX8_owes_12 rfl (lv_at hl 0 rfl) ?_
  refine g_X8_85 F hK (xw_23 hR he) (v := .int (S.2.1 10 en 0)) rfl dX8_owes_13 ?_
  refine xc_P (va_runV (As := [.int (S.2.1 10 en 0)]) (rest := []) F (xJ2_get_21 g1 (A := A) (S := (sF S 17 en 0 amount)) (ad := ad) (z := z) (xi.up (xi_of (hW.mem (e := en) (by first | assumption | omega))) (by first | omega | exact Nat.le_refl _)) (by first | assumption | omega)) (cwV 1 hts (lw_V q713 q487 q488 q60 q489) rfl rfl rfl hdV_J2_get ⟨Nat.le_of_ble_eq_true rfl, Nat.le_of_ble_eq_true rfl⟩) (xpreV (xrecv hK (xw_4 hR) rfl) hWK hS hR) rfl rfl hl.1 rfl (lv_room (Nat.le_of_ble_eq_true rfl)) dX8_owes_16 ⟨Nat.le_of_ble_eq_true rfl, Nat.le_of_ble_eq_true rfl⟩) ?_
  refine x_castO F hK rfl (xw_21 hR (xi.up (xi_of (hW.mem (e := en) (by first | assumption | omega))) (by first | omega | exact Nat.le_refl _)).lt) (hts _ q714) dX8_owes_19 ?_
  refine lv_dup hx hb dX8_owes_22 rfl ?_
  refine g_X8_90 F hWK g hK (xw_21 hR (xi.up (xi_of (hW.mem (e := en) (by first | assumption | omega))) (by first | omega | exact Nat.le_refl _)).lt) (v := .int (S.2.1 4 ((S.2.1 10 en 0).toNatClampNeg) 0)) rfl dX8_owes_23 ?_
  refine lv_iload_n hx hb dX8_owes_26 rfl (lv_at hl 1 rfl) ?_
  refine lv_iadd hx hb dX8_owes_27 ?_
  refine p_X8_90 F hWK g hK hS (xw_21 hR (xi.up (xi_of (hW.mem (e := en) (by first | assumption | omega))) (by first | omega | exact Nat.le_refl _)).lt) (xa_21 hR (xi.up (xi_of (hW.mem (e := en) (by first | assumption | omega))) (by first | omega | exact Nat.le_refl _)).lt) (v := .int ((S.2.1 4 ((S.2.1 10 en 0).toNatClampNeg) 0) + amount)) rfl rfl (Nat.le_of_ble_eq_true rfl) dX8_owes_28 (fun H locs hat hof hS => ?_)
  have hR := xs_21_1 hR (xi.up (xi_of (hW.mem (e := en) (by first | assumption | omega))) (by first | omega | exact Nat.le_refl _)).lt hof hat
  have e9 : xOwe S en amount = (sF (sF S 17 en 0 amount) 4 ((S.2.1 10 en 0).toNatClampNeg) 0 ((S.2.1 4 ((S.2.1 10 en 0).toNatClampNeg) 0) + amount)) := by simp [xOwe]
  exact xr_Cv hx hb hr hlocks (by show xRX G A (xOwe S en amount) ad z H; rw [e9]; exact hR) hS (by first | omega | decide) (by first | omega | decide) dX8_owes_31

set_option maxHeartbeats 4000000 in
theorem xX8_ends {l : Launch} {G : xG} {s0 : State} {b0 : Nat} (g1 : xG1 l G s0 b0) {A : Nat → Prop} {S : xS} {ad : Nat × Nat → Nat} {z : xZ} (en : Nat) (he : en < S.1 2 0) (hW : xW S) : Met l yX8_ends (ws_ yX8_ends cX8_ends 2 none) ({ frames := 3, cells := 0, slots := 0, locals := 64 } : Room) (xP s0 A [.ref (ad (23, en))] (fun H => xRX G A S ad z H)) (xQc none (fun _ H => xRX G A (xEnds S en) ad z H) A) 0 0 A := by
  refine Met.ofW (cc := cX8_ends) (maxL := 2) (ret := none) (by decide) rfl ?_
  intro p e s m args below meth c s₁ B hml hv
  obtain ⟨rfl, hWK, hR⟩ := hv
  have g := g1.1
  have hx := B.exec
  have hb := B.bytes
  have hr := B.returns
  have hts := atoms_spec (ws := ws_ yX8_ends cX8_ends 2 none) B.pre
  have hts : ∀ w ∈ lw_all, w.before _ s = true := fun w h => hts w (List.mem_cons_of_mem _ h)
  have hown : s.vm.findClass "Lendlathe$Entry" = some m.cls := findClass_of_methodNamed B.named
  have hlocks := B.notSynchronized
  have hK := hWK.K g
  have F : CallFix p m c cX8_ends 2 s _ lw_all "Lendlathe$Entry" := ⟨hx, hb, hml, hown, hts⟩
  have hS : va_S A s.heap s.heap [] := va_S.rf
  have hl := lv_entry ([.ref (ad (23, en))]) (n := 2) (Nat.le_of_ble_eq_true rfl)
  rw [lg_entry_eq]
  generalize (lg_sl ([.ref (ad (23, en))]) ++ List.replicate (2 - (lg_sl ([.ref (ad (23, en))])).length) Slot.unset).toArray = ls at hl ⊢
  have hl : lv_has ls 2 [(0, .ref (ad (23, en)))] := hl
  have hn0 := hW.1.1
  have hn1 := hW.1.2.1
  have hn2 := hW.1.2.2.1
  have hn3 := hW.1.2.2.2.1
  have hn4 := hW.1.2.2.2.2
  have hc5 := hW.cut en
  refine lv_aload_n hx hb dX8_ends_0 rfl (lv_at hl 0 rfl) ?_
  refine lv_bipush (v := 99) hx hb dX8_ends_1 (by decide) ?_
  refine p_X8_26 F hK hS (xw_23 hR he) (xa_23 hR he) (v := .int 99) rfl rfl (Nat.le_of_ble_eq_true rfl) dX8_ends_3 (fun H locs hat hof hS => ?_)
  have hR := xs_23_6 hR he hof hat
  refine lv_iconst (v := 0) hx hb dX8_ends_6 (by decide) ?_
  refine lv_istore_n (lv' := [(1, .int 0), (0, .ref (ad (23, en)))]) hx hb dX8_ends_7 rfl hl (by decide) rfl (fun ls hl => ?_)
  have L8 : ∀ (n : Nat) (k : Nat) (S1 : xS), S.1 6 en - k < n → (k ≤ S.1 6 en) → (S1.1 = S.1) → (xW S1) → (∀ q, S1.2.1 18 q = S.2.1 18 q) → (∀ q, S1.2.1 19 q = S.2.1 19 q) → (S1 = xEndsN S en k) → ∀ (H : Heap) (locs : List Loc), xRX G A S1 ad z H → va_S A s.heap H locs → ∀ (ls : Array Slot), lv_has ls 2 [(1, .int (nI k)), (0, .ref (ad (23, en)))] → W p l e (headSpec (ws_ yX8_ends cX8_ends 2 none) ({ frames := 3, cells := 0, slots := 0, locals := 64 } : Room)).room s m ([.ref (ad (23, en))] : List Value).toArray below meth c H locs 0 0 (MQ below (xQc none (fun _ H => xRX G A (xEnds S en) ad z H) A) ([.ref (ad (23, en))] : List Value).toArray s 0 0 A) (F0 m 8 ls []) := by
    intro n8
    induction n8 with
    | zero =>
      intro k S1 hn8
      exact absurd hn8 (Nat.not_lt_zero _)
    | succ n8 ih8 =>
      intro k S1 hn8 hk hN hWs hbr hle9 eS H locs hR hS ls hl
      have hN2 : S1.1 2 0 = S.1 2 0 := (by rw [hN])
      have hN6 : S1.1 6 en = S.1 6 en := (by rw [hN])
      have hN3 : S1.1 3 0 = S.1 3 0 := (by rw [hN])
      refine lv_iload_n hx hb dX8_ends_8 rfl (lv_at hl 0 rfl) ?_
      refine lv_aload_n hx hb dX8_ends_9 rfl (lv_at hl 1 rfl) ?_
      refine g_X8_33 F hK (xw_23 hR (by omega)) (v := .int (nI (S1.1 6 en))) rfl dX8_ends_10 ?_
      refine xn_ge (tgt := 57) k (S1.1 6 en) rfl rfl (by omega) (by omega) hx hb dX8_ends_13 (by decide) (fun c_13 => ?_) (fun c_13 => ?_)
      · have n_13 := Nat.not_lt.mpr c_13
        refine lv_aload_n hx hb dX8_ends_57 rfl (lv_at hl 1 rfl) ?_
        refine lv_iconst (v := 0) hx hb dX8_ends_58 (by decide) ?_
        refine x_topi (show (0 : Int32) = nI 0 by decide) ?_
        refine p_X8_33 F hK hS (xw_23 hR (by omega)) (xa_23 hR (by omega)) (v := .int (nI 0)) rfl rfl (Nat.le_of_ble_eq_true rfl) dX8_ends_59 (fun H locs hat hof hS => ?_)
        have hR := xs_23_8 hR (by omega) hof hat
        have hk9 : k = S.1 6 en := (by omega)
        subst hk9
        have e9 : xEnds S en = (sN S1 6 en 0) := by simp [xEnds, c_13, n_13, eS]
        exact xr_Cv hx hb hr hlocks (by show xRX G A (xEnds S en) ad z H; rw [e9]; exact hR) hS (by first | omega | decide) (by first | omega | decide) dX8_ends_62
      · have n_13 := Nat.not_le.mpr c_13
        refine lv_aload_n hx hb dX8_ends_16 rfl (lv_at hl 1 rfl) ?_
        refine g_X8_3 F hK (xw_23 hR (by omega)) (v := .ref (ad (0, 0))) rfl dX8_ends_17 ?_
        refine g_X8_40 F hWK g hK (xw_0 hR) (v := .ref (ad (6, 0))) rfl dX8_ends_20 ?_
        refine lv_aload_n hx hb dX8_ends_23 rfl (lv_at hl 1 rfl) ?_
        refine g_X8_15 F hK (xw_23 hR (by omega)) (v := .ref (ad (24, en))) rfl dX8_ends_24 ?_
        refine lv_iload_n hx hb dX8_ends_27 rfl (lv_at hl 0 rfl) ?_
        refine x_iald hx hb hK (xw_24 hR (by omega)) (v := .int (S1.2.1 18 en k)) (xi_nI (n := 5) (by omega) (by omega)) (rfl) dX8_ends_28 ?_
        refine xc_P (va_runV (As := [.int (S1.2.1 18 en k)]) (rest := []) F (xJ2_get_26 g1 (A := A) (S := S1) (ad := ad) (z := z) (xi.up (xi_of (hWs.bar (e := en) (k := k) (by first | assumption | omega) (by first | assumption | omega))) (by first | omega | exact Nat.le_refl _)) (by first | assumption | omega)) (cwV 1 hts (lw_V q713 q487 q488 q60 q489) rfl rfl rfl hdV_J2_get ⟨Nat.le_of_ble_eq_true rfl, Nat.le_of_ble_eq_true rfl⟩) (xpreV (xrecv hK (xw_6 hR) rfl) hWK hS hR) rfl rfl hl.1 rfl (lv_room (Nat.le_of_ble_eq_true rfl)) dX8_ends_29 ⟨Nat.le_of_ble_eq_true rfl, Nat.le_of_ble_eq_true rfl⟩) ?_
        refine x_castO F hK rfl (xw_26 hR (xi.up (xi_of (hWs.bar (e := en) (k := k) (by first | assumption | omega) (by first | assumption | omega))) (by first | omega | exact Nat.le_refl _)).lt) (hts _ q897) dX8_ends_32 ?_
        refine lv_dup hx hb dX8_ends_35 rfl ?_
        refine g_X8_93 F hWK g hK (xw_26 hR (xi.up (xi_of (hWs.bar (e := en) (k := k) (by first | assumption | omega) (by first | assumption | omega))) (by first | omega | exact Nat.le_refl _)).lt) (v := .int (S1.2.1 22 ((S1.2.1 18 en k).toNatClampNeg) 0)) rfl dX8_ends_36 ?_
        refine lv_aload_n hx hb dX8_ends_39 rfl (lv_at hl 1 rfl) ?_
        refine g_X8_19 F hK (xw_23 hR (by omega)) (v := .ref (ad (25, en))) rfl dX8_ends_40 ?_
        refine lv_iload_n hx hb dX8_ends_43 rfl (lv_at hl 0 rfl) ?_
        refine x_iald hx hb hK (xw_25 hR (by omega)) (v := .int (S1.2.1 19 en k)) (xi_nI (n := 5) (by omega) (by omega)) (rfl) dX8_ends_44 ?_
        refine lv_iconst (v := 3) hx hb dX8_ends_45 (by decide) ?_
        refine lv_iadd hx hb dX8_ends_46 ?_
        refine lv_iadd hx hb dX8_ends_47 ?_
        refine p_X8_93 F hWK g hK hS (xw_26 hR (xi.up (xi_of (hWs.bar (e := en) (k := k) (by first | assumption | omega) (by first | assumption | omega))) (by first | omega | exact Nat.le_refl _)).lt) (xa_26 hR (xi.up (xi_of (hWs.bar (e := en) (k := k) (by first | assumption | omega) (by first | assumption | omega))) (by first | omega | exact Nat.le_refl _)).lt) (v := .int ((S1.2.1 22 ((S1.2.1 18 en k).toNatClampNeg) 0) + ((S1.2.1 19 en k) + 3))) rfl rfl (Nat.le_of_ble_eq_true rfl) dX8_ends_48 (fun H locs hat hof hS => ?_)
        have hR := xs_26_2 hR (xi.up (xi_of (hWs.bar (e := en) (k := k) (by first | assumption | omega) (by first | assumption | omega))) (by first | omega | exact Nat.le_refl _)).lt hof hat
        refine lv_iinc (v := nI (k + 1)) (lv' := [(1, .int (nI (k + 1))), (0, .ref (ad (23, en)))]) hx hb dX8_ends_51 hl (k := 0) rfl (nI_1 _) (by decide) rfl (fun ls hl => ?_)
        refine lv_goto (tgt := 8) hx hb dX8_ends_54 (by decide) ?_
        exact ih8 (k + 1) (sF S1 22 ((S1.2.1 18 en k).toNatClampNeg) 0 ((S1.2.1 22 ((S1.2.1 18 en k).toNatClampNeg) 0) + ((S1.2.1 19 en k) + 3))) (by omega) (by omega) hN (xW_F hWs 22 _ 0 _ (by decide)) hbr hle9 (by rw [xEndsN, ← eS, ← hbr, ← hle9]) _ _ hR hS ls (lv_sub hl [0, 1] rfl)
  exact L8 (S.1 6 en + 1) 0 (sF S 16 en 0 99) (by omega) (Nat.zero_le _) rfl (xW_16 hW en rfl) (fun _ => rfl) (fun _ => rfl) rfl _ _ hR hS ls (lv_sub hl [0, 1] rfl)

