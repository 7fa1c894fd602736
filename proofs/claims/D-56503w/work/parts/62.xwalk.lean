/-! contracts (printed by gen/mx2.py) -/
set_option maxRecDepth 100000
set_option maxHeartbeats 4000000 in
theorem xX3_hasNext {l : Launch} {G : xG} {s0 : State} {b0 : Nat} (g1 : xG1 l G s0 b0) {A : Nat → Prop} {S : xS} {ad : Nat × Nat → Nat} {z : xZ} : Met l yX3_hasNext (ws_ yX3_hasNext cX3_hasNext 1 (some .boolean)) ({ frames := 0, cells := 0, slots := 0, locals := 0 } : Room) (xP s0 A [.ref (ad (10, 0))] (fun H => xRX G A S ad z H)) (xQp (some (.int (bI (decide (z.2.2 < z.2.1)))))) 0 0 (fun _ => False) := by
  refine Met.ofW (cc := cX3_hasNext) (maxL := 1) (ret := (some .boolean)) (by decide) rfl ?_
  intro p e s m args below meth c s₁ B hml hv
  obtain ⟨rfl, hWK, hR⟩ := hv
  have g := g1.1
  have hx := B.exec
  have hb := B.bytes
  have hr := B.returns
  have hts := atoms_spec (ws := ws_ yX3_hasNext cX3_hasNext 1 (some .boolean)) B.pre
  have hts : ∀ w ∈ lw_all, w.before _ s = true := fun w h => hts w (List.mem_cons_of_mem _ h)
  have hown : s.vm.findClass "Lendlathe$Walk" = some m.cls := findClass_of_methodNamed B.named
  have hlocks := B.notSynchronized
  have hK := hWK.K g
  have F : CallFix p m c cX3_hasNext 1 s _ lw_all "Lendlathe$Walk" := ⟨hx, hb, hml, hown, hts⟩
  have hS : va_S A s.heap s.heap [] := va_S.rf
  have hl := lv_entry ([.ref (ad (10, 0))]) (n := 1) (Nat.le_of_ble_eq_true rfl)
  rw [lg_entry_eq]
  generalize (lg_sl ([.ref (ad (10, 0))]) ++ List.replicate (1 - (lg_sl ([.ref (ad (10, 0))])).length) Slot.unset).toArray = ls at hl ⊢
  have hl : lv_has ls 1 [(0, .ref (ad (10, 0)))] := hl
  refine lv_aload_n hx hb dX3_hasNext_0 rfl (lv_at hl 0 rfl) ?_
  refine g_X3_56 F hK (xw_10 hR) (v := .int z.2.2) rfl dX3_hasNext_1 ?_
  refine lv_aload_n hx hb dX3_hasNext_4 rfl (lv_at hl 0 rfl) ?_
  refine g_X3_21 F hK (xw_10 hR) (v := .int z.2.1) rfl dX3_hasNext_5 ?_
  refine lv_icmp_ge (tgt := 15) hx hb dX3_hasNext_8 (by decide) (fun c_8 => ?_) (fun c_8 => ?_)
  · have n_8 := Int32.not_lt.mpr c_8
    refine lv_iconst (v := 0) hx hb dX3_hasNext_15 (by decide) ?_
    exact xr_Pz hx hb hr hlocks ((bI_f (by first | rfl | simp [Int32.not_lt, c_8, n_8])).symm) dX3_hasNext_16
  · have n_8 := Int32.not_le.mp c_8
    refine lv_iconst (v := 1) hx hb dX3_hasNext_11 (by decide) ?_
    refine lv_goto (tgt := 16) hx hb dX3_hasNext_12 (by decide) ?_
    exact xr_Pz hx hb hr hlocks ((bI_t (by first | rfl | simp [Int32.not_lt, c_8, n_8])).symm) dX3_hasNext_16

set_option maxHeartbeats 4000000 in
theorem xX3_next_2 {l : Launch} {G : xG} {s0 : State} {b0 : Nat} (g1 : xG1 l G s0 b0) {A : Nat → Prop} {S : xS} {ad : Nat × Nat → Nat} {z : xZ} (j en : Nat) (L : List Nat) (hrow : xRow ad z L) (hj : z.2.2 = nI j) (he : L[j]? = some en) (hen : en < S.1 2 0) (hlen : L.length ≤ 150) : Met l yX3_next_2 (ws_ yX3_next_2 cX3_next_2 2 (some (.object "Lendlathe$Entry"))) ({ frames := 0, cells := 0, slots := 0, locals := 0 } : Room) (xP s0 A [.ref (ad (10, 0))] (fun H => xRX G A S ad z H)) (xQc (some (.ref (ad (23, en)))) (fun _ H => xRX G A S ad (z.1, z.2.1, nI (j + 1)) H) A) 0 0 A := by
  refine Met.ofW (cc := cX3_next_2) (maxL := 2) (ret := (some (.object "Lendlathe$Entry"))) (by decide) rfl ?_
  intro p e s m args below meth c s₁ B hml hv
  obtain ⟨rfl, hWK, hR⟩ := hv
  have g := g1.1
  have hx := B.exec
  have hb := B.bytes
  have hr := B.returns
  have hts := atoms_spec (ws := ws_ yX3_next_2 cX3_next_2 2 (some (.object "Lendlathe$Entry"))) B.pre
  have hts : ∀ w ∈ lw_all, w.before _ s = true := fun w h => hts w (List.mem_cons_of_mem _ h)
  have hown : s.vm.findClass "Lendlathe$Walk" = some m.cls := findClass_of_methodNamed B.named
  have hlocks := B.notSynchronized
  have hK := hWK.K g
  have F : CallFix p m c cX3_next_2 2 s _ lw_all "Lendlathe$Walk" := ⟨hx, hb, hml, hown, hts⟩
  have hS : va_S A s.heap s.heap [] := va_S.rf
  have hl := lv_entry ([.ref (ad (10, 0))]) (n := 2) (Nat.le_of_ble_eq_true rfl)
  rw [lg_entry_eq]
  generalize (lg_sl ([.ref (ad (10, 0))]) ++ List.replicate (2 - (lg_sl ([.ref (ad (10, 0))])).length) Slot.unset).toArray = ls at hl ⊢
  have hl : lv_has ls 2 [(0, .ref (ad (10, 0)))] := hl
  have hjl : j < L.length := (List.getElem?_eq_some_iff.mp he).1
  refine lv_aload_n hx hb dX3_next_2_0 rfl (lv_at hl 0 rfl) ?_
  refine g_X3_56 F hK (xw_10 hR) (v := .int z.2.2) rfl dX3_next_2_1 ?_
  refine lv_aload_n hx hb dX3_next_2_4 rfl (lv_at hl 0 rfl) ?_
  refine g_X3_21 F hK (xw_10 hR) (v := .int z.2.1) rfl dX3_next_2_5 ?_
  refine lv_icmp_lt (tgt := 19) hx hb dX3_next_2_8 (by decide) (fun c_8 => ?_) (fun c_8 => ?_)
  · have n_8 := Int32.not_le.mpr c_8
    refine lv_aload_n hx hb dX3_next_2_19 rfl (lv_at hl 0 rfl) ?_
    refine g_X3_17 F hK (xw_10 hR) (v := .ref (ad (28, 0))) rfl dX3_next_2_20 ?_
    refine lv_aload_n hx hb dX3_next_2_23 rfl (lv_at hl 0 rfl) ?_
    refine g_X3_56 F hK (xw_10 hR) (v := .int z.2.2) rfl dX3_next_2_24 ?_
    refine x_aald hx hb hK (xw_28 hR) rfl rfl (v := .ref (ad (23, en))) (by rw [hj]; exact xi_nI (by omega) (by omega)) ((hrow.2 j en he)) dX3_next_2_27 ?_
    refine lv_astore_n (lv' := [(1, .ref (ad (23, en))), (0, .ref (ad (10, 0)))]) hx hb dX3_next_2_28 rfl hl (by decide) rfl (fun ls hl => ?_)
    refine lv_aload_n hx hb dX3_next_2_29 rfl (lv_at hl 1 rfl) ?_
    refine lv_dup hx hb dX3_next_2_30 rfl ?_
    refine g_X3_56 F hK (xw_10 hR) (v := .int z.2.2) rfl dX3_next_2_31 ?_
    refine lv_iconst (v := 1) hx hb dX3_next_2_34 (by decide) ?_
    refine lv_iadd hx hb dX3_next_2_35 ?_
    refine p_X3_56 F hK hS (xw_10 hR) (xa_10 hR) (v := .int (z.2.2 + 1)) rfl rfl (Nat.le_of_ble_eq_true rfl) dX3_next_2_36 (fun H locs hat hof hS => ?_)
    have hR := xs_10_2 hR hof hat
    refine lv_aload_n hx hb dX3_next_2_39 rfl (lv_at hl 0 rfl) ?_
    have e9 : z.2.2 + 1 = nI (j + 1) := by rw [hj]; exact nI_1 _
    exact xr_Ca hx hb hr hlocks (by first | exact Or.inl ⟨_, rfl⟩ | exact Or.inr ⟨_, rfl⟩) (by first | exact Or.inl rfl | exact Or.inr ⟨_, rfl⟩) (by show xRX G A S ad (z.1, z.2.1, nI (j + 1)) H; rw [← e9]; exact hR) hS (by first | omega | decide) (by first | omega | decide) dX3_next_2_40
  · exact absurd (by rw [hj, hrow.1]; exact (nI_ltI (by omega) (by omega)).mpr hjl) c_8

set_option maxHeartbeats 4000000 in
theorem xX3_next {l : Launch} {G : xG} {s0 : State} {b0 : Nat} (g1 : xG1 l G s0 b0) {A : Nat → Prop} {S : xS} {ad : Nat × Nat → Nat} {z : xZ} (j en : Nat) (L : List Nat) (hrow : xRow ad z L) (hj : z.2.2 = nI j) (he : L[j]? = some en) (hen : en < S.1 2 0) (hlen : L.length ≤ 150) : Met l yX3_next (ws_ yX3_next cX3_next 1 (some (.object "java/lang/Object"))) ({ frames := 1, cells := 0, slots := 0, locals := 21 } : Room) (xP s0 A [.ref (ad (10, 0))] (fun H => xRX G A S ad z H)) (xQc (some (.ref (ad (23, en)))) (fun _ H => xRX G A S ad (z.1, z.2.1, nI (j + 1)) H) A) 0 0 A := by
  refine Met.ofW (cc := cX3_next) (maxL := 1) (ret := (some (.object "java/lang/Object"))) (by decide) rfl ?_
  intro p e s m args below meth c s₁ B hml hv
  obtain ⟨rfl, hWK, hR⟩ := hv
  have g := g1.1
  have hx := B.exec
  have hb := B.bytes
  have hr := B.returns
  have hts := atoms_spec (ws := ws_ yX3_next cX3_next 1 (some (.object "java/lang/Object"))) B.pre
  have hts : ∀ w ∈ lw_all, w.before _ s = true := fun w h => hts w (List.mem_cons_of_mem _ h)
  have hown : s.vm.findClass "Lendlathe$Walk" = some m.cls := findClass_of_methodNamed B.named
  have hlocks := B.notSynchronized
  have hK := hWK.K g
  have F : CallFix p m c cX3_next 1 s _ lw_all "Lendlathe$Walk" := ⟨hx, hb, hml, hown, hts⟩
  have hS : va_S A s.heap s.heap [] := va_S.rf
  have hl := lv_entry ([.ref (ad (10, 0))]) (n := 1) (Nat.le_of_ble_eq_true rfl)
  rw [lg_entry_eq]
  generalize (lg_sl ([.ref (ad (10, 0))]) ++ List.replicate (1 - (lg_sl ([.ref (ad (10, 0))])).length) Slot.unset).toArray = ls at hl ⊢
  have hl : lv_has ls 1 [(0, .ref (ad (10, 0)))] := hl
  refine lv_aload_n hx hb dX3_next_0 rfl (lv_at hl 0 rfl) ?_
  refine xc_C (va_runV (As := []) (rest := []) F (xX3_next_2 g1 (A := A) (S := S) (ad := ad) (z := z) j en L hrow hj he hen hlen) (cwV 0 hts (lw_V q566 q567 q568 q77 q569) rfl rfl rfl hdV_X3_next_2 ⟨Nat.le_of_ble_eq_true rfl, Nat.le_of_ble_eq_true rfl⟩) (xpreV (xrecv hK (xw_10 hR) rfl) hWK hS hR) rfl rfl hl.1 rfl (lv_room (Nat.le_of_ble_eq_true rfl)) dX3_next_1 ⟨Nat.le_of_ble_eq_true rfl, Nat.le_of_ble_eq_true rfl⟩) hS (fun H locs hR1 hz hk hS => ?_)
  have hR := hR1
  exact xr_Ca hx hb hr hlocks (by first | exact Or.inl ⟨_, rfl⟩ | exact Or.inr ⟨_, rfl⟩) (by first | exact Or.inl rfl | exact Or.inr ⟨_, rfl⟩) (hR) hS (by first | omega | decide) (by first | omega | decide) dX3_next_4

set_option maxHeartbeats 4000000 in
theorem xX3_iterator {l : Launch} {G : xG} {s0 : State} {b0 : Nat} (g1 : xG1 l G s0 b0) {A : Nat → Prop} {S : xS} {ad : Nat × Nat → Nat} {z : xZ} : Met l yX3_iterator (ws_ yX3_iterator cX3_iterator 1 (some (.object "java/util/Iterator"))) ({ frames := 0, cells := 0, slots := 0, locals := 0 } : Room) (xP s0 A [.ref (ad (10, 0))] (fun H => xRX G A S ad z H)) (xQc (some (.ref (ad (10, 0)))) (fun _ H => xRX G A S ad (z.1, z.2.1, 0) H) A) 0 0 A := by
  refine Met.ofW (cc := cX3_iterator) (maxL := 1) (ret := (some (.object "java/util/Iterator"))) (by decide) rfl ?_
  intro p e s m args below meth c s₁ B hml hv
  obtain ⟨rfl, hWK, hR⟩ := hv
  have g := g1.1
  have hx := B.exec
  have hb := B.bytes
  have hr := B.returns
  have hts := atoms_spec (ws := ws_ yX3_iterator cX3_iterator 1 (some (.object "java/util/Iterator"))) B.pre
  have hts : ∀ w ∈ lw_all, w.before _ s = true := fun w h => hts w (List.mem_cons_of_mem _ h)
  have hown : s.vm.findClass "Lendlathe$Walk" = some m.cls := findClass_of_methodNamed B.named
  have hlocks := B.notSynchronized
  have hK := hWK.K g
  have F : CallFix p m c cX3_iterator 1 s _ lw_all "Lendlathe$Walk" := ⟨hx, hb, hml, hown, hts⟩
  have hS : va_S A s.heap s.heap [] := va_S.rf
  have hl := lv_entry ([.ref (ad (10, 0))]) (n := 1) (Nat.le_of_ble_eq_true rfl)
  rw [lg_entry_eq]
  generalize (lg_sl ([.ref (ad (10, 0))]) ++ List.replicate (1 - (lg_sl ([.ref (ad (10, 0))])).length) Slot.unset).toArray = ls at hl ⊢
  have hl : lv_has ls 1 [(0, .ref (ad (10, 0)))] := hl
  refine lv_aload_n hx hb dX3_iterator_0 rfl (lv_at hl 0 rfl) ?_
  refine lv_iconst (v := 0) hx hb dX3_iterator_1 (by decide) ?_
  refine p_X3_56 F hK hS (xw_10 hR) (xa_10 hR) (v := .int 0) rfl rfl (Nat.le_of_ble_eq_true rfl) dX3_iterator_2 (fun H locs hat hof hS => ?_)
  have hR := xs_10_2 hR hof hat
  refine lv_aload_n hx hb dX3_iterator_5 rfl (lv_at hl 0 rfl) ?_
  exact xr_Ca hx hb hr hlocks (by first | exact Or.inl ⟨_, rfl⟩ | exact Or.inr ⟨_, rfl⟩) (by first | exact Or.inl rfl | exact Or.inr ⟨_, rfl⟩) (hR) hS (by first | omega | decide) (by first | omega | decide) dX3_iterator_6

set_option maxHeartbeats 4000000 in
theorem xX3_sorts {l : Launch} {G : xG} {s0 : State} {b0 : Nat} (g1 : xG1 l G s0 b0) {A : Nat → Prop} {S : xS} {ad : Nat × Nat → Nat} {z : xZ} (en : Nat) (L : List Nat) (he : en < S.1 2 0) (hrow : xRow ad z L) (hLlt : ∀ k x : Nat, L[k]? = some x → x < S.1 2 0) (hlen : L.length < 150) : Met l yX3_sorts (ws_ yX3_sorts cX3_sorts 3 none) ({ frames := 0, cells := 0, slots := 0, locals := 0 } : Room) (xP s0 A [.ref (ad (10, 0)), .ref (ad (23, en))] (fun H => xRX G A S ad z H)) (xQc none (fun _ H => ∃ z9, xRX G A S ad z9 H ∧ xRow ad z9 (xIns S.2.1 L en)) A) 0 0 A := by
  refine Met.ofW (cc := cX3_sorts) (maxL := 3) (ret := none) (by decide) rfl ?_
  intro p e s m args below meth c s₁ B hml hv
  obtain ⟨rfl, hWK, hR⟩ := hv
  have g := g1.1
  have hx := B.exec
  have hb := B.bytes
  have hr := B.returns
  have hts := atoms_spec (ws := ws_ yX3_sorts cX3_sorts 3 none) B.pre
  have hts : ∀ w ∈ lw_all, w.before _ s = true := fun w h => hts w (List.mem_cons_of_mem _ h)
  have hown : s.vm.findClass "Lendlathe$Walk" = some m.cls := findClass_of_methodNamed B.named
  have hlocks := B.notSynchronized
  have hK := hWK.K g
  have F : CallFix p m c cX3_sorts 3 s _ lw_all "Lendlathe$Walk" := ⟨hx, hb, hml, hown, hts⟩
  have hS : va_S A s.heap s.heap [] := va_S.rf
  have hl := lv_entry ([.ref (ad (10, 0)), .ref (ad (23, en))]) (n := 3) (Nat.le_of_ble_eq_true rfl)
  rw [lg_entry_eq]
  generalize (lg_sl ([.ref (ad (10, 0)), .ref (ad (23, en))]) ++ List.replicate (3 - (lg_sl ([.ref (ad (10, 0)), .ref (ad (23, en))])).length) Slot.unset).toArray = ls at hl ⊢
  have hl : lv_has ls 3 [(0, .ref (ad (10, 0))), (1, .ref (ad (23, en)))] := hl
  refine lv_aload_n hx hb dX3_sorts_0 rfl (lv_at hl 0 rfl) ?_
  refine g_X3_21 F hK (xw_10 hR) (v := .int z.2.1) rfl dX3_sorts_1 ?_
  refine x_topi hrow.1 ?_
  refine lv_istore_n (lv' := [(2, .int (nI L.length)), (0, .ref (ad (10, 0))), (1, .ref (ad (23, en)))]) hx hb dX3_sorts_4 rfl hl (by decide) rfl (fun ls hl => ?_)
  have L5 : ∀ (n : Nat) (pl : Nat) (z1 : xZ), pl < n → (z1.1 = xShift z pl L.length) → (z1.2 = z.2) → (pl ≤ L.length) → (xPl (fun k => S.2.1 13 (L.getD k 0) 0) (S.2.1 13 en 0) pl = xPl (fun k => S.2.1 13 (L.getD k 0) 0) (S.2.1 13 en 0) L.length) → ∀ (H : Heap) (locs : List Loc), xRX G A S ad z1 H → va_S A s.heap H locs → ∀ (ls : Array Slot), lv_has ls 3 [(2, .int (nI pl)), (0, .ref (ad (10, 0))), (1, .ref (ad (23, en)))] → W p l e (headSpec (ws_ yX3_sorts cX3_sorts 3 none) ({ frames := 0, cells := 0, slots := 0, locals := 0 } : Room)).room s m ([.ref (ad (10, 0)), .ref (ad (23, en))] : List Value).toArray below meth c H locs 0 0 (MQ below (xQc none (fun _ H => ∃ z9, xRX G A S ad z9 H ∧ xRow ad z9 (xIns S.2.1 L en)) A) ([.ref (ad (10, 0)), .ref (ad (23, en))] : List Value).toArray s 0 0 A) (F0 m 5 ls []) := by
    intro n5
    induction n5 with
    | zero =>
      intro pl z1 hn5
      exact absurd hn5 (Nat.not_lt_zero _)
    | succ n5 ih5 =>
      intro pl z1 hn5 hz1 hz2 hle hP H locs hR hS ls hl
      refine lv_iload_n hx hb dX3_sorts_5 rfl (lv_at hl 0 rfl) ?_
      refine lv_if_le (tgt := 47) hx hb dX3_sorts_6 (by decide) (fun c_6 => ?_) (fun c_6 => ?_)
      · have n_6 := Int32.not_lt.mpr c_6
        have hp0 := sort_zero (by omega) c_6
        subst hp0
        have hpl : 0 = xPl (fun k => S.2.1 13 (L.getD k 0) 0) (S.2.1 13 en 0) L.length := by rw [← hP]; rfl
        refine lv_aload_n hx hb dX3_sorts_47 rfl (lv_at hl 1 rfl) ?_
        refine g_X3_17 F hK (xw_10 hR) (v := .ref (ad (28, 0))) rfl dX3_sorts_48 ?_
        refine lv_iload_n hx hb dX3_sorts_51 rfl (lv_at hl 0 rfl) ?_
        refine lv_aload_n hx hb dX3_sorts_52 rfl (lv_at hl 2 rfl) ?_
        refine x_aastO hx hb hK hS (xw_28 hR) (xa_28 hR) (ci := 7) rfl rfl (xi_nI (n := 150) (by omega) (by omega)) (xw_23 hR he) dX3_sorts_53 (fun H locs hat hof hS => ?_)
        have hR := xs_28_a hR hof hat
        refine lv_aload_n hx hb dX3_sorts_54 rfl (lv_at hl 1 rfl) ?_
        refine lv_dup hx hb dX3_sorts_55 rfl ?_
        refine g_X3_21 F hK (xw_10 hR) (v := .int ((updV z1.1 0 (.ref (ad (23, en))), z1.2.1, z1.2.2).2.1)) rfl dX3_sorts_56 ?_
        refine lv_iconst (v := 1) hx hb dX3_sorts_59 (by decide) ?_
        refine lv_iadd hx hb dX3_sorts_60 ?_
        refine p_X3_21 F hK hS (xw_10 hR) (xa_10 hR) (v := .int (((updV z1.1 0 (.ref (ad (23, en))), z1.2.1, z1.2.2).2.1) + 1)) rfl rfl (Nat.le_of_ble_eq_true rfl) dX3_sorts_61 (fun H locs hat hof hS => ?_)
        have hR := xs_10_1 hR hof hat
        have e8 : ((updV z1.1 0 (.ref (ad (23, en))), z1.2.1, z1.2.2).1, ((updV z1.1 0 (.ref (ad (23, en))), z1.2.1, z1.2.2).2.1) + 1, (updV z1.1 0 (.ref (ad (23, en))), z1.2.1, z1.2.2).2.2) = (updV (xShift z (0) L.length) (0) (.ref (ad (23, en))), nI (L.length + 1), z.2.2) := by rw [hz1, hz2, hrow.1]; exact congrArg (fun q => (_, q, _)) (nI_1 _)
        exact xr_Cv hx hb hr hlocks (⟨_, by rw [← e8]; exact hR, xRow_ins hrow hpl _⟩) hS (by first | omega | decide) (by first | omega | decide) dX3_sorts_64
      · have n_6 := Int32.not_le.mp c_6
        obtain ⟨q, rfl⟩ : ∃ q, pl = q + 1 := ⟨pl - 1, by have := sort_pos c_6; omega⟩
        obtain ⟨x, hx9⟩ : ∃ x, L[q]? = some x := ⟨_, List.getElem?_eq_getElem (by omega)⟩
        have hxn := hLlt q x hx9
        have hgx : L.getD q 0 = x := by rw [List.getD_eq_getElem?_getD, hx9]; rfl
        refine lv_aload_n hx hb dX3_sorts_9 rfl (lv_at hl 1 rfl) ?_
        refine g_X3_17 F hK (xw_10 hR) (v := .ref (ad (28, 0))) rfl dX3_sorts_10 ?_
        refine lv_iload_n hx hb dX3_sorts_13 rfl (lv_at hl 0 rfl) ?_
        refine lv_iconst (v := 1) hx hb dX3_sorts_14 (by decide) ?_
        refine lv_isub hx hb dX3_sorts_15 ?_
        refine x_aald hx hb hK (xw_28 hR) rfl rfl (v := .ref (ad (23, x))) (by rw [nI_succ, Int32.add_sub_cancel]; exact xi_nI (by omega) (by omega)) ((by rw [hz1]; unfold xShift; rw [if_neg (by omega)]; exact hrow.2 q x hx9)) dX3_sorts_16 ?_
        refine g_X3_53 F hK (xw_23 hR hxn) (v := .int (S.2.1 13 x 0)) rfl dX3_sorts_17 ?_
        refine lv_aload_n hx hb dX3_sorts_20 rfl (lv_at hl 2 rfl) ?_
        refine g_X3_53 F hK (xw_23 hR he) (v := .int (S.2.1 13 en 0)) rfl dX3_sorts_21 ?_
        refine lv_icmp_le (tgt := 47) hx hb dX3_sorts_24 (by decide) (fun c_24 => ?_) (fun c_24 => ?_)
        · have n_24 := Int32.not_lt.mpr c_24
          have hpl : q + 1 = xPl (fun k => S.2.1 13 (L.getD k 0) 0) (S.2.1 13 en 0) L.length := by rw [← hP]; show _ = (if S.2.1 13 en 0 < S.2.1 13 (L.getD q 0) 0 then _ else q + 1); rw [if_neg (by rw [hgx]; exact n_24)]
          refine lv_aload_n hx hb dX3_sorts_47 rfl (lv_at hl 1 rfl) ?_
          refine g_X3_17 F hK (xw_10 hR) (v := .ref (ad (28, 0))) rfl dX3_sorts_48 ?_
          refine lv_iload_n hx hb dX3_sorts_51 rfl (lv_at hl 0 rfl) ?_
          refine lv_aload_n hx hb dX3_sorts_52 rfl (lv_at hl 2 rfl) ?_
          refine x_aastO hx hb hK hS (xw_28 hR) (xa_28 hR) (ci := 7) rfl rfl (xi_nI (n := 150) (by omega) (by omega)) (xw_23 hR he) dX3_sorts_53 (fun H locs hat hof hS => ?_)
          have hR := xs_28_a hR hof hat
          refine lv_aload_n hx hb dX3_sorts_54 rfl (lv_at hl 1 rfl) ?_
          refine lv_dup hx hb dX3_sorts_55 rfl ?_
          refine g_X3_21 F hK (xw_10 hR) (v := .int ((updV z1.1 (q + 1) (.ref (ad (23, en))), z1.2.1, z1.2.2).2.1)) rfl dX3_sorts_56 ?_
          refine lv_iconst (v := 1) hx hb dX3_sorts_59 (by decide) ?_
          refine lv_iadd hx hb dX3_sorts_60 ?_
          refine p_X3_21 F hK hS (xw_10 hR) (xa_10 hR) (v := .int (((updV z1.1 (q + 1) (.ref (ad (23, en))), z1.2.1, z1.2.2).2.1) + 1)) rfl rfl (Nat.le_of_ble_eq_true rfl) dX3_sorts_61 (fun H locs hat hof hS => ?_)
          have hR := xs_10_1 hR hof hat
          have e8 : ((updV z1.1 (q + 1) (.ref (ad (23, en))), z1.2.1, z1.2.2).1, ((updV z1.1 (q + 1) (.ref (ad (23, en))), z1.2.1, z1.2.2).2.1) + 1, (updV z1.1 (q + 1) (.ref (ad (23, en))), z1.2.1, z1.2.2).2.2) = (updV (xShift z (q + 1) L.length) (q + 1) (.ref (ad (23, en))), nI (L.length + 1), z.2.2) := by rw [hz1, hz2, hrow.1]; exact congrArg (fun q => (_, q, _)) (nI_1 _)
          exact xr_Cv hx hb hr hlocks (⟨_, by rw [← e8]; exact hR, xRow_ins hrow hpl _⟩) hS (by first | omega | decide) (by first | omega | decide) dX3_sorts_64
        · have n_24 := Int32.not_le.mp c_24
          refine lv_aload_n hx hb dX3_sorts_27 rfl (lv_at hl 1 rfl) ?_
          refine g_X3_17 F hK (xw_10 hR) (v := .ref (ad (28, 0))) rfl dX3_sorts_28 ?_
          refine lv_iload_n hx hb dX3_sorts_31 rfl (lv_at hl 0 rfl) ?_
          refine lv_aload_n hx hb dX3_sorts_32 rfl (lv_at hl 1 rfl) ?_
          refine g_X3_17 F hK (xw_10 hR) (v := .ref (ad (28, 0))) rfl dX3_sorts_33 ?_
          refine lv_iload_n hx hb dX3_sorts_36 rfl (lv_at hl 0 rfl) ?_
          refine lv_iconst (v := 1) hx hb dX3_sorts_37 (by decide) ?_
          refine lv_isub hx hb dX3_sorts_38 ?_
          refine x_aald hx hb hK (xw_28 hR) rfl rfl (v := .ref (ad (23, x))) (by rw [nI_succ, Int32.add_sub_cancel]; exact xi_nI (by omega) (by omega)) ((by rw [hz1]; unfold xShift; rw [if_neg (by omega)]; exact hrow.2 q x hx9)) dX3_sorts_39 ?_
          refine x_aastO hx hb hK hS (xw_28 hR) (xa_28 hR) (ci := 7) rfl rfl (xi_nI (n := 150) (by omega) (by omega)) (xw_23 hR hxn) dX3_sorts_40 (fun H locs hat hof hS => ?_)
          have hR := xs_28_a hR hof hat
          refine lv_iinc (v := nI q) (lv' := [(2, .int (nI q)), (0, .ref (ad (10, 0))), (1, .ref (ad (23, en)))]) hx hb dX3_sorts_41 hl (k := 0) rfl (pk_m1 _) (by decide) rfl (fun ls hl => ?_)
          refine lv_goto (tgt := 5) hx hb dX3_sorts_44 (by decide) ?_
          exact ih5 q (updV z1.1 (q + 1) (.ref (ad (23, x))), z1.2.1, z1.2.2) (by omega) (by rw [← xShift_s z q _ (by omega), ← hz1, hrow.2 q x hx9]) hz2 (by omega) (by rw [← hP]; show _ = (if S.2.1 13 en 0 < S.2.1 13 (L.getD q 0) 0 then _ else q + 1); rw [if_pos (by rw [hgx]; exact n_24)]) _ _ hR hS ls (lv_sub hl [0, 1, 2] rfl)
  exact L5 (L.length + 1) L.length z (by omega) (xShift_0 z _).symm rfl (Nat.le_refl _) rfl _ _ hR hS ls (lv_sub hl [0, 1, 2] rfl)

set_option maxHeartbeats 4000000 in
theorem xX3_over {l : Launch} {G : xG} {s0 : State} {b0 : Nat} (g1 : xG1 l G s0 b0) {A : Nat → Prop} {S : xS} {ad : Nat × Nat → Nat} {z : xZ} (machine on : Int32) (hW : xW S) : Met l yX3_over (ws_ yX3_over cX3_over 5 (some (.object "Lendlathe$Walk"))) ({ frames := 3, cells := 0, slots := 0, locals := 64 } : Room) (xP s0 A [.ref (ad (10, 0)), .int machine, .int on] (fun H => xRX G A S ad z H)) (xQc (some (.ref (ad (10, 0)))) (fun _ H => ∃ z9, xRX G A S ad z9 H ∧ xRow ad z9 (xOverN S.2.1 machine on (S.1 2 0))) A) 0 0 A := by
  refine Met.ofW (cc := cX3_over) (maxL := 5) (ret := (some (.object "Lendlathe$Walk"))) (by decide) rfl ?_
  intro p e s m args below meth c s₁ B hml hv
  obtain ⟨rfl, hWK, hR⟩ := hv
  have g := g1.1
  have hx := B.exec
  have hb := B.bytes
  have hr := B.returns
  have hts := atoms_spec (ws := ws_ yX3_over cX3_over 5 (some (.object "Lendlathe$Walk"))) B.pre
  have hts : ∀ w ∈ lw_all, w.before _ s = true := fun w h => hts w (List.mem_cons_of_mem _ h)
  have hown : s.vm.findClass "Lendlathe$Walk" = some m.cls := findClass_of_methodNamed B.named
  have hlocks := B.notSynchronized
  have hK := hWK.K g
  have F : CallFix p m c cX3_over 5 s _ lw_all "Lendlathe$Walk" := ⟨hx, hb, hml, hown, hts⟩
  have hS : va_S A s.heap s.heap [] := va_S.rf
  have hl := lv_entry ([.ref (ad (10, 0)), .int machine, .int on]) (n := 5) (Nat.le_of_ble_eq_true rfl)
  rw [lg_entry_eq]
  generalize (lg_sl ([.ref (ad (10, 0)), .int machine, .int on]) ++ List.replicate (5 - (lg_sl ([.ref (ad (10, 0)), .int machine, .int on])).length) Slot.unset).toArray = ls at hl ⊢
  have hl : lv_has ls 5 [(0, .ref (ad (10, 0))), (1, .int machine), (2, .int on)] := hl
  have hn0 := hW.1.1
  have hn1 := hW.1.2.1
  have hn2 := hW.1.2.2.1
  have hn3 := hW.1.2.2.2.1
  have hn4 := hW.1.2.2.2.2
  refine lv_aload_n hx hb dX3_over_0 rfl (lv_at hl 0 rfl) ?_
  refine lv_iconst (v := 0) hx hb dX3_over_1 (by decide) ?_
  refine p_X3_21 F hK hS (xw_10 hR) (xa_10 hR) (v := .int 0) rfl rfl (Nat.le_of_ble_eq_true rfl) dX3_over_2 (fun H locs hat hof hS => ?_)
  have hR := xs_10_1 hR hof hat
  refine lv_iconst (v := 0) hx hb dX3_over_5 (by decide) ?_
  refine lv_istore_n (lv' := [(3, .int 0), (0, .ref (ad (10, 0))), (1, .int machine), (2, .int on)]) hx hb dX3_over_6 rfl hl (by decide) rfl (fun ls hl => ?_)
  have L7 : ∀ (n : Nat) (k : Nat) (z1 : xZ), S.1 2 0 - k < n → (k ≤ S.1 2 0) → (xRow ad z1 (xOverN S.2.1 machine on k)) → ∀ (H : Heap) (locs : List Loc), xRX G A S ad z1 H → va_S A s.heap H locs → ∀ (ls : Array Slot), lv_has ls 5 [(3, .int (nI k)), (0, .ref (ad (10, 0))), (1, .int machine), (2, .int on)] → W p l e (headSpec (ws_ yX3_over cX3_over 5 (some (.object "Lendlathe$Walk"))) ({ frames := 3, cells := 0, slots := 0, locals := 64 } : Room)).room s m ([.ref (ad (10, 0)), .int machine, .int on] : List Value).toArray below meth c H locs 0 0 (MQ below (xQc (some (.ref (ad (10, 0)))) (fun _ H => ∃ z9, xRX G A S ad z9 H ∧ xRow ad z9 (xOverN S.2.1 machine on (S.1 2 0))) A) ([.ref (ad (10, 0)), .int machine, .int on] : List Value).toArray s 0 0 A) (F0 m 7 ls []) := by
    intro n7
    induction n7 with
    | zero =>
      intro k z1 hn7
      exact absurd hn7 (Nat.not_lt_zero _)
    | succ n7 ih7 =>
      intro k z1 hn7 hkn hrow H locs hR hS ls hl
      refine lv_iload_n hx hb dX3_over_7 rfl (lv_at hl 0 rfl) ?_
      refine lv_aload_n hx hb dX3_over_8 rfl (lv_at hl 1 rfl) ?_
      refine g_X3_3 F hK (xw_10 hR) (v := .ref (ad (0, 0))) rfl dX3_over_9 ?_
      refine g_X3_25 F hWK g hK (xw_0 hR) (v := .ref (ad (5, 0))) rfl dX3_over_12 ?_
      refine xc_P (va_runV (As := []) (rest := [.int (nI k)]) F (xJ2_size_23 g1 (A := A) (S := S) (ad := ad) (z := z1) ) (cwV 0 hts (lw_V q533 q511 q512 q60 q513) rfl rfl rfl hdV_J2_size ⟨Nat.le_of_ble_eq_true rfl, Nat.le_of_ble_eq_true rfl⟩) (xpreV (xrecv hK (xw_5 hR) rfl) hWK hS hR) rfl rfl hl.1 rfl (lv_room (Nat.le_of_ble_eq_true rfl)) dX3_over_15 ⟨Nat.le_of_ble_eq_true rfl, Nat.le_of_ble_eq_true rfl⟩) ?_
      refine xn_ge (tgt := 75) k (S.1 2 0) rfl rfl (by omega) (by omega) hx hb dX3_over_18 (by decide) (fun c_18 => ?_) (fun c_18 => ?_)
      · have n_18 := Nat.not_lt.mpr c_18
        refine lv_aload_n hx hb dX3_over_75 rfl (lv_at hl 1 rfl) ?_
        have hk9 : k = S.1 2 0 := (by omega)
        subst hk9
        exact xr_Ca hx hb hr hlocks (by first | exact Or.inl ⟨_, rfl⟩ | exact Or.inr ⟨_, rfl⟩) (by first | exact Or.inl rfl | exact Or.inr ⟨_, rfl⟩) (⟨_, hR, hrow⟩) hS (by first | omega | decide) (by first | omega | decide) dX3_over_76
      · have n_18 := Nat.not_le.mpr c_18
        refine lv_aload_n hx hb dX3_over_21 rfl (lv_at hl 1 rfl) ?_
        refine g_X3_3 F hK (xw_10 hR) (v := .ref (ad (0, 0))) rfl dX3_over_22 ?_
        refine g_X3_25 F hWK g hK (xw_0 hR) (v := .ref (ad (5, 0))) rfl dX3_over_25 ?_
        refine lv_iload_n hx hb dX3_over_28 rfl (lv_at hl 0 rfl) ?_
        refine xc_P (va_runV (As := [.int (nI k)]) (rest := []) F (xJ2_get_23 g1 (A := A) (S := S) (ad := ad) (z := z1) (xi_nI (n := (S.1 2 0)) (by omega) (by omega)) (by first | assumption | omega)) (cwV 1 hts (lw_V q534 q487 q488 q60 q489) rfl rfl rfl hdV_J2_get ⟨Nat.le_of_ble_eq_true rfl, Nat.le_of_ble_eq_true rfl⟩) (xpreV (xrecv hK (xw_5 hR) rfl) hWK hS hR) rfl rfl hl.1 rfl (lv_room (Nat.le_of_ble_eq_true rfl)) dX3_over_29 ⟨Nat.le_of_ble_eq_true rfl, Nat.le_of_ble_eq_true rfl⟩) ?_
        refine x_castO F hK rfl (xw_23 hR (xi_nI (n := (S.1 2 0)) (by omega) (by omega)).lt) (hts _ q465) dX3_over_32 ?_
        refine lv_astore (lv' := [(4, .ref (ad (23, k))), (3, .int (nI k)), (0, .ref (ad (10, 0))), (1, .int machine), (2, .int on)]) hx hb dX3_over_35 hl (by decide) rfl (fun ls hl => ?_)
        refine lv_aload hx hb dX3_over_37 (lv_at hl 0 rfl) ?_
        refine g_X3_39 F hK (xw_23 hR (xi_nI (n := (S.1 2 0)) (by omega) (by omega)).lt) (v := .int (S.2.1 11 k 0)) rfl dX3_over_39 ?_
        refine lv_iload_n hx hb dX3_over_42 rfl (lv_at hl 3 rfl) ?_
        refine lv_icmp_ne (tgt := 69) hx hb dX3_over_43 (by decide) (fun c_43 => ?_) (fun c_43 => ?_)
        · refine lv_iinc (v := nI (k + 1)) (lv' := [(3, .int (nI (k + 1))), (4, .ref (ad (23, k))), (0, .ref (ad (10, 0))), (1, .int machine), (2, .int on)]) hx hb dX3_over_69 hl (k := 1) rfl (nI_1 _) (by decide) rfl (fun ls hl => ?_)
          refine lv_goto (tgt := 7) hx hb dX3_over_72 (by decide) ?_
          exact ih7 (k + 1) z1 (by omega) (by omega) (by show xRow ad z1 (xOverN S.2.1 machine on (k + 1)); unfold xOverN; rw [if_neg (fun q => c_43 q.1)]; exact hrow) _ _ hR hS ls (lv_sub hl [0, 2, 3, 4] rfl)
        · refine lv_aload hx hb dX3_over_46 (lv_at hl 0 rfl) ?_
          refine g_X3_42 F hK (xw_23 hR (xi_nI (n := (S.1 2 0)) (by omega) (by omega)).lt) (v := .int (S.2.1 12 k 0)) rfl dX3_over_48 ?_
          refine lv_iload_n hx hb dX3_over_51 rfl (lv_at hl 4 rfl) ?_
          refine lv_icmp_ne (tgt := 69) hx hb dX3_over_52 (by decide) (fun c_52 => ?_) (fun c_52 => ?_)
          · refine lv_iinc (v := nI (k + 1)) (lv' := [(3, .int (nI (k + 1))), (4, .ref (ad (23, k))), (0, .ref (ad (10, 0))), (1, .int machine), (2, .int on)]) hx hb dX3_over_69 hl (k := 1) rfl (nI_1 _) (by decide) rfl (fun ls hl => ?_)
            refine lv_goto (tgt := 7) hx hb dX3_over_72 (by decide) ?_
            exact ih7 (k + 1) z1 (by omega) (by omega) (by show xRow ad z1 (xOverN S.2.1 machine on (k + 1)); unfold xOverN; rw [if_neg (fun q => c_52 q.2.1)]; exact hrow) _ _ hR hS ls (lv_sub hl [0, 2, 3, 4] rfl)
          · refine lv_aload hx hb dX3_over_55 (lv_at hl 0 rfl) ?_
            refine xc_P (va_runV (As := []) (rest := []) F (xX8_isTaken g1 (A := A) (S := S) (ad := ad) (z := z1) k ((xi_nI (n := (S.1 2 0)) (by omega) (by omega)).lt)) (cwV 0 hts (lw_V q535 q536 q537 q89 q538) rfl rfl rfl hdV_X8_isTaken ⟨Nat.le_of_ble_eq_true rfl, Nat.le_of_ble_eq_true rfl⟩) (xpreV (xrecv hK (xw_23 hR (xi_nI (n := (S.1 2 0)) (by omega) (by omega)).lt) rfl) hWK hS hR) rfl rfl hl.1 rfl (lv_room (Nat.le_of_ble_eq_true rfl)) dX3_over_57 ⟨Nat.le_of_ble_eq_true rfl, Nat.le_of_ble_eq_true rfl⟩) ?_
            refine x_ifeq (tgt := 69) hx hb dX3_over_60 (by decide) (fun c_60 => ?_) (fun c_60 => ?_)
            · refine lv_iinc (v := nI (k + 1)) (lv' := [(3, .int (nI (k + 1))), (4, .ref (ad (23, k))), (0, .ref (ad (10, 0))), (1, .int machine), (2, .int on)]) hx hb dX3_over_69 hl (k := 1) rfl (nI_1 _) (by decide) rfl (fun ls hl => ?_)
              refine lv_goto (tgt := 7) hx hb dX3_over_72 (by decide) ?_
              exact ih7 (k + 1) z1 (by omega) (by omega) (by show xRow ad z1 (xOverN S.2.1 machine on (k + 1)); unfold xOverN; rw [if_neg (fun q => absurd (c_60.symm.trans q.2.2) Bool.false_ne_true)]; exact hrow) _ _ hR hS ls (lv_sub hl [0, 2, 3, 4] rfl)
            · refine lv_aload_n hx hb dX3_over_63 rfl (lv_at hl 2 rfl) ?_
              refine lv_aload hx hb dX3_over_64 (lv_at hl 0 rfl) ?_
              refine xc_C0 (va_runV (As := [.ref (ad (23, k))]) (rest := []) F (xX3_sorts g1 (A := A) (S := S) (ad := ad) (z := z1) k (xOverN S.2.1 machine on k) (by omega) hrow (fun q x hq => Nat.lt_trans (xOverN_at hq) (by omega)) (Nat.lt_of_le_of_lt (xOverN_len _ _ _ k) (by omega))) (cwV 1 hts (lw_V q539 q541 qs4 q77 q542) rfl rfl rfl hdV_X3_sorts ⟨Nat.le_of_ble_eq_true rfl, Nat.le_of_ble_eq_true rfl⟩) (xpreV (xrecv hK (xw_10 hR) rfl) hWK hS hR) rfl rfl hl.1 rfl (lv_room (Nat.le_of_ble_eq_true rfl)) dX3_over_66 ⟨Nat.le_of_ble_eq_true rfl, Nat.le_of_ble_eq_true rfl⟩) hS (fun H locs hR1 hz hk hS => ?_)
              obtain ⟨z8, hR, hrow8⟩ := hR1
              refine lv_iinc (v := nI (k + 1)) (lv' := [(3, .int (nI (k + 1))), (4, .ref (ad (23, k))), (0, .ref (ad (10, 0))), (1, .int machine), (2, .int on)]) hx hb dX3_over_69 hl (k := 1) rfl (nI_1 _) (by decide) rfl (fun ls hl => ?_)
              refine lv_goto (tgt := 7) hx hb dX3_over_72 (by decide) ?_
              exact ih7 (k + 1) z8 (by omega) (by omega) (by show xRow ad z8 (xOverN S.2.1 machine on (k + 1)); unfold xOverN; rw [if_pos ⟨c_43, c_52, c_60⟩]; exact hrow8) _ _ hR hS ls (lv_sub hl [0, 2, 3, 4] rfl)
  exact L7 (S.1 2 0 + 1) 0 (z.1, 0, z.2.2) (by omega) (by omega) ⟨rfl, fun k en h => by cases h⟩ _ _ hR hS ls (lv_sub hl [0, 1, 2, 3] rfl)

