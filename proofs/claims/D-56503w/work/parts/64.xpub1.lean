/-! contracts (printed by gen/mx4.py) -/
set_option maxRecDepth 100000
set_option maxHeartbeats 4000000 in
theorem xX1_takings {l : Launch} {G : xG} {s0 : State} {b0 : Nat} (g1 : xG1 l G s0 b0) {A : Nat → Prop} {S : xS} {ad : Nat × Nat → Nat} {z : xZ} (hW : xW S) : Met l yX1_takings (ws_ yX1_takings cX1_takings 4 (some .long)) ({ frames := 3, cells := 0, slots := 0, locals := 64 } : Room) (xP s0 A [.ref (ad (0, 0))] (fun H => xRX G A S ad z H)) (xQp (some (.long (xTakings S)))) 0 0 (fun _ => False) := by
  refine Met.ofW (cc := cX1_takings) (maxL := 4) (ret := (some .long)) (by decide) rfl ?_
  intro p e s m args below meth c s₁ B hml hv
  obtain ⟨rfl, hWK, hR⟩ := hv
  have g := g1.1
  have hx := B.exec
  have hb := B.bytes
  have hr := B.returns
  have hts := atoms_spec (ws := ws_ yX1_takings cX1_takings 4 (some .long)) B.pre
  have hts : ∀ w ∈ lw_all, w.before _ s = true := fun w h => hts w (List.mem_cons_of_mem _ h)
  have hown : s.vm.findClass "Lendlathe" = some m.cls := findClass_of_methodNamed B.named
  have hlocks := B.notSynchronized
  have hK := hWK.K g
  have F : CallFix p m c cX1_takings 4 s _ lw_all "Lendlathe" := ⟨hx, hb, hml, hown, hts⟩
  have hS : va_S A s.heap s.heap [] := va_S.rf
  have hl := lv_entry ([.ref (ad (0, 0))]) (n := 4) (Nat.le_of_ble_eq_true rfl)
  rw [lg_entry_eq]
  generalize (lg_sl ([.ref (ad (0, 0))]) ++ List.replicate (4 - (lg_sl ([.ref (ad (0, 0))])).length) Slot.unset).toArray = ls at hl ⊢
  have hl : lv_has ls 4 [(0, .ref (ad (0, 0)))] := hl
  have hn0 := hW.1.1
  have hn1 := hW.1.2.1
  have hn2 := hW.1.2.2.1
  have hn3 := hW.1.2.2.2.1
  have hn4 := hW.1.2.2.2.2
  refine lv_lconst (v := 0) hx hb dX1_takings_0 (by decide) ?_
  refine lv_lstore_n (lv' := [(1, .long 0), (0, .ref (ad (0, 0)))]) hx hb dX1_takings_1 rfl hl (by decide) rfl (fun ls hl => ?_)
  refine lv_iconst (v := 0) hx hb dX1_takings_2 (by decide) ?_
  refine lv_istore_n (lv' := [(3, .int 0), (1, .long 0), (0, .ref (ad (0, 0)))]) hx hb dX1_takings_3 rfl hl (by decide) rfl (fun ls hl => ?_)
  have L4 : ∀ (n : Nat) (k : Nat) (acc : Int64), S.1 1 0 - k < n → (k ≤ S.1 1 0) → (acc = sumL k (fun m => (S.2.1 3 m 0).toInt64)) → ∀ (ls : Array Slot), lv_has ls 4 [(3, .int (nI k)), (1, .long acc), (0, .ref (ad (0, 0)))] → W p l e (headSpec (ws_ yX1_takings cX1_takings 4 (some .long)) ({ frames := 3, cells := 0, slots := 0, locals := 64 } : Room)).room s m ([.ref (ad (0, 0))] : List Value).toArray below meth c s.heap [] 0 0 (MQ below (xQp (some (.long (xTakings S)))) ([.ref (ad (0, 0))] : List Value).toArray s 0 0 (fun _ => False)) (F0 m 4 ls []) := by
    intro n4
    induction n4 with
    | zero =>
      intro k acc hn4
      exact absurd hn4 (Nat.not_lt_zero _)
    | succ n4 ih4 =>
      intro k acc hn4 hkn ea ls hl
      refine lv_iload_n hx hb dX1_takings_4 rfl (lv_at hl 0 rfl) ?_
      refine lv_aload_n hx hb dX1_takings_5 rfl (lv_at hl 2 rfl) ?_
      refine g_X1_33 F hK (xw_0 hR) (v := .ref (ad (4, 0))) rfl dX1_takings_6 ?_
      refine xc_P (va_runV (As := []) (rest := [.int (nI k)]) F (xJ2_size_21 g1 (A := A) (S := S) (ad := ad) (z := z) ) (cwV 0 hts (lw_V q510 q511 q512 q60 q513) rfl rfl rfl hdV_J2_size ⟨Nat.le_of_ble_eq_true rfl, Nat.le_of_ble_eq_true rfl⟩) (xpreV (xrecv hK (xw_4 hR) rfl) hWK hS hR) rfl rfl hl.1 rfl (lv_room (Nat.le_of_ble_eq_true rfl)) dX1_takings_9 ⟨Nat.le_of_ble_eq_true rfl, Nat.le_of_ble_eq_true rfl⟩) ?_
      refine xn_ge (tgt := 39) k (S.1 1 0) rfl rfl (by omega) (by omega) hx hb dX1_takings_12 (by decide) (fun c_12 => ?_) (fun c_12 => ?_)
      · have n_12 := Nat.not_lt.mpr c_12
        refine lv_lload_n hx hb dX1_takings_39 rfl (lv_at hl 1 rfl) ?_
        exact xr_Pl hx hb hr hlocks ((by have hk9 : k = S.1 1 0 := (by omega); subst hk9; exact ea)) dX1_takings_40
      · have n_12 := Nat.not_le.mpr c_12
        refine lv_lload_n hx hb dX1_takings_15 rfl (lv_at hl 1 rfl) ?_
        refine lv_aload_n hx hb dX1_takings_16 rfl (lv_at hl 2 rfl) ?_
        refine g_X1_33 F hK (xw_0 hR) (v := .ref (ad (4, 0))) rfl dX1_takings_17 ?_
        refine lv_iload_n hx hb dX1_takings_20 rfl (lv_at hl 0 rfl) ?_
        refine xc_P (va_runV (As := [.int (nI k)]) (rest := [.long acc]) F (xJ2_get_21 g1 (A := A) (S := S) (ad := ad) (z := z) (xi_nI (n := (S.1 1 0)) (by omega) (by omega)) (by first | assumption | omega)) (cwV 1 hts (lw_V q486 q487 q488 q60 q489) rfl rfl rfl hdV_J2_get ⟨Nat.le_of_ble_eq_true rfl, Nat.le_of_ble_eq_true rfl⟩) (xpreV (xrecv hK (xw_4 hR) rfl) hWK hS hR) rfl rfl hl.1 rfl (lv_room (Nat.le_of_ble_eq_true rfl)) dX1_takings_21 ⟨Nat.le_of_ble_eq_true rfl, Nat.le_of_ble_eq_true rfl⟩) ?_
        refine x_castO F hK rfl (xw_21 hR (xi_nI (n := (S.1 1 0)) (by omega) (by omega)).lt) (hts _ q500) dX1_takings_24 ?_
        refine g_X1_366 F hWK g hK (xw_21 hR (xi_nI (n := (S.1 1 0)) (by omega) (by omega)).lt) (v := .int (S.2.1 3 k 0)) rfl dX1_takings_27 ?_
        refine lv_i2l hx hb dX1_takings_30 rfl ?_
        refine lv_ladd hx hb dX1_takings_31 ?_
        refine lv_lstore_n (lv' := [(1, .long (acc + ((S.2.1 3 k 0).toInt64))), (3, .int (nI k)), (0, .ref (ad (0, 0)))]) hx hb dX1_takings_32 rfl hl (by decide) rfl (fun ls hl => ?_)
        refine lv_iinc (v := nI (k + 1)) (lv' := [(3, .int (nI (k + 1))), (1, .long (acc + ((S.2.1 3 k 0).toInt64))), (0, .ref (ad (0, 0)))]) hx hb dX1_takings_33 hl (k := 1) rfl (nI_1 _) (by decide) rfl (fun ls hl => ?_)
        refine lv_goto (tgt := 4) hx hb dX1_takings_36 (by decide) ?_
        exact ih4 (k + 1) (acc + ((S.2.1 3 k 0).toInt64)) (by omega) (by omega) (by rw [ea]; rfl) ls (lv_sub hl [0, 1, 2] rfl)
  exact L4 (S.1 1 0 + 1) 0 0 (by omega) (by omega) rfl ls (lv_sub hl [0, 1, 2] rfl)

set_option maxHeartbeats 4000000 in
theorem xX1_owesBy {l : Launch} {G : xG} {s0 : State} {b0 : Nat} (g1 : xG1 l G s0 b0) {A : Nat → Prop} {S : xS} {ad : Nat × Nat → Nat} {z : xZ} {member : Int32} {mi : Nat} (h_member : xi member mi (S.1 1 0)) (hW : xW S) : Met l yX1_owesBy (ws_ yX1_owesBy cX1_owesBy 4 (some .int)) ({ frames := 3, cells := 0, slots := 0, locals := 64 } : Room) (xP s0 A [.ref (ad (0, 0)), .int member] (fun H => xRX G A S ad z H)) (xQp (some (.int (xOwesBy S mi member)))) 0 0 (fun _ => False) := by
  refine Met.ofW (cc := cX1_owesBy) (maxL := 4) (ret := (some .int)) (by decide) rfl ?_
  intro p e s m args below meth c s₁ B hml hv
  obtain ⟨rfl, hWK, hR⟩ := hv
  have g := g1.1
  have hx := B.exec
  have hb := B.bytes
  have hr := B.returns
  have hts := atoms_spec (ws := ws_ yX1_owesBy cX1_owesBy 4 (some .int)) B.pre
  have hts : ∀ w ∈ lw_all, w.before _ s = true := fun w h => hts w (List.mem_cons_of_mem _ h)
  have hown : s.vm.findClass "Lendlathe" = some m.cls := findClass_of_methodNamed B.named
  have hlocks := B.notSynchronized
  have hK := hWK.K g
  have F : CallFix p m c cX1_owesBy 4 s _ lw_all "Lendlathe" := ⟨hx, hb, hml, hown, hts⟩
  have hS : va_S A s.heap s.heap [] := va_S.rf
  have hl := lv_entry ([.ref (ad (0, 0)), .int member]) (n := 4) (Nat.le_of_ble_eq_true rfl)
  rw [lg_entry_eq]
  generalize (lg_sl ([.ref (ad (0, 0)), .int member]) ++ List.replicate (4 - (lg_sl ([.ref (ad (0, 0)), .int member])).length) Slot.unset).toArray = ls at hl ⊢
  have hl : lv_has ls 4 [(0, .ref (ad (0, 0))), (1, .int member)] := hl
  have hn0 := hW.1.1
  have hn1 := hW.1.2.1
  have hn2 := hW.1.2.2.1
  have hn3 := hW.1.2.2.2.1
  have hn4 := hW.1.2.2.2.2
  refine lv_aload_n hx hb dX1_owesBy_0 rfl (lv_at hl 0 rfl) ?_
  refine g_X1_33 F hK (xw_0 hR) (v := .ref (ad (4, 0))) rfl dX1_owesBy_1 ?_
  refine lv_iload_n hx hb dX1_owesBy_4 rfl (lv_at hl 1 rfl) ?_
  refine xc_P (va_runV (As := [.int member]) (rest := []) F (xJ2_get_21 g1 (A := A) (S := S) (ad := ad) (z := z) (xi.up h_member (by omega)) (by first | assumption | omega)) (cwV 1 hts (lw_V q486 q487 q488 q60 q489) rfl rfl rfl hdV_J2_get ⟨Nat.le_of_ble_eq_true rfl, Nat.le_of_ble_eq_true rfl⟩) (xpreV (xrecv hK (xw_4 hR) rfl) hWK hS hR) rfl rfl hl.1 rfl (lv_room (Nat.le_of_ble_eq_true rfl)) dX1_owesBy_5 ⟨Nat.le_of_ble_eq_true rfl, Nat.le_of_ble_eq_true rfl⟩) ?_
  refine x_castO F hK rfl (xw_21 hR (xi.up h_member (by omega)).lt) (hts _ q500) dX1_owesBy_8 ?_
  refine g_X1_366 F hWK g hK (xw_21 hR (xi.up h_member (by omega)).lt) (v := .int (S.2.1 3 mi 0)) rfl dX1_owesBy_11 ?_
  refine lv_ineg hx hb dX1_owesBy_14 ?_
  refine lv_istore_n (lv' := [(2, .int (-(S.2.1 3 mi 0))), (0, .ref (ad (0, 0))), (1, .int member)]) hx hb dX1_owesBy_15 rfl hl (by decide) rfl (fun ls hl => ?_)
  refine lv_iconst (v := 0) hx hb dX1_owesBy_16 (by decide) ?_
  refine lv_istore_n (lv' := [(3, .int 0), (2, .int (-(S.2.1 3 mi 0))), (0, .ref (ad (0, 0))), (1, .int member)]) hx hb dX1_owesBy_17 rfl hl (by decide) rfl (fun ls hl => ?_)
  have L18 : ∀ (n : Nat) (k : Nat) (acc : Int32), S.1 2 0 - k < n → (k ≤ S.1 2 0) → (acc = -S.2.1 3 mi 0 + sumI k (fun en => if S.2.1 10 en 0 = member then S.2.1 17 en 0 else 0)) → ∀ (ls : Array Slot), lv_has ls 4 [(3, .int (nI k)), (2, .int acc), (0, .ref (ad (0, 0))), (1, .int member)] → W p l e (headSpec (ws_ yX1_owesBy cX1_owesBy 4 (some .int)) ({ frames := 3, cells := 0, slots := 0, locals := 64 } : Room)).room s m ([.ref (ad (0, 0)), .int member] : List Value).toArray below meth c s.heap [] 0 0 (MQ below (xQp (some (.int (xOwesBy S mi member)))) ([.ref (ad (0, 0)), .int member] : List Value).toArray s 0 0 (fun _ => False)) (F0 m 18 ls []) := by
    intro n18
    induction n18 with
    | zero =>
      intro k acc hn18
      exact absurd hn18 (Nat.not_lt_zero _)
    | succ n18 ih18 =>
      intro k acc hn18 hkn ea ls hl
      refine lv_iload_n hx hb dX1_owesBy_18 rfl (lv_at hl 0 rfl) ?_
      refine lv_aload_n hx hb dX1_owesBy_19 rfl (lv_at hl 2 rfl) ?_
      refine g_X1_36 F hK (xw_0 hR) (v := .ref (ad (5, 0))) rfl dX1_owesBy_20 ?_
      refine xc_P (va_runV (As := []) (rest := [.int (nI k)]) F (xJ2_size_23 g1 (A := A) (S := S) (ad := ad) (z := z) ) (cwV 0 hts (lw_V q510 q511 q512 q60 q513) rfl rfl rfl hdV_J2_size ⟨Nat.le_of_ble_eq_true rfl, Nat.le_of_ble_eq_true rfl⟩) (xpreV (xrecv hK (xw_5 hR) rfl) hWK hS hR) rfl rfl hl.1 rfl (lv_room (Nat.le_of_ble_eq_true rfl)) dX1_owesBy_23 ⟨Nat.le_of_ble_eq_true rfl, Nat.le_of_ble_eq_true rfl⟩) ?_
      refine xn_ge (tgt := 74) k (S.1 2 0) rfl rfl (by omega) (by omega) hx hb dX1_owesBy_26 (by decide) (fun c_26 => ?_) (fun c_26 => ?_)
      · have n_26 := Nat.not_lt.mpr c_26
        refine lv_iconst (v := 0) hx hb dX1_owesBy_74 (by decide) ?_
        refine lv_istore_n (lv' := [(3, .int 0), (2, .int acc), (0, .ref (ad (0, 0))), (1, .int member)]) hx hb dX1_owesBy_75 rfl hl (by decide) rfl (fun ls hl => ?_)
        have L76 : ∀ (n : Nat) (j : Nat) (ac : Int32), S.1 4 0 - j < n → (j ≤ S.1 4 0) → (ac = -S.2.1 3 mi 0 + sumI (S.1 2 0) (fun en => if S.2.1 10 en 0 = member then S.2.1 17 en 0 else 0) + sumI j (fun b => S.2.1 25 b mi)) → ∀ (ls : Array Slot), lv_has ls 4 [(3, .int (nI j)), (2, .int ac), (0, .ref (ad (0, 0))), (1, .int member)] → W p l e (headSpec (ws_ yX1_owesBy cX1_owesBy 4 (some .int)) ({ frames := 3, cells := 0, slots := 0, locals := 64 } : Room)).room s m ([.ref (ad (0, 0)), .int member] : List Value).toArray below meth c s.heap [] 0 0 (MQ below (xQp (some (.int (xOwesBy S mi member)))) ([.ref (ad (0, 0)), .int member] : List Value).toArray s 0 0 (fun _ => False)) (F0 m 76 ls []) := by
          intro n76
          induction n76 with
          | zero =>
            intro j ac hn76
            exact absurd hn76 (Nat.not_lt_zero _)
          | succ n76 ih76 =>
            intro j ac hn76 hjn ej ls hl
            refine lv_iload_n hx hb dX1_owesBy_76 rfl (lv_at hl 0 rfl) ?_
            refine lv_aload_n hx hb dX1_owesBy_77 rfl (lv_at hl 2 rfl) ?_
            refine g_X1_344 F hK (xw_0 hR) (v := .int (nI (S.1 4 0))) rfl dX1_owesBy_78 ?_
            refine xn_ge (tgt := 101) j (S.1 4 0) rfl rfl (by omega) (by omega) hx hb dX1_owesBy_81 (by decide) (fun c_81 => ?_) (fun c_81 => ?_)
            · have n_81 := Nat.not_lt.mpr c_81
              refine lv_iload_n hx hb dX1_owesBy_101 rfl (lv_at hl 1 rfl) ?_
              exact xr_Pi hx hb hr hlocks ((by have hk9 : j = S.1 4 0 := (by omega); subst hk9; exact ej)) dX1_owesBy_102
            · have n_81 := Nat.not_le.mpr c_81
              refine lv_iload_n hx hb dX1_owesBy_84 rfl (lv_at hl 1 rfl) ?_
              refine lv_aload_n hx hb dX1_owesBy_85 rfl (lv_at hl 2 rfl) ?_
              refine g_X1_71 F hK (xw_0 hR) (v := .ref (ad (13, 0))) rfl dX1_owesBy_86 ?_
              refine lv_iload_n hx hb dX1_owesBy_89 rfl (lv_at hl 0 rfl) ?_
              refine x_aald hx hb hK (xw_13 hR) rfl rfl (v := .ref (ad (14, j))) (xi_nI (n := 20) (by omega) (by omega)) (rfl) dX1_owesBy_90 ?_
              refine lv_iload_n hx hb dX1_owesBy_91 rfl (lv_at hl 3 rfl) ?_
              refine x_iald hx hb hK (xw_14 hR (by omega)) (v := .int (S.2.1 25 j mi)) (xi.up h_member (by omega)) (rfl) dX1_owesBy_92 ?_
              refine lv_iadd hx hb dX1_owesBy_93 ?_
              refine lv_istore_n (lv' := [(2, .int (ac + (S.2.1 25 j mi))), (3, .int (nI j)), (0, .ref (ad (0, 0))), (1, .int member)]) hx hb dX1_owesBy_94 rfl hl (by decide) rfl (fun ls hl => ?_)
              refine lv_iinc (v := nI (j + 1)) (lv' := [(3, .int (nI (j + 1))), (2, .int (ac + (S.2.1 25 j mi))), (0, .ref (ad (0, 0))), (1, .int member)]) hx hb dX1_owesBy_95 hl (k := 1) rfl (nI_1 _) (by decide) rfl (fun ls hl => ?_)
              refine lv_goto (tgt := 76) hx hb dX1_owesBy_98 (by decide) ?_
              exact ih76 (j + 1) (ac + (S.2.1 25 j mi)) (by omega) (by omega) (by rw [ej]; simp [sumI, Int32.add_assoc]) ls (lv_sub hl [0, 1, 2, 3] rfl)
        exact L76 (S.1 4 0 + 1) 0 _ (by omega) (by omega) (by have hk9 : k = S.1 2 0 := (by omega); subst hk9; rw [ea]; simp [sumI]) ls (lv_sub hl [0, 1, 2, 3] rfl)
      · have n_26 := Nat.not_le.mpr c_26
        refine lv_iload_n hx hb dX1_owesBy_29 rfl (lv_at hl 1 rfl) ?_
        refine lv_aload_n hx hb dX1_owesBy_30 rfl (lv_at hl 2 rfl) ?_
        refine g_X1_36 F hK (xw_0 hR) (v := .ref (ad (5, 0))) rfl dX1_owesBy_31 ?_
        refine lv_iload_n hx hb dX1_owesBy_34 rfl (lv_at hl 0 rfl) ?_
        refine xc_P (va_runV (As := [.int (nI k)]) (rest := [.int acc]) F (xJ2_get_23 g1 (A := A) (S := S) (ad := ad) (z := z) (xi_nI (n := (S.1 2 0)) (by omega) (by omega)) (by first | assumption | omega)) (cwV 1 hts (lw_V q486 q487 q488 q60 q489) rfl rfl rfl hdV_J2_get ⟨Nat.le_of_ble_eq_true rfl, Nat.le_of_ble_eq_true rfl⟩) (xpreV (xrecv hK (xw_5 hR) rfl) hWK hS hR) rfl rfl hl.1 rfl (lv_room (Nat.le_of_ble_eq_true rfl)) dX1_owesBy_35 ⟨Nat.le_of_ble_eq_true rfl, Nat.le_of_ble_eq_true rfl⟩) ?_
        refine x_castO F hK rfl (xw_23 hR (xi_nI (n := (S.1 2 0)) (by omega) (by omega)).lt) (hts _ q514) dX1_owesBy_38 ?_
        refine g_X1_147 F hK (xw_23 hR (xi_nI (n := (S.1 2 0)) (by omega) (by omega)).lt) (v := .int (S.2.1 10 k 0)) rfl dX1_owesBy_41 ?_
        refine lv_iload_n hx hb dX1_owesBy_44 rfl (lv_at hl 3 rfl) ?_
        refine lv_icmp_ne (tgt := 65) hx hb dX1_owesBy_45 (by decide) (fun c_45 => ?_) (fun c_45 => ?_)
        · refine lv_iconst (v := 0) hx hb dX1_owesBy_65 (by decide) ?_
          refine lv_iadd hx hb dX1_owesBy_66 ?_
          refine lv_istore_n (lv' := [(2, .int (acc + 0)), (3, .int (nI k)), (0, .ref (ad (0, 0))), (1, .int member)]) hx hb dX1_owesBy_67 rfl hl (by decide) rfl (fun ls hl => ?_)
          refine lv_iinc (v := nI (k + 1)) (lv' := [(3, .int (nI (k + 1))), (2, .int (acc + 0)), (0, .ref (ad (0, 0))), (1, .int member)]) hx hb dX1_owesBy_68 hl (k := 1) rfl (nI_1 _) (by decide) rfl (fun ls hl => ?_)
          refine lv_goto (tgt := 18) hx hb dX1_owesBy_71 (by decide) ?_
          exact ih18 (k + 1) (acc + 0) (by omega) (by omega) (by rw [ea]; simp [sumI, Int32.add_assoc, c_45]) ls (lv_sub hl [0, 1, 2, 3] rfl)
        · refine lv_aload_n hx hb dX1_owesBy_48 rfl (lv_at hl 2 rfl) ?_
          refine g_X1_36 F hK (xw_0 hR) (v := .ref (ad (5, 0))) rfl dX1_owesBy_49 ?_
          refine lv_iload_n hx hb dX1_owesBy_52 rfl (lv_at hl 0 rfl) ?_
          refine xc_P (va_runV (As := [.int (nI k)]) (rest := [.int acc]) F (xJ2_get_23 g1 (A := A) (S := S) (ad := ad) (z := z) (xi_nI (n := (S.1 2 0)) (by omega) (by omega)) (by first | assumption | omega)) (cwV 1 hts (lw_V q486 q487 q488 q60 q489) rfl rfl rfl hdV_J2_get ⟨Nat.le_of_ble_eq_true rfl, Nat.le_of_ble_eq_true rfl⟩) (xpreV (xrecv hK (xw_5 hR) rfl) hWK hS hR) rfl rfl hl.1 rfl (lv_room (Nat.le_of_ble_eq_true rfl)) dX1_owesBy_53 ⟨Nat.le_of_ble_eq_true rfl, Nat.le_of_ble_eq_true rfl⟩) ?_
          refine x_castO F hK rfl (xw_23 hR (xi_nI (n := (S.1 2 0)) (by omega) (by omega)).lt) (hts _ q514) dX1_owesBy_56 ?_
          refine g_X1_372 F hWK g hK (xw_23 hR (xi_nI (n := (S.1 2 0)) (by omega) (by omega)).lt) (v := .int (S.2.1 17 k 0)) rfl dX1_owesBy_59 ?_
          refine lv_goto (tgt := 66) hx hb dX1_owesBy_62 (by decide) ?_
          refine lv_iadd hx hb dX1_owesBy_66 ?_
          refine lv_istore_n (lv' := [(2, .int (acc + (S.2.1 17 k 0))), (3, .int (nI k)), (0, .ref (ad (0, 0))), (1, .int member)]) hx hb dX1_owesBy_67 rfl hl (by decide) rfl (fun ls hl => ?_)
          refine lv_iinc (v := nI (k + 1)) (lv' := [(3, .int (nI (k + 1))), (2, .int (acc + (S.2.1 17 k 0))), (0, .ref (ad (0, 0))), (1, .int member)]) hx hb dX1_owesBy_68 hl (k := 1) rfl (nI_1 _) (by decide) rfl (fun ls hl => ?_)
          refine lv_goto (tgt := 18) hx hb dX1_owesBy_71 (by decide) ?_
          exact ih18 (k + 1) (acc + (S.2.1 17 k 0)) (by omega) (by omega) (by rw [ea]; simp [sumI, Int32.add_assoc, c_45]) ls (lv_sub hl [0, 1, 2, 3] rfl)
  exact L18 (S.1 2 0 + 1) 0 _ (by omega) (by omega) (by simp [sumI]) ls (lv_sub hl [0, 1, 2, 3] rfl)

set_option maxHeartbeats 4000000 in
theorem xX1_freeBy {l : Launch} {G : xG} {s0 : State} {b0 : Nat} (g1 : xG1 l G s0 b0) {A : Nat → Prop} {S : xS} {ad : Nat × Nat → Nat} {z : xZ} {bar : Int32} {bi : Nat} (h_bar : xi bar bi (S.1 3 0)) (hW : xW S) : Met l yX1_freeBy (ws_ yX1_freeBy cX1_freeBy 4 (some .int)) ({ frames := 3, cells := 0, slots := 0, locals := 64 } : Room) (xP s0 A [.ref (ad (0, 0)), .int bar] (fun H => xRX G A S ad z H)) (xQp (some (.int (xFreeBy S bi bar (S.1 2 0))))) 0 0 (fun _ => False) := by
  refine Met.ofW (cc := cX1_freeBy) (maxL := 4) (ret := (some .int)) (by decide) rfl ?_
  intro p e s m args below meth c s₁ B hml hv
  obtain ⟨rfl, hWK, hR⟩ := hv
  have g := g1.1
  have hx := B.exec
  have hb := B.bytes
  have hr := B.returns
  have hts := atoms_spec (ws := ws_ yX1_freeBy cX1_freeBy 4 (some .int)) B.pre
  have hts : ∀ w ∈ lw_all, w.before _ s = true := fun w h => hts w (List.mem_cons_of_mem _ h)
  have hown : s.vm.findClass "Lendlathe" = some m.cls := findClass_of_methodNamed B.named
  have hlocks := B.notSynchronized
  have hK := hWK.K g
  have F : CallFix p m c cX1_freeBy 4 s _ lw_all "Lendlathe" := ⟨hx, hb, hml, hown, hts⟩
  have hS : va_S A s.heap s.heap [] := va_S.rf
  have hl := lv_entry ([.ref (ad (0, 0)), .int bar]) (n := 4) (Nat.le_of_ble_eq_true rfl)
  rw [lg_entry_eq]
  generalize (lg_sl ([.ref (ad (0, 0)), .int bar]) ++ List.replicate (4 - (lg_sl ([.ref (ad (0, 0)), .int bar])).length) Slot.unset).toArray = ls at hl ⊢
  have hl : lv_has ls 4 [(0, .ref (ad (0, 0))), (1, .int bar)] := hl
  have hn0 := hW.1.1
  have hn1 := hW.1.2.1
  have hn2 := hW.1.2.2.1
  have hn3 := hW.1.2.2.2.1
  have hn4 := hW.1.2.2.2.2
  refine lv_aload_n hx hb dX1_freeBy_0 rfl (lv_at hl 0 rfl) ?_
  refine g_X1_39 F hK (xw_0 hR) (v := .ref (ad (6, 0))) rfl dX1_freeBy_1 ?_
  refine lv_iload_n hx hb dX1_freeBy_4 rfl (lv_at hl 1 rfl) ?_
  refine xc_P (va_runV (As := [.int bar]) (rest := []) F (xJ2_get_26 g1 (A := A) (S := S) (ad := ad) (z := z) (xi.up h_bar (by omega)) (by first | assumption | omega)) (cwV 1 hts (lw_V q486 q487 q488 q60 q489) rfl rfl rfl hdV_J2_get ⟨Nat.le_of_ble_eq_true rfl, Nat.le_of_ble_eq_true rfl⟩) (xpreV (xrecv hK (xw_6 hR) rfl) hWK hS hR) rfl rfl hl.1 rfl (lv_room (Nat.le_of_ble_eq_true rfl)) dX1_freeBy_5 ⟨Nat.le_of_ble_eq_true rfl, Nat.le_of_ble_eq_true rfl⟩) ?_
  refine x_castO F hK rfl (xw_26 hR (xi.up h_bar (by omega)).lt) (hts _ q721) dX1_freeBy_8 ?_
  refine g_X1_335 F hWK g hK (xw_26 hR (xi.up h_bar (by omega)).lt) (v := .int (S.2.1 21 bi 0)) rfl dX1_freeBy_11 ?_
  refine lv_istore_n (lv' := [(2, .int (S.2.1 21 bi 0)), (0, .ref (ad (0, 0))), (1, .int bar)]) hx hb dX1_freeBy_14 rfl hl (by decide) rfl (fun ls hl => ?_)
  refine lv_iconst (v := 0) hx hb dX1_freeBy_15 (by decide) ?_
  refine lv_istore_n (lv' := [(3, .int 0), (2, .int (S.2.1 21 bi 0)), (0, .ref (ad (0, 0))), (1, .int bar)]) hx hb dX1_freeBy_16 rfl hl (by decide) rfl (fun ls hl => ?_)
  have L17 : ∀ (n : Nat) (k : Nat) (acc : Int32), S.1 2 0 - k < n → (k ≤ S.1 2 0) → (acc = xFreeBy S bi bar k) → ∀ (ls : Array Slot), lv_has ls 4 [(3, .int (nI k)), (2, .int acc), (0, .ref (ad (0, 0))), (1, .int bar)] → W p l e (headSpec (ws_ yX1_freeBy cX1_freeBy 4 (some .int)) ({ frames := 3, cells := 0, slots := 0, locals := 64 } : Room)).room s m ([.ref (ad (0, 0)), .int bar] : List Value).toArray below meth c s.heap [] 0 0 (MQ below (xQp (some (.int (xFreeBy S bi bar (S.1 2 0))))) ([.ref (ad (0, 0)), .int bar] : List Value).toArray s 0 0 (fun _ => False)) (F0 m 17 ls []) := by
    intro n17
    induction n17 with
    | zero =>
      intro k acc hn17
      exact absurd hn17 (Nat.not_lt_zero _)
    | succ n17 ih17 =>
      intro k acc hn17 hkn ea ls hl
      refine lv_iload_n hx hb dX1_freeBy_17 rfl (lv_at hl 0 rfl) ?_
      refine lv_aload_n hx hb dX1_freeBy_18 rfl (lv_at hl 2 rfl) ?_
      refine g_X1_36 F hK (xw_0 hR) (v := .ref (ad (5, 0))) rfl dX1_freeBy_19 ?_
      refine xc_P (va_runV (As := []) (rest := [.int (nI k)]) F (xJ2_size_23 g1 (A := A) (S := S) (ad := ad) (z := z) ) (cwV 0 hts (lw_V q510 q511 q512 q60 q513) rfl rfl rfl hdV_J2_size ⟨Nat.le_of_ble_eq_true rfl, Nat.le_of_ble_eq_true rfl⟩) (xpreV (xrecv hK (xw_5 hR) rfl) hWK hS hR) rfl rfl hl.1 rfl (lv_room (Nat.le_of_ble_eq_true rfl)) dX1_freeBy_22 ⟨Nat.le_of_ble_eq_true rfl, Nat.le_of_ble_eq_true rfl⟩) ?_
      refine xn_ge (tgt := 52) k (S.1 2 0) rfl rfl (by omega) (by omega) hx hb dX1_freeBy_25 (by decide) (fun c_25 => ?_) (fun c_25 => ?_)
      · have n_25 := Nat.not_lt.mpr c_25
        refine lv_iload_n hx hb dX1_freeBy_52 rfl (lv_at hl 1 rfl) ?_
        exact xr_Pi hx hb hr hlocks ((by have hk9 : k = S.1 2 0 := (by omega); subst hk9; exact ea)) dX1_freeBy_53
      · have n_25 := Nat.not_le.mpr c_25
        refine lv_iload_n hx hb dX1_freeBy_28 rfl (lv_at hl 1 rfl) ?_
        refine lv_aload_n hx hb dX1_freeBy_29 rfl (lv_at hl 2 rfl) ?_
        refine g_X1_36 F hK (xw_0 hR) (v := .ref (ad (5, 0))) rfl dX1_freeBy_30 ?_
        refine lv_iload_n hx hb dX1_freeBy_33 rfl (lv_at hl 0 rfl) ?_
        refine xc_P (va_runV (As := [.int (nI k)]) (rest := [.int acc]) F (xJ2_get_23 g1 (A := A) (S := S) (ad := ad) (z := z) (xi_nI (n := (S.1 2 0)) (by omega) (by omega)) (by first | assumption | omega)) (cwV 1 hts (lw_V q486 q487 q488 q60 q489) rfl rfl rfl hdV_J2_get ⟨Nat.le_of_ble_eq_true rfl, Nat.le_of_ble_eq_true rfl⟩) (xpreV (xrecv hK (xw_5 hR) rfl) hWK hS hR) rfl rfl hl.1 rfl (lv_room (Nat.le_of_ble_eq_true rfl)) dX1_freeBy_34 ⟨Nat.le_of_ble_eq_true rfl, Nat.le_of_ble_eq_true rfl⟩) ?_
        refine x_castO F hK rfl (xw_23 hR (xi_nI (n := (S.1 2 0)) (by omega) (by omega)).lt) (hts _ q514) dX1_freeBy_37 ?_
        refine lv_iload_n hx hb dX1_freeBy_40 rfl (lv_at hl 3 rfl) ?_
        refine xc_P (va_runV (As := [.int bar]) (rest := [.int acc]) F (xX8_takes g1 (A := A) (S := S) (ad := ad) (z := z) k bar ((xi_nI (n := (S.1 2 0)) (by omega) (by omega)).lt) hW) (cwV 1 hts (lw_V q722 q723 q724 q89 q725) rfl rfl rfl hdV_X8_takes ⟨Nat.le_of_ble_eq_true rfl, Nat.le_of_ble_eq_true rfl⟩) (xpreV (xrecv hK (xw_23 hR (xi_nI (n := (S.1 2 0)) (by omega) (by omega)).lt) rfl) hWK hS hR) rfl rfl hl.1 rfl (lv_room (Nat.le_of_ble_eq_true rfl)) dX1_freeBy_41 ⟨Nat.le_of_ble_eq_true rfl, Nat.le_of_ble_eq_true rfl⟩) ?_
        refine lv_isub hx hb dX1_freeBy_44 ?_
        refine lv_istore_n (lv' := [(2, .int (acc - (xTakes S k bar (S.1 6 k)))), (3, .int (nI k)), (0, .ref (ad (0, 0))), (1, .int bar)]) hx hb dX1_freeBy_45 rfl hl (by decide) rfl (fun ls hl => ?_)
        refine lv_iinc (v := nI (k + 1)) (lv' := [(3, .int (nI (k + 1))), (2, .int (acc - (xTakes S k bar (S.1 6 k)))), (0, .ref (ad (0, 0))), (1, .int bar)]) hx hb dX1_freeBy_46 hl (k := 1) rfl (nI_1 _) (by decide) rfl (fun ls hl => ?_)
        refine lv_goto (tgt := 17) hx hb dX1_freeBy_49 (by decide) ?_
        exact ih17 (k + 1) (acc - (xTakes S k bar (S.1 6 k))) (by omega) (by omega) (by rw [ea]; simp only [xFreeBy, sumI]; exact i32_sub_sub _ _ _) ls (lv_sub hl [0, 1, 2, 3] rfl)
  exact L17 (S.1 2 0 + 1) 0 _ (by omega) (by omega) (by simp [xFreeBy, sumI]) ls (lv_sub hl [0, 1, 2, 3] rfl)

set_option maxHeartbeats 4000000 in
theorem xX1_isLive {l : Launch} {G : xG} {s0 : State} {b0 : Nat} (g1 : xG1 l G s0 b0) {A : Nat → Prop} {S : xS} {ad : Nat × Nat → Nat} {z : xZ} (member kind on : Int32) (hW : xW S) (hA : ∃ rk, rkOK S.2.1 rk ∧ ∀ i, rk i < 4) : vx_Met l yX1_isLive (ws_ yX1_isLive cX1_isLive 4 (some .boolean)) ({ frames := 7, cells := 1, slots := 6, locals := 144 } : Room) (xP s0 A [.ref (ad (0, 0)), .int member, .int kind, .int on] (fun H => xRX G A S ad z H)) (xQc (some (.int (bI ((xIsLive S member kind on).2.1)))) (fun _ H => (xIsLive S member kind on).1 = 0 ∧ ∃ ad9 z9, xRX G A (xIsLive S member kind on).2.2 ad9 z9 H ∧ ad9 (0, 0) = ad (0, 0)) A) (xXc (fun E _ H => E = xExn (xIsLive S member kind on).1 ∧ ¬ (xIsLive S member kind on).1 = 0 ∧ ∃ z9, xRX G A S ad z9 H) A) 1 6 A := by
  refine vx_ofW (cc := cX1_isLive) (maxL := 4) (ret := (some .boolean)) (by decide) rfl ?_
  intro p e s m args below meth c s₁ B hml hnt hv
  obtain ⟨rfl, hWK, hR⟩ := hv
  have g := g1.1
  have hx := B.exec
  have hb := B.bytes
  have hr := B.returns
  have hts := atoms_spec (ws := ws_ yX1_isLive cX1_isLive 4 (some .boolean)) B.pre
  have hts : ∀ w ∈ lw_all, w.before _ s = true := fun w h => hts w (List.mem_cons_of_mem _ h)
  have hown : s.vm.findClass "Lendlathe" = some m.cls := findClass_of_methodNamed B.named
  have hlocks := B.notSynchronized
  have hK := hWK.K g
  have F : CallFix p m c cX1_isLive 4 s _ lw_all "Lendlathe" := ⟨hx, hb, hml, hown, hts⟩
  have hS : va_S A s.heap s.heap [] := va_S.rf
  have hl := lv_entry ([.ref (ad (0, 0)), .int member, .int kind, .int on]) (n := 4) (Nat.le_of_ble_eq_true rfl)
  rw [lg_entry_eq]
  generalize (lg_sl ([.ref (ad (0, 0)), .int member, .int kind, .int on]) ++ List.replicate (4 - (lg_sl ([.ref (ad (0, 0)), .int member, .int kind, .int on])).length) Slot.unset).toArray = ls at hl ⊢
  have hl : lv_has ls 4 [(0, .ref (ad (0, 0))), (1, .int member), (2, .int kind), (3, .int on)] := hl
  have hn0 := hW.1.1
  have hn1 := hW.1.2.1
  have hn2 := hW.1.2.2.1
  have hn3 := hW.1.2.2.2.1
  have hn4 := hW.1.2.2.2.2
  obtain ⟨rk, hrk, hr4⟩ := hA
  refine lv_aload_n hx hb dX1_isLive_0 rfl (lv_at hl 0 rfl) ?_
  refine lv_iload_n hx hb dX1_isLive_1 rfl (lv_at hl 1 rfl) ?_
  refine xc_P (va_runV (As := [.int member]) (rest := []) F (xX1_isMember g1 (A := A) (S := S) (ad := ad) (z := z) member) (cwV 1 hts (lw_V q933 q935 qs20 q56 q936) rfl rfl rfl hdV_X1_isMember ⟨Nat.le_of_ble_eq_true rfl, Nat.le_of_ble_eq_true rfl⟩) (xpreV (xrecv hK (xw_0 hR) rfl) hWK hS hR) rfl rfl hl.1 rfl (lv_room (Nat.le_of_ble_eq_true rfl)) dX1_isLive_2 ⟨Nat.le_of_ble_eq_true rfl, Nat.le_of_ble_eq_true rfl⟩) ?_
  rcases xbtf (inI member 0 (nI (S.1 1 0) - 1)) with c_5 | c_5
  · refine xc_P0 (va_runS (As := [.int (bI (inI member 0 (nI (S.1 1 0) - 1)))]) (rest := []) F (xX1_there_ok g1 (A := A) (inI member 0 (nI (S.1 1 0) - 1)) c_5) (va_cwS 1 hts (lw_S q937 q938 q56 q939) rfl rfl rfl hdS_X1_there ⟨Nat.le_of_ble_eq_true rfl, Nat.le_of_ble_eq_true rfl⟩) (xpre hWK hS trivial) rfl rfl hl.1 rfl (lv_room (Nat.le_of_ble_eq_true rfl)) dX1_isLive_5 ⟨Nat.le_of_ble_eq_true rfl, Nat.le_of_ble_eq_true rfl⟩) ?_
    refine lv_iload_n hx hb dX1_isLive_8 rfl (lv_at hl 2 rfl) ?_
    refine xc_P (va_runS (As := [.int kind]) (rest := []) F (xX1_isKind g1 (A := A) kind) (va_cwS 1 hts (lw_S q755 q756 q56 q757) rfl rfl rfl hdS_X1_isKind ⟨Nat.le_of_ble_eq_true rfl, Nat.le_of_ble_eq_true rfl⟩) (xpre hWK hS trivial) rfl rfl hl.1 rfl (lv_room (Nat.le_of_ble_eq_true rfl)) dX1_isLive_9 ⟨Nat.le_of_ble_eq_true rfl, Nat.le_of_ble_eq_true rfl⟩) ?_
    refine x_ifeq (tgt := 33) hx hb dX1_isLive_12 (by decide) (fun c_12 => ?_) (fun c_12 => ?_)
    · refine lv_iconst (v := 0) hx hb dX1_isLive_33 (by decide) ?_
      have e9 : (xIsLive S member kind on).1 = 1 := by simp [xIsLive, c_5, c_12]
      exact xc_T (vx_runS (As := [.int 0]) (rest := []) F (xX1_want_no g1 (A := A) false rfl) (va_cwS 1 hts (lw_S q761 q762 q56 q763) rfl rfl rfl hdS_X1_want ⟨Nat.le_of_ble_eq_true rfl, Nat.le_of_ble_eq_true rfl⟩) (xpre hWK hS trivial) rfl rfl hl.1 rfl (lv_room (Nat.le_of_ble_eq_true rfl)) dX1_isLive_34 ⟨Nat.le_of_ble_eq_true rfl, Nat.le_of_ble_eq_true rfl⟩) hS (fun E ce q9 H locs hX hz hk hS hq9 hv9 hc9 => vx_out (fun x hx => (hnt x hx).elim) hlocks hq9 hv9 hc9 (fun t ht _ => ⟨by rw [ht]; exact ⟨hX.1.trans (congrArg xExn e9).symm, (by rw [e9]; decide), z, hR.grow hX.2⟩, hS.F ht⟩) hS.2.2 (Nat.le_of_ble_eq_true rfl) (Nat.le_of_ble_eq_true rfl))
    · refine lv_iload_n hx hb dX1_isLive_15 rfl (lv_at hl 3 rfl) ?_
      refine lv_aload_n hx hb dX1_isLive_16 rfl (lv_at hl 0 rfl) ?_
      refine g_X1_215 F hK (xw_0 hR) (v := .int (S.2.1 7 0 0)) rfl dX1_isLive_17 ?_
      refine lv_sipush (v := 999) hx hb dX1_isLive_20 (by decide) ?_
      refine xc_P (va_runS (As := [.int on, .int (S.2.1 7 0 0), .int 999]) (rest := []) F (xX1_in g1 (A := A) on (S.2.1 7 0 0) 999) (va_cwS 3 hts (lw_S q758 q759 q56 q760) rfl rfl rfl hdS_X1_in ⟨Nat.le_of_ble_eq_true rfl, Nat.le_of_ble_eq_true rfl⟩) (xpre hWK hS trivial) rfl rfl hl.1 rfl (lv_room (Nat.le_of_ble_eq_true rfl)) dX1_isLive_23 ⟨Nat.le_of_ble_eq_true rfl, Nat.le_of_ble_eq_true rfl⟩) ?_
      refine x_ifeq (tgt := 33) hx hb dX1_isLive_26 (by decide) (fun c_26 => ?_) (fun c_26 => ?_)
      · refine lv_iconst (v := 0) hx hb dX1_isLive_33 (by decide) ?_
        have e9 : (xIsLive S member kind on).1 = 1 := by simp [xIsLive, c_5, c_12, c_26]
        exact xc_T (vx_runS (As := [.int 0]) (rest := []) F (xX1_want_no g1 (A := A) false rfl) (va_cwS 1 hts (lw_S q761 q762 q56 q763) rfl rfl rfl hdS_X1_want ⟨Nat.le_of_ble_eq_true rfl, Nat.le_of_ble_eq_true rfl⟩) (xpre hWK hS trivial) rfl rfl hl.1 rfl (lv_room (Nat.le_of_ble_eq_true rfl)) dX1_isLive_34 ⟨Nat.le_of_ble_eq_true rfl, Nat.le_of_ble_eq_true rfl⟩) hS (fun E ce q9 H locs hX hz hk hS hq9 hv9 hc9 => vx_out (fun x hx => (hnt x hx).elim) hlocks hq9 hv9 hc9 (fun t ht _ => ⟨by rw [ht]; exact ⟨hX.1.trans (congrArg xExn e9).symm, (by rw [e9]; decide), z, hR.grow hX.2⟩, hS.F ht⟩) hS.2.2 (Nat.le_of_ble_eq_true rfl) (Nat.le_of_ble_eq_true rfl))
      · refine lv_iconst (v := 1) hx hb dX1_isLive_29 (by decide) ?_
        refine lv_goto (tgt := 34) hx hb dX1_isLive_30 (by decide) ?_
        refine xc_P0 (va_runS (As := [.int 1]) (rest := []) F (xX1_want_ok g1 (A := A) true rfl) (va_cwS 1 hts (lw_S q761 q762 q56 q763) rfl rfl rfl hdS_X1_want ⟨Nat.le_of_ble_eq_true rfl, Nat.le_of_ble_eq_true rfl⟩) (xpre hWK hS trivial) rfl rfl hl.1 rfl (lv_room (Nat.le_of_ble_eq_true rfl)) dX1_isLive_34 ⟨Nat.le_of_ble_eq_true rfl, Nat.le_of_ble_eq_true rfl⟩) ?_
        obtain ⟨mj, hmj, rfl⟩ := inI_of' (n := S.1 1 0) (by first | rfl | decide) (by first | decide | omega) c_5
        obtain ⟨kj, hkj, rfl⟩ := inI_of' (n := 4) (by first | rfl | decide) (by first | decide | omega) c_12
        refine lv_aload_n hx hb dX1_isLive_37 rfl (lv_at hl 0 rfl) ?_
        refine g_X1_33 F hK (xw_0 hR) (v := .ref (ad (4, 0))) rfl dX1_isLive_38 ?_
        refine lv_iload_n hx hb dX1_isLive_41 rfl (lv_at hl 1 rfl) ?_
        refine xc_P (va_runV (As := [.int (nI mj)]) (rest := []) F (xJ2_get_21 g1 (A := A) (S := S) (ad := ad) (z := z) (xi_nI (n := (S.1 1 0)) (by omega) (by omega)) (by first | assumption | omega)) (cwV 1 hts (lw_V q486 q487 q488 q60 q489) rfl rfl rfl hdV_J2_get ⟨Nat.le_of_ble_eq_true rfl, Nat.le_of_ble_eq_true rfl⟩) (xpreV (xrecv hK (xw_4 hR) rfl) hWK hS hR) rfl rfl hl.1 rfl (lv_room (Nat.le_of_ble_eq_true rfl)) dX1_isLive_42 ⟨Nat.le_of_ble_eq_true rfl, Nat.le_of_ble_eq_true rfl⟩) ?_
        refine x_castO F hK rfl (xw_21 hR (xi_nI (n := (S.1 1 0)) (by omega) (by omega)).lt) (hts _ q500) dX1_isLive_45 ?_
        refine lv_iload_n hx hb dX1_isLive_48 rfl (lv_at hl 2 rfl) ?_
        refine lv_iload_n hx hb dX1_isLive_49 rfl (lv_at hl 3 rfl) ?_
        refine xc_P (va_runV (As := [.int (nI kj), .int on]) (rest := []) F (xX6_isLive g1 (A := A) (S := S) (ad := ad) (z := z) hrk 4 mj on (nI kj) kj (xi_nI (n := 4) (by omega) (by omega)) ((xi_nI (n := (S.1 1 0)) (by omega) (by omega)).lt) (hr4 _)) (cwV 2 hts (lw_V q502 q503 q504 q83 q505) rfl rfl rfl hdV_X6_isLive ⟨Nat.le_of_ble_eq_true rfl, Nat.le_of_ble_eq_true rfl⟩) (xpreV (xrecv hK (xw_21 hR (xi_nI (n := (S.1 1 0)) (by omega) (by omega)).lt) rfl) hWK hS hR) rfl rfl hl.1 rfl (lv_room (Nat.le_of_ble_eq_true rfl)) dX1_isLive_50 ⟨Nat.le_of_ble_eq_true rfl, Nat.le_of_ble_eq_true rfl⟩) ?_
        have e9 : xIsLive S (nI mj) (nI kj) on = (0, xLive S.2.1 on mj 4 kj, S) := by simp [xIsLive, c_5, c_12, c_26, nI_clamp (show mj < 2 ^ 31 by omega), nI_clamp (show kj < 2 ^ 31 by omega)]
        exact vx_ret (xr_Cz hx hb hr hlocks (congrArg bI (congrArg (fun q => q.2.1) e9).symm) (⟨congrArg Prod.fst e9, ad, z, by rw [show (xIsLive S (nI mj) (nI kj) on).2.2 = S from congrArg (fun q => q.2.2) e9]; exact hR, rfl⟩) hS (by first | omega | decide) (by first | omega | decide) dX1_isLive_53)
  · have e9 : (xIsLive S member kind on).1 = 4 := by simp [xIsLive, c_5]
    exact xc_T (vx_runS (As := [.int (bI (inI member 0 (nI (S.1 1 0) - 1)))]) (rest := []) F (xX1_there_no g1 (A := A) (inI member 0 (nI (S.1 1 0) - 1)) c_5) (va_cwS 1 hts (lw_S q937 q938 q56 q939) rfl rfl rfl hdS_X1_there ⟨Nat.le_of_ble_eq_true rfl, Nat.le_of_ble_eq_true rfl⟩) (xpre hWK hS trivial) rfl rfl hl.1 rfl (lv_room (Nat.le_of_ble_eq_true rfl)) dX1_isLive_5 ⟨Nat.le_of_ble_eq_true rfl, Nat.le_of_ble_eq_true rfl⟩) hS (fun E ce q9 H locs hX hz hk hS hq9 hv9 hc9 => vx_out (fun x hx => (hnt x hx).elim) hlocks hq9 hv9 hc9 (fun t ht _ => ⟨by rw [ht]; exact ⟨hX.1.trans (congrArg xExn e9).symm, (by rw [e9]; decide), z, hR.grow hX.2⟩, hS.F ht⟩) hS.2.2 (Nat.le_of_ble_eq_true rfl) (Nat.le_of_ble_eq_true rfl))

set_option maxHeartbeats 4000000 in
theorem xX1_minuteAt {l : Launch} {G : xG} {s0 : State} {b0 : Nat} (g1 : xG1 l G s0 b0) {A : Nat → Prop} {S : xS} {ad : Nat × Nat → Nat} {z : xZ} (machine on minute : Int32) (hW : xW S) : vx_Met l yX1_minuteAt (ws_ yX1_minuteAt cX1_minuteAt 4 (some .char)) ({ frames := 8, cells := 1, slots := 6, locals := 123 } : Room) (xP s0 A [.ref (ad (0, 0)), .int machine, .int on, .int minute] (fun H => xRX G A S ad z H)) (xQc (some (.int ((xMinuteAt S machine on minute).2.1))) (fun _ H => (xMinuteAt S machine on minute).1 = 0 ∧ ∃ ad9 z9, xRX G A (xMinuteAt S machine on minute).2.2 ad9 z9 H ∧ ad9 (0, 0) = ad (0, 0)) A) (xXc (fun E _ H => E = xExn (xMinuteAt S machine on minute).1 ∧ ¬ (xMinuteAt S machine on minute).1 = 0 ∧ ∃ z9, xRX G A S ad z9 H) A) 1 6 A := by
  refine vx_ofW (cc := cX1_minuteAt) (maxL := 4) (ret := (some .char)) (by decide) rfl ?_
  intro p e s m args below meth c s₁ B hml hnt hv
  obtain ⟨rfl, hWK, hR⟩ := hv
  have g := g1.1
  have hx := B.exec
  have hb := B.bytes
  have hr := B.returns
  have hts := atoms_spec (ws := ws_ yX1_minuteAt cX1_minuteAt 4 (some .char)) B.pre
  have hts : ∀ w ∈ lw_all, w.before _ s = true := fun w h => hts w (List.mem_cons_of_mem _ h)
  have hown : s.vm.findClass "Lendlathe" = some m.cls := findClass_of_methodNamed B.named
  have hlocks := B.notSynchronized
  have hK := hWK.K g
  have F : CallFix p m c cX1_minuteAt 4 s _ lw_all "Lendlathe" := ⟨hx, hb, hml, hown, hts⟩
  have hS : va_S A s.heap s.heap [] := va_S.rf
  have hl := lv_entry ([.ref (ad (0, 0)), .int machine, .int on, .int minute]) (n := 4) (Nat.le_of_ble_eq_true rfl)
  rw [lg_entry_eq]
  generalize (lg_sl ([.ref (ad (0, 0)), .int machine, .int on, .int minute]) ++ List.replicate (4 - (lg_sl ([.ref (ad (0, 0)), .int machine, .int on, .int minute])).length) Slot.unset).toArray = ls at hl ⊢
  have hl : lv_has ls 4 [(0, .ref (ad (0, 0))), (1, .int machine), (2, .int on), (3, .int minute)] := hl
  have hn0 := hW.1.1
  have hn1 := hW.1.2.1
  have hn2 := hW.1.2.2.1
  have hn3 := hW.1.2.2.2.1
  have hn4 := hW.1.2.2.2.2
  refine lv_aload_n hx hb dX1_minuteAt_0 rfl (lv_at hl 0 rfl) ?_
  refine lv_iload_n hx hb dX1_minuteAt_1 rfl (lv_at hl 1 rfl) ?_
  refine lv_iload_n hx hb dX1_minuteAt_2 rfl (lv_at hl 2 rfl) ?_
  rcases Decidable.em (xMayLook S machine on = 0) with c_3 | c_3
  · refine xc_P0 (va_runV (As := [.int machine, .int on]) (rest := []) F (xX1_mayLook_ok g1 (A := A) (S := S) (ad := ad) (z := z) machine on c_3) (cwV 2 hts (lw_V q1175 q1177 qs26 q56 q1178) rfl rfl rfl hdV_X1_mayLook ⟨Nat.le_of_ble_eq_true rfl, Nat.le_of_ble_eq_true rfl⟩) (xpreV (xrecv hK (xw_0 hR) rfl) hWK hS hR) rfl rfl hl.1 rfl (lv_room (Nat.le_of_ble_eq_true rfl)) dX1_minuteAt_3 ⟨Nat.le_of_ble_eq_true rfl, Nat.le_of_ble_eq_true rfl⟩) ?_
    refine lv_iload_n hx hb dX1_minuteAt_6 rfl (lv_at hl 3 rfl) ?_
    refine lv_iconst (v := 0) hx hb dX1_minuteAt_7 (by decide) ?_
    refine lv_sipush (v := 479) hx hb dX1_minuteAt_8 (by decide) ?_
    refine xc_P (va_runS (As := [.int minute, .int 0, .int 479]) (rest := []) F (xX1_in g1 (A := A) minute 0 479) (va_cwS 3 hts (lw_S q758 q759 q56 q760) rfl rfl rfl hdS_X1_in ⟨Nat.le_of_ble_eq_true rfl, Nat.le_of_ble_eq_true rfl⟩) (xpre hWK hS trivial) rfl rfl hl.1 rfl (lv_room (Nat.le_of_ble_eq_true rfl)) dX1_minuteAt_11 ⟨Nat.le_of_ble_eq_true rfl, Nat.le_of_ble_eq_true rfl⟩) ?_
    rcases xbtf (inI minute 0 479) with c_14 | c_14
    · refine xc_P0 (va_runS (As := [.int (bI (inI minute 0 479))]) (rest := []) F (xX1_want_ok g1 (A := A) (inI minute 0 479) c_14) (va_cwS 1 hts (lw_S q761 q762 q56 q763) rfl rfl rfl hdS_X1_want ⟨Nat.le_of_ble_eq_true rfl, Nat.le_of_ble_eq_true rfl⟩) (xpre hWK hS trivial) rfl rfl hl.1 rfl (lv_room (Nat.le_of_ble_eq_true rfl)) dX1_minuteAt_14 ⟨Nat.le_of_ble_eq_true rfl, Nat.le_of_ble_eq_true rfl⟩) ?_
      refine lv_aload_n hx hb dX1_minuteAt_17 rfl (lv_at hl 0 rfl) ?_
      refine g_X1_53 F hK (xw_0 hR) (v := .ref (ad (10, 0))) rfl dX1_minuteAt_18 ?_
      refine lv_iload_n hx hb dX1_minuteAt_21 rfl (lv_at hl 1 rfl) ?_
      refine lv_iload_n hx hb dX1_minuteAt_22 rfl (lv_at hl 2 rfl) ?_
      refine xc_C (va_runV (As := [.int machine, .int on]) (rest := []) F (xX3_over g1 (A := A) (S := S) (ad := ad) (z := z) machine on hW) (cwV 2 hts (lw_V q529 q530 q531 q77 q532) rfl rfl rfl hdV_X3_over ⟨Nat.le_of_ble_eq_true rfl, Nat.le_of_ble_eq_true rfl⟩) (xpreV (xrecv hK (xw_10 hR) rfl) hWK hS hR) rfl rfl hl.1 rfl (lv_room (Nat.le_of_ble_eq_true rfl)) dX1_minuteAt_23 ⟨Nat.le_of_ble_eq_true rfl, Nat.le_of_ble_eq_true rfl⟩) hS (fun H locs hR1 hz hk hS => ?_)
      obtain ⟨zo, hR, hrow⟩ := hR1
      have hlen : (xOverN S.2.1 machine on (S.1 2 0)).length ≤ 150 := Nat.le_trans (xOverN_len _ _ _ _) (by omega)
      obtain ⟨Lx, hLx⟩ : ∃ Lx, Lx = xOverN S.2.1 machine on (S.1 2 0) := ⟨_, rfl⟩
      rw [← hLx] at hrow hlen
      have hLlt : ∀ k en : Nat, Lx[k]? = some en → en < S.1 2 0 := fun k en hq => xOverN_at (by rw [← hLx]; exact hq)
      refine lv_pop hx hb dX1_minuteAt_26 rfl ?_
      refine lv_aload_n hx hb dX1_minuteAt_27 rfl (lv_at hl 0 rfl) ?_
      refine lv_iload_n hx hb dX1_minuteAt_28 rfl (lv_at hl 3 rfl) ?_
      refine xc_C (va_runV (As := [.int minute]) (rest := []) F (xX1_state g1 (A := A) (S := S) (ad := ad) (z := zo) minute Lx hW hrow hlen hLlt) (cwV 1 hts (lw_V q742 q744 qs13 q56 q745) rfl rfl rfl hdV_X1_state ⟨Nat.le_of_ble_eq_true rfl, Nat.le_of_ble_eq_true rfl⟩) (xpreV (xrecv hK (xw_0 hR) rfl) hWK hS hR) rfl rfl hl.1 rfl (lv_room (Nat.le_of_ble_eq_true rfl)) dX1_minuteAt_29 ⟨Nat.le_of_ble_eq_true rfl, Nat.le_of_ble_eq_true rfl⟩) hS (fun H locs hR1 hz hk hS => ?_)
      obtain ⟨zs, hR, hrow⟩ := hR1
      have e9 : xMinuteAt S machine on minute = (0, xStateL S.2.1 minute Lx none, S) := by simp [xMinuteAt, c_3, c_14, hLx]
      exact vx_ret (xr_Cc hx hb hr hlocks ((congrArg (fun q => q.2.1) e9).symm) (⟨congrArg Prod.fst e9, ad, zs, by rw [show (xMinuteAt S machine on minute).2.2 = S from congrArg (fun q => q.2.2) e9]; exact hR, rfl⟩) hS (by first | omega | decide) (by first | omega | decide) xMinuteAt_nar dX1_minuteAt_32)
    · have e9 : (xMinuteAt S machine on minute).1 = 1 := by simp [xMinuteAt, c_3, c_14]
      exact xc_T (vx_runS (As := [.int (bI (inI minute 0 479))]) (rest := []) F (xX1_want_no g1 (A := A) (inI minute 0 479) c_14) (va_cwS 1 hts (lw_S q761 q762 q56 q763) rfl rfl rfl hdS_X1_want ⟨Nat.le_of_ble_eq_true rfl, Nat.le_of_ble_eq_true rfl⟩) (xpre hWK hS trivial) rfl rfl hl.1 rfl (lv_room (Nat.le_of_ble_eq_true rfl)) dX1_minuteAt_14 ⟨Nat.le_of_ble_eq_true rfl, Nat.le_of_ble_eq_true rfl⟩) hS (fun E ce q9 H locs hX hz hk hS hq9 hv9 hc9 => vx_out (fun x hx => (hnt x hx).elim) hlocks hq9 hv9 hc9 (fun t ht _ => ⟨by rw [ht]; exact ⟨hX.1.trans (congrArg xExn e9).symm, (by rw [e9]; decide), z, hR.grow hX.2⟩, hS.F ht⟩) hS.2.2 (Nat.le_of_ble_eq_true rfl) (Nat.le_of_ble_eq_true rfl))
  · have e9 : (xMinuteAt S machine on minute).1 = xMayLook S machine on := by simp [xMinuteAt, c_3]
    exact xc_T (vx_runV (As := [.int machine, .int on]) (rest := []) F (xX1_mayLook_no g1 (A := A) (S := S) (ad := ad) (z := z) machine on c_3) (cwV 2 hts (lw_V q1175 q1177 qs26 q56 q1178) rfl rfl rfl hdV_X1_mayLook ⟨Nat.le_of_ble_eq_true rfl, Nat.le_of_ble_eq_true rfl⟩) (xpreV (xrecv hK (xw_0 hR) rfl) hWK hS hR) rfl rfl hl.1 rfl (lv_room (Nat.le_of_ble_eq_true rfl)) dX1_minuteAt_3 ⟨Nat.le_of_ble_eq_true rfl, Nat.le_of_ble_eq_true rfl⟩) hS (fun E ce q9 H locs hX hz hk hS hq9 hv9 hc9 => vx_out (fun x hx => (hnt x hx).elim) hlocks hq9 hv9 hc9 (fun t ht _ => ⟨by rw [ht]; exact ⟨hX.1.trans (congrArg xExn e9).symm, (by rw [e9]; exact c_3), z, hR.grow hX.2⟩, hS.F ht⟩) hS.2.2 (Nat.le_of_ble_eq_true rfl) (Nat.le_of_ble_eq_true rfl))

set_option maxHeartbeats 4000000 in
theorem xX1_usedMinutes {l : Launch} {G : xG} {s0 : State} {b0 : Nat} (g1 : xG1 l G s0 b0) {A : Nat → Prop} {S : xS} {ad : Nat × Nat → Nat} {z : xZ} (machine on : Int32) (hW : xW S) : vx_Met l yX1_usedMinutes (ws_ yX1_usedMinutes cX1_usedMinutes 3 (some .int)) ({ frames := 8, cells := 1, slots := 6, locals := 123 } : Room) (xP s0 A [.ref (ad (0, 0)), .int machine, .int on] (fun H => xRX G A S ad z H)) (xQc (some (.int ((xUsedMinutes S machine on).2.1))) (fun _ H => (xUsedMinutes S machine on).1 = 0 ∧ ∃ ad9 z9, xRX G A (xUsedMinutes S machine on).2.2 ad9 z9 H ∧ ad9 (0, 0) = ad (0, 0)) A) (xXc (fun E _ H => E = xExn (xUsedMinutes S machine on).1 ∧ ¬ (xUsedMinutes S machine on).1 = 0 ∧ ∃ z9, xRX G A S ad z9 H) A) 1 6 A := by
  refine vx_ofW (cc := cX1_usedMinutes) (maxL := 3) (ret := (some .int)) (by decide) rfl ?_
  intro p e s m args below meth c s₁ B hml hnt hv
  obtain ⟨rfl, hWK, hR⟩ := hv
  have g := g1.1
  have hx := B.exec
  have hb := B.bytes
  have hr := B.returns
  have hts := atoms_spec (ws := ws_ yX1_usedMinutes cX1_usedMinutes 3 (some .int)) B.pre
  have hts : ∀ w ∈ lw_all, w.before _ s = true := fun w h => hts w (List.mem_cons_of_mem _ h)
  have hown : s.vm.findClass "Lendlathe" = some m.cls := findClass_of_methodNamed B.named
  have hlocks := B.notSynchronized
  have hK := hWK.K g
  have F : CallFix p m c cX1_usedMinutes 3 s _ lw_all "Lendlathe" := ⟨hx, hb, hml, hown, hts⟩
  have hS : va_S A s.heap s.heap [] := va_S.rf
  have hl := lv_entry ([.ref (ad (0, 0)), .int machine, .int on]) (n := 3) (Nat.le_of_ble_eq_true rfl)
  rw [lg_entry_eq]
  generalize (lg_sl ([.ref (ad (0, 0)), .int machine, .int on]) ++ List.replicate (3 - (lg_sl ([.ref (ad (0, 0)), .int machine, .int on])).length) Slot.unset).toArray = ls at hl ⊢
  have hl : lv_has ls 3 [(0, .ref (ad (0, 0))), (1, .int machine), (2, .int on)] := hl
  have hn0 := hW.1.1
  have hn1 := hW.1.2.1
  have hn2 := hW.1.2.2.1
  have hn3 := hW.1.2.2.2.1
  have hn4 := hW.1.2.2.2.2
  refine lv_aload_n hx hb dX1_usedMinutes_0 rfl (lv_at hl 0 rfl) ?_
  refine lv_iload_n hx hb dX1_usedMinutes_1 rfl (lv_at hl 1 rfl) ?_
  refine lv_iload_n hx hb dX1_usedMinutes_2 rfl (lv_at hl 2 rfl) ?_
  rcases Decidable.em (xMayLook S machine on = 0) with c_3 | c_3
  · refine xc_P0 (va_runV (As := [.int machine, .int on]) (rest := []) F (xX1_mayLook_ok g1 (A := A) (S := S) (ad := ad) (z := z) machine on c_3) (cwV 2 hts (lw_V q1175 q1177 qs26 q56 q1178) rfl rfl rfl hdV_X1_mayLook ⟨Nat.le_of_ble_eq_true rfl, Nat.le_of_ble_eq_true rfl⟩) (xpreV (xrecv hK (xw_0 hR) rfl) hWK hS hR) rfl rfl hl.1 rfl (lv_room (Nat.le_of_ble_eq_true rfl)) dX1_usedMinutes_3 ⟨Nat.le_of_ble_eq_true rfl, Nat.le_of_ble_eq_true rfl⟩) ?_
    refine lv_aload_n hx hb dX1_usedMinutes_6 rfl (lv_at hl 0 rfl) ?_
    refine lv_iload_n hx hb dX1_usedMinutes_7 rfl (lv_at hl 1 rfl) ?_
    refine lv_iload_n hx hb dX1_usedMinutes_8 rfl (lv_at hl 2 rfl) ?_
    refine xc_C (va_runV (As := [.int machine, .int on]) (rest := []) F (xX1_usedOn g1 (A := A) (S := S) (ad := ad) (z := z) machine on hW) (cwV 2 hts (lw_V q734 q736 qs11 q56 q737) rfl rfl rfl hdV_X1_usedOn ⟨Nat.le_of_ble_eq_true rfl, Nat.le_of_ble_eq_true rfl⟩) (xpreV (xrecv hK (xw_0 hR) rfl) hWK hS hR) rfl rfl hl.1 rfl (lv_room (Nat.le_of_ble_eq_true rfl)) dX1_usedMinutes_9 ⟨Nat.le_of_ble_eq_true rfl, Nat.le_of_ble_eq_true rfl⟩) hS (fun H locs hR1 hz hk hS => ?_)
    obtain ⟨z_9, hR⟩ := hR1
    have e9 : xUsedMinutes S machine on = (0, xUsed S machine on, S) := by simp [xUsedMinutes, c_3]
    exact vx_ret (xr_Ci hx hb hr hlocks ((congrArg (fun q => q.2.1) e9).symm) (⟨congrArg Prod.fst e9, ad, z_9, by rw [show (xUsedMinutes S machine on).2.2 = S from congrArg (fun q => q.2.2) e9]; exact hR, rfl⟩) hS (by first | omega | decide) (by first | omega | decide) dX1_usedMinutes_12)
  · have e9 : (xUsedMinutes S machine on).1 = xMayLook S machine on := by simp [xUsedMinutes, c_3]
    exact xc_T (vx_runV (As := [.int machine, .int on]) (rest := []) F (xX1_mayLook_no g1 (A := A) (S := S) (ad := ad) (z := z) machine on c_3) (cwV 2 hts (lw_V q1175 q1177 qs26 q56 q1178) rfl rfl rfl hdV_X1_mayLook ⟨Nat.le_of_ble_eq_true rfl, Nat.le_of_ble_eq_true rfl⟩) (xpreV (xrecv hK (xw_0 hR) rfl) hWK hS hR) rfl rfl hl.1 rfl (lv_room (Nat.le_of_ble_eq_true rfl)) dX1_usedMinutes_3 ⟨Nat.le_of_ble_eq_true rfl, Nat.le_of_ble_eq_true rfl⟩) hS (fun E ce q9 H locs hX hz hk hS hq9 hv9 hc9 => vx_out (fun x hx => (hnt x hx).elim) hlocks hq9 hv9 hc9 (fun t ht _ => ⟨by rw [ht]; exact ⟨hX.1.trans (congrArg xExn e9).symm, (by rw [e9]; exact c_3), z, hR.grow hX.2⟩, hS.F ht⟩) hS.2.2 (Nat.le_of_ble_eq_true rfl) (Nat.le_of_ble_eq_true rfl))

set_option maxHeartbeats 4000000 in
theorem xX1_usedByMinutes {l : Launch} {G : xG} {s0 : State} {b0 : Nat} (g1 : xG1 l G s0 b0) {A : Nat → Prop} {S : xS} {ad : Nat × Nat → Nat} {z : xZ} (machine on : Int32) (hW : xW S) : vx_Met l yX1_usedByMinutes (ws_ yX1_usedByMinutes cX1_usedByMinutes 3 (some .int)) ({ frames := 8, cells := 1, slots := 6, locals := 136 } : Room) (xP s0 A [.ref (ad (0, 0)), .int machine, .int on] (fun H => xRX G A S ad z H)) (xQc (some (.int ((xUsedByMinutes S machine on).2.1))) (fun _ H => (xUsedByMinutes S machine on).1 = 0 ∧ ∃ ad9 z9, xRX G A (xUsedByMinutes S machine on).2.2 ad9 z9 H ∧ ad9 (0, 0) = ad (0, 0)) A) (xXc (fun E _ H => E = xExn (xUsedByMinutes S machine on).1 ∧ ¬ (xUsedByMinutes S machine on).1 = 0 ∧ ∃ z9, xRX G A S ad z9 H) A) 1 6 A := by
  refine vx_ofW (cc := cX1_usedByMinutes) (maxL := 3) (ret := (some .int)) (by decide) rfl ?_
  intro p e s m args below meth c s₁ B hml hnt hv
  obtain ⟨rfl, hWK, hR⟩ := hv
  have g := g1.1
  have hx := B.exec
  have hb := B.bytes
  have hr := B.returns
  have hts := atoms_spec (ws := ws_ yX1_usedByMinutes cX1_usedByMinutes 3 (some .int)) B.pre
  have hts : ∀ w ∈ lw_all, w.before _ s = true := fun w h => hts w (List.mem_cons_of_mem _ h)
  have hown : s.vm.findClass "Lendlathe" = some m.cls := findClass_of_methodNamed B.named
  have hlocks := B.notSynchronized
  have hK := hWK.K g
  have F : CallFix p m c cX1_usedByMinutes 3 s _ lw_all "Lendlathe" := ⟨hx, hb, hml, hown, hts⟩
  have hS : va_S A s.heap s.heap [] := va_S.rf
  have hl := lv_entry ([.ref (ad (0, 0)), .int machine, .int on]) (n := 3) (Nat.le_of_ble_eq_true rfl)
  rw [lg_entry_eq]
  generalize (lg_sl ([.ref (ad (0, 0)), .int machine, .int on]) ++ List.replicate (3 - (lg_sl ([.ref (ad (0, 0)), .int machine, .int on])).length) Slot.unset).toArray = ls at hl ⊢
  have hl : lv_has ls 3 [(0, .ref (ad (0, 0))), (1, .int machine), (2, .int on)] := hl
  have hn0 := hW.1.1
  have hn1 := hW.1.2.1
  have hn2 := hW.1.2.2.1
  have hn3 := hW.1.2.2.2.1
  have hn4 := hW.1.2.2.2.2
  refine lv_aload_n hx hb dX1_usedByMinutes_0 rfl (lv_at hl 0 rfl) ?_
  refine lv_iload_n hx hb dX1_usedByMinutes_1 rfl (lv_at hl 1 rfl) ?_
  refine lv_iload_n hx hb dX1_usedByMinutes_2 rfl (lv_at hl 2 rfl) ?_
  rcases Decidable.em (xMayLook S machine on = 0) with c_3 | c_3
  · refine xc_P0 (va_runV (As := [.int machine, .int on]) (rest := []) F (xX1_mayLook_ok g1 (A := A) (S := S) (ad := ad) (z := z) machine on c_3) (cwV 2 hts (lw_V q1175 q1177 qs26 q56 q1178) rfl rfl rfl hdV_X1_mayLook ⟨Nat.le_of_ble_eq_true rfl, Nat.le_of_ble_eq_true rfl⟩) (xpreV (xrecv hK (xw_0 hR) rfl) hWK hS hR) rfl rfl hl.1 rfl (lv_room (Nat.le_of_ble_eq_true rfl)) dX1_usedByMinutes_3 ⟨Nat.le_of_ble_eq_true rfl, Nat.le_of_ble_eq_true rfl⟩) ?_
    refine lv_aload_n hx hb dX1_usedByMinutes_6 rfl (lv_at hl 0 rfl) ?_
    refine lv_iload_n hx hb dX1_usedByMinutes_7 rfl (lv_at hl 1 rfl) ?_
    refine lv_iload_n hx hb dX1_usedByMinutes_8 rfl (lv_at hl 2 rfl) ?_
    refine xc_C (va_runV (As := [.int machine, .int on]) (rest := []) F (xX1_usedBy g1 (A := A) (S := S) (ad := ad) (z := z) machine on hW) (cwV 2 hts (lw_V q738 q740 qs12 q56 q741) rfl rfl rfl hdV_X1_usedBy ⟨Nat.le_of_ble_eq_true rfl, Nat.le_of_ble_eq_true rfl⟩) (xpreV (xrecv hK (xw_0 hR) rfl) hWK hS hR) rfl rfl hl.1 rfl (lv_room (Nat.le_of_ble_eq_true rfl)) dX1_usedByMinutes_9 ⟨Nat.le_of_ble_eq_true rfl, Nat.le_of_ble_eq_true rfl⟩) hS (fun H locs hR1 hz hk hS => ?_)
    obtain ⟨z_9, hR⟩ := hR1
    have e9 : xUsedByMinutes S machine on = (0, xUsedBy S machine on, S) := by simp [xUsedByMinutes, c_3]
    exact vx_ret (xr_Ci hx hb hr hlocks ((congrArg (fun q => q.2.1) e9).symm) (⟨congrArg Prod.fst e9, ad, z_9, by rw [show (xUsedByMinutes S machine on).2.2 = S from congrArg (fun q => q.2.2) e9]; exact hR, rfl⟩) hS (by first | omega | decide) (by first | omega | decide) dX1_usedByMinutes_12)
  · have e9 : (xUsedByMinutes S machine on).1 = xMayLook S machine on := by simp [xUsedByMinutes, c_3]
    exact xc_T (vx_runV (As := [.int machine, .int on]) (rest := []) F (xX1_mayLook_no g1 (A := A) (S := S) (ad := ad) (z := z) machine on c_3) (cwV 2 hts (lw_V q1175 q1177 qs26 q56 q1178) rfl rfl rfl hdV_X1_mayLook ⟨Nat.le_of_ble_eq_true rfl, Nat.le_of_ble_eq_true rfl⟩) (xpreV (xrecv hK (xw_0 hR) rfl) hWK hS hR) rfl rfl hl.1 rfl (lv_room (Nat.le_of_ble_eq_true rfl)) dX1_usedByMinutes_3 ⟨Nat.le_of_ble_eq_true rfl, Nat.le_of_ble_eq_true rfl⟩) hS (fun E ce q9 H locs hX hz hk hS hq9 hv9 hc9 => vx_out (fun x hx => (hnt x hx).elim) hlocks hq9 hv9 hc9 (fun t ht _ => ⟨by rw [ht]; exact ⟨hX.1.trans (congrArg xExn e9).symm, (by rw [e9]; exact c_3), z, hR.grow hX.2⟩, hS.F ht⟩) hS.2.2 (Nat.le_of_ble_eq_true rfl) (Nat.le_of_ble_eq_true rfl))

set_option maxHeartbeats 4000000 in
theorem xX1_use {l : Launch} {G : xG} {s0 : State} {b0 : Nat} (g1 : xG1 l G s0 b0) {A : Nat → Prop} {S : xS} {ad : Nat × Nat → Nat} {z : xZ} (machine on : Int32) (hW : xW S) : vx_Met l yX1_use (ws_ yX1_use cX1_use 3 (some .float)) ({ frames := 8, cells := 1, slots := 6, locals := 123 } : Room) (xP s0 A [.ref (ad (0, 0)), .int machine, .int on] (fun H => xRX G A S ad z H)) (xQc (some (.float ((xUse S machine on).2.1))) (fun _ H => (xUse S machine on).1 = 0 ∧ ∃ ad9 z9, xRX G A (xUse S machine on).2.2 ad9 z9 H ∧ ad9 (0, 0) = ad (0, 0)) A) (xXc (fun E _ H => E = xExn (xUse S machine on).1 ∧ ¬ (xUse S machine on).1 = 0 ∧ ∃ z9, xRX G A S ad z9 H) A) 1 6 A := by
  refine vx_ofW (cc := cX1_use) (maxL := 3) (ret := (some .float)) (by decide) rfl ?_
  intro p e s m args below meth c s₁ B hml hnt hv
  obtain ⟨rfl, hWK, hR⟩ := hv
  have g := g1.1
  have hx := B.exec
  have hb := B.bytes
  have hr := B.returns
  have hts := atoms_spec (ws := ws_ yX1_use cX1_use 3 (some .float)) B.pre
  have hts : ∀ w ∈ lw_all, w.before _ s = true := fun w h => hts w (List.mem_cons_of_mem _ h)
  have hown : s.vm.findClass "Lendlathe" = some m.cls := findClass_of_methodNamed B.named
  have hlocks := B.notSynchronized
  have hK := hWK.K g
  have F : CallFix p m c cX1_use 3 s _ lw_all "Lendlathe" := ⟨hx, hb, hml, hown, hts⟩
  have hS : va_S A s.heap s.heap [] := va_S.rf
  have hl := lv_entry ([.ref (ad (0, 0)), .int machine, .int on]) (n := 3) (Nat.le_of_ble_eq_true rfl)
  rw [lg_entry_eq]
  generalize (lg_sl ([.ref (ad (0, 0)), .int machine, .int on]) ++ List.replicate (3 - (lg_sl ([.ref (ad (0, 0)), .int machine, .int on])).length) Slot.unset).toArray = ls at hl ⊢
  have hl : lv_has ls 3 [(0, .ref (ad (0, 0))), (1, .int machine), (2, .int on)] := hl
  have hn0 := hW.1.1
  have hn1 := hW.1.2.1
  have hn2 := hW.1.2.2.1
  have hn3 := hW.1.2.2.2.1
  have hn4 := hW.1.2.2.2.2
  refine lv_aload_n hx hb dX1_use_0 rfl (lv_at hl 0 rfl) ?_
  refine lv_iload_n hx hb dX1_use_1 rfl (lv_at hl 1 rfl) ?_
  refine lv_iload_n hx hb dX1_use_2 rfl (lv_at hl 2 rfl) ?_
  rcases Decidable.em (xMayLook S machine on = 0) with c_3 | c_3
  · refine xc_P0 (va_runV (As := [.int machine, .int on]) (rest := []) F (xX1_mayLook_ok g1 (A := A) (S := S) (ad := ad) (z := z) machine on c_3) (cwV 2 hts (lw_V q1175 q1177 qs26 q56 q1178) rfl rfl rfl hdV_X1_mayLook ⟨Nat.le_of_ble_eq_true rfl, Nat.le_of_ble_eq_true rfl⟩) (xpreV (xrecv hK (xw_0 hR) rfl) hWK hS hR) rfl rfl hl.1 rfl (lv_room (Nat.le_of_ble_eq_true rfl)) dX1_use_3 ⟨Nat.le_of_ble_eq_true rfl, Nat.le_of_ble_eq_true rfl⟩) ?_
    refine lv_aload_n hx hb dX1_use_6 rfl (lv_at hl 0 rfl) ?_
    refine lv_iload_n hx hb dX1_use_7 rfl (lv_at hl 1 rfl) ?_
    refine lv_iload_n hx hb dX1_use_8 rfl (lv_at hl 2 rfl) ?_
    refine xc_C (va_runV (As := [.int machine, .int on]) (rest := []) F (xX1_usedOn g1 (A := A) (S := S) (ad := ad) (z := z) machine on hW) (cwV 2 hts (lw_V q734 q736 qs11 q56 q737) rfl rfl rfl hdV_X1_usedOn ⟨Nat.le_of_ble_eq_true rfl, Nat.le_of_ble_eq_true rfl⟩) (xpreV (xrecv hK (xw_0 hR) rfl) hWK hS hR) rfl rfl hl.1 rfl (lv_room (Nat.le_of_ble_eq_true rfl)) dX1_use_9 ⟨Nat.le_of_ble_eq_true rfl, Nat.le_of_ble_eq_true rfl⟩) hS (fun H locs hR1 hz hk hS => ?_)
    obtain ⟨z_9, hR⟩ := hR1
    refine lv_i2f hx hb dX1_use_12 ?_
    refine x_ldcwf (v := 1139802112) hx hb hown (hts _ q1436) dX1_use_13 ?_
    refine lv_fdiv hx hb dX1_use_16 (use_nan _) ?_
    have e9 : xUse S machine on = (0, FP.fdiv (FP.i2f (xUsed S machine on)) 1139802112, S) := by simp [xUse, c_3]
    exact vx_ret (xr_Cf hx hb hr hlocks ((congrArg (fun q => q.2.1) e9).symm) (⟨congrArg Prod.fst e9, ad, z_9, by rw [show (xUse S machine on).2.2 = S from congrArg (fun q => q.2.2) e9]; exact hR, rfl⟩) hS (by first | omega | decide) (by first | omega | decide) dX1_use_17)
  · have e9 : (xUse S machine on).1 = xMayLook S machine on := by simp [xUse, c_3]
    exact xc_T (vx_runV (As := [.int machine, .int on]) (rest := []) F (xX1_mayLook_no g1 (A := A) (S := S) (ad := ad) (z := z) machine on c_3) (cwV 2 hts (lw_V q1175 q1177 qs26 q56 q1178) rfl rfl rfl hdV_X1_mayLook ⟨Nat.le_of_ble_eq_true rfl, Nat.le_of_ble_eq_true rfl⟩) (xpreV (xrecv hK (xw_0 hR) rfl) hWK hS hR) rfl rfl hl.1 rfl (lv_room (Nat.le_of_ble_eq_true rfl)) dX1_use_3 ⟨Nat.le_of_ble_eq_true rfl, Nat.le_of_ble_eq_true rfl⟩) hS (fun E ce q9 H locs hX hz hk hS hq9 hv9 hc9 => vx_out (fun x hx => (hnt x hx).elim) hlocks hq9 hv9 hc9 (fun t ht _ => ⟨by rw [ht]; exact ⟨hX.1.trans (congrArg xExn e9).symm, (by rw [e9]; exact c_3), z, hR.grow hX.2⟩, hS.F ht⟩) hS.2.2 (Nat.le_of_ble_eq_true rfl) (Nat.le_of_ble_eq_true rfl))

set_option maxHeartbeats 4000000 in
theorem xX1_setupMinutes {l : Launch} {G : xG} {s0 : State} {b0 : Nat} (g1 : xG1 l G s0 b0) {A : Nat → Prop} {S : xS} {ad : Nat × Nat → Nat} {z : xZ} (machine on : Int32) (hW : xW S) : vx_Met l yX1_setupMinutes (ws_ yX1_setupMinutes cX1_setupMinutes 7 (some .int)) ({ frames := 8, cells := 1, slots := 6, locals := 123 } : Room) (xP s0 A [.ref (ad (0, 0)), .int machine, .int on] (fun H => xRX G A S ad z H)) (xQc (some (.int ((xSetupMinutes S machine on).2.1))) (fun _ H => (xSetupMinutes S machine on).1 = 0 ∧ ∃ ad9 z9, xRX G A (xSetupMinutes S machine on).2.2 ad9 z9 H ∧ ad9 (0, 0) = ad (0, 0)) A) (xXc (fun E _ H => E = xExn (xSetupMinutes S machine on).1 ∧ ¬ (xSetupMinutes S machine on).1 = 0 ∧ ∃ z9, xRX G A S ad z9 H) A) 1 6 A := by
  refine vx_ofW (cc := cX1_setupMinutes) (maxL := 7) (ret := (some .int)) (by decide) rfl ?_
  intro p e s m args below meth c s₁ B hml hnt hv
  obtain ⟨rfl, hWK, hR⟩ := hv
  have g := g1.1
  have hx := B.exec
  have hb := B.bytes
  have hr := B.returns
  have hts := atoms_spec (ws := ws_ yX1_setupMinutes cX1_setupMinutes 7 (some .int)) B.pre
  have hts : ∀ w ∈ lw_all, w.before _ s = true := fun w h => hts w (List.mem_cons_of_mem _ h)
  have hown : s.vm.findClass "Lendlathe" = some m.cls := findClass_of_methodNamed B.named
  have hlocks := B.notSynchronized
  have hK := hWK.K g
  have F : CallFix p m c cX1_setupMinutes 7 s _ lw_all "Lendlathe" := ⟨hx, hb, hml, hown, hts⟩
  have hS : va_S A s.heap s.heap [] := va_S.rf
  have hl := lv_entry ([.ref (ad (0, 0)), .int machine, .int on]) (n := 7) (Nat.le_of_ble_eq_true rfl)
  rw [lg_entry_eq]
  generalize (lg_sl ([.ref (ad (0, 0)), .int machine, .int on]) ++ List.replicate (7 - (lg_sl ([.ref (ad (0, 0)), .int machine, .int on])).length) Slot.unset).toArray = ls at hl ⊢
  have hl : lv_has ls 7 [(0, .ref (ad (0, 0))), (1, .int machine), (2, .int on)] := hl
  have hn0 := hW.1.1
  have hn1 := hW.1.2.1
  have hn2 := hW.1.2.2.1
  have hn3 := hW.1.2.2.2.1
  have hn4 := hW.1.2.2.2.2
  refine lv_aload_n hx hb dX1_setupMinutes_0 rfl (lv_at hl 0 rfl) ?_
  refine lv_iload_n hx hb dX1_setupMinutes_1 rfl (lv_at hl 1 rfl) ?_
  refine lv_iload_n hx hb dX1_setupMinutes_2 rfl (lv_at hl 2 rfl) ?_
  rcases Decidable.em (xMayLook S machine on = 0) with c_3 | c_3
  · refine xc_P0 (va_runV (As := [.int machine, .int on]) (rest := []) F (xX1_mayLook_ok g1 (A := A) (S := S) (ad := ad) (z := z) machine on c_3) (cwV 2 hts (lw_V q1175 q1177 qs26 q56 q1178) rfl rfl rfl hdV_X1_mayLook ⟨Nat.le_of_ble_eq_true rfl, Nat.le_of_ble_eq_true rfl⟩) (xpreV (xrecv hK (xw_0 hR) rfl) hWK hS hR) rfl rfl hl.1 rfl (lv_room (Nat.le_of_ble_eq_true rfl)) dX1_setupMinutes_3 ⟨Nat.le_of_ble_eq_true rfl, Nat.le_of_ble_eq_true rfl⟩) ?_
    obtain ⟨mj, hmj, rfl⟩ := inI_of' (n := S.1 0 0) (by first | rfl | decide) (by first | decide | omega) (xMayLook_in c_3)
    refine lv_iconst (v := 0) hx hb dX1_setupMinutes_6 (by decide) ?_
    refine lv_istore_n (lv' := [(3, .int 0), (0, .ref (ad (0, 0))), (1, .int (nI mj)), (2, .int on)]) hx hb dX1_setupMinutes_7 rfl hl (by decide) rfl (fun ls hl => ?_)
    refine lv_null hx hb dX1_setupMinutes_8 ?_
    refine lv_astoreN (lv' := [(4, .null), (3, .int 0), (0, .ref (ad (0, 0))), (1, .int (nI mj)), (2, .int on)]) hx hb dX1_setupMinutes_9 hl (by decide) rfl (fun ls hl => ?_)
    refine lv_aload_n hx hb dX1_setupMinutes_11 rfl (lv_at hl 2 rfl) ?_
    refine g_X1_53 F hK (xw_0 hR) (v := .ref (ad (10, 0))) rfl dX1_setupMinutes_12 ?_
    refine lv_iload_n hx hb dX1_setupMinutes_15 rfl (lv_at hl 3 rfl) ?_
    refine lv_iload_n hx hb dX1_setupMinutes_16 rfl (lv_at hl 4 rfl) ?_
    refine xc_C (va_runV (As := [.int (nI mj), .int on]) (rest := []) F (xX3_over g1 (A := A) (S := S) (ad := ad) (z := z) (nI mj) on hW) (cwV 2 hts (lw_V q529 q530 q531 q77 q532) rfl rfl rfl hdV_X3_over ⟨Nat.le_of_ble_eq_true rfl, Nat.le_of_ble_eq_true rfl⟩) (xpreV (xrecv hK (xw_10 hR) rfl) hWK hS hR) rfl rfl hl.1 rfl (lv_room (Nat.le_of_ble_eq_true rfl)) dX1_setupMinutes_17 ⟨Nat.le_of_ble_eq_true rfl, Nat.le_of_ble_eq_true rfl⟩) hS (fun H locs hR1 hz hk hS => ?_)
    obtain ⟨zo, hR, hrow⟩ := hR1
    have hlen : (xOverN S.2.1 (nI mj) on (S.1 2 0)).length ≤ 150 := Nat.le_trans (xOverN_len _ _ _ _) (by omega)
    obtain ⟨Lx, hLx⟩ : ∃ Lx, Lx = xOverN S.2.1 (nI mj) on (S.1 2 0) := ⟨_, rfl⟩
    rw [← hLx] at hrow hlen
    have hLlt : ∀ k en : Nat, Lx[k]? = some en → en < S.1 2 0 := fun k en hq => xOverN_at (by rw [← hLx]; exact hq)
    refine xc_C (va_runV (As := []) (rest := []) F (xX3_iterator g1 (A := A) (S := S) (ad := ad) (z := zo) ) (cwV 0 hts (lw_V q543 q544 q545 q77 q546) rfl rfl rfl hdV_X3_iterator ⟨Nat.le_of_ble_eq_true rfl, Nat.le_of_ble_eq_true rfl⟩) (xpreV (xrecv hK (xw_10 hR) rfl) hWK hS hR) rfl rfl hl.1 rfl (lv_room (Nat.le_of_ble_eq_true rfl)) dX1_setupMinutes_20 ⟨Nat.le_of_ble_eq_true rfl, Nat.le_of_ble_eq_true rfl⟩) hS (fun H locs hR1 hz hk hS => ?_)
    have hR := hR1
    refine lv_astore (lv' := [(5, .ref (ad (10, 0))), (4, .null), (3, .int 0), (0, .ref (ad (0, 0))), (1, .int (nI mj)), (2, .int on)]) hx hb dX1_setupMinutes_23 hl (by decide) rfl (fun ls hl => ?_)
    have L25 : ∀ (n : Nat) (j : Nat) (z1 : xZ) (lv : Value) (la : Option Nat) (acc : Int32), Lx.length - j < n → (j ≤ Lx.length) → (xRow ad z1 Lx) → (z1.2.2 = nI j) → ((lv = .null ∧ la = none) ∨ ∃ a, a < S.1 2 0 ∧ lv = .ref (ad (23, a)) ∧ la = some a) → (xSetL S.2.1 mj (Lx.drop j) la acc = xSetL S.2.1 mj Lx none 0) → ∀ (H : Heap) (locs : List Loc), xRX G A S ad z1 H → va_S A s.heap H locs → ∀ (ls : Array Slot), lv_has ls 7 [(5, .ref (ad (10, 0))), (4, lv), (3, .int acc), (0, .ref (ad (0, 0))), (1, .int (nI mj)), (2, .int on)] → W p l e (headSpec (ws_ yX1_setupMinutes cX1_setupMinutes 7 (some .int)) ({ frames := 8, cells := 1, slots := 6, locals := 123 } : Room)).room s m ([.ref (ad (0, 0)), .int (nI mj), .int on] : List Value).toArray below meth c H locs 0 0 (vx_MQ below (xQc (some (.int ((xSetupMinutes S (nI mj) on).2.1))) (fun _ H => (xSetupMinutes S (nI mj) on).1 = 0 ∧ ∃ ad9 z9, xRX G A (xSetupMinutes S (nI mj) on).2.2 ad9 z9 H ∧ ad9 (0, 0) = ad (0, 0)) A) (xXc (fun E _ H => E = xExn (xSetupMinutes S (nI mj) on).1 ∧ ¬ (xSetupMinutes S (nI mj) on).1 = 0 ∧ ∃ z9, xRX G A S ad z9 H) A) ([.ref (ad (0, 0)), .int (nI mj), .int on] : List Value).toArray s 1 6 A) (F0 m 25 ls []) := by
      intro n25
      induction n25 with
      | zero =>
        intro j z1 lv la acc hn25
        exact absurd hn25 (Nat.not_lt_zero _)
      | succ n25 ih25 =>
        intro j z1 lv la acc hn25 hjl hrow hj hlast hbz H locs hR hS ls hl
        refine lv_aload hx hb dX1_setupMinutes_25 (lv_at hl 0 rfl) ?_
        refine xc5_P (va_runF (As := []) (rest := []) (xClassAt hK (ci := 3) rfl) F (xX3_hasNext g1 (A := A) (S := S) (ad := ad) (z := z1) ) (va_cwF (x := ⟨"java/util/Iterator", "hasNext", "()Z"⟩) (C := "Lendlathe$Walk") 0 hts (lw_F q548 q552 q554 q77 q556) rfl rfl rfl (xnW hWK g (by decide) q550 q549 q555 q553 q551) (by decide +kernel) ⟨Nat.le_of_ble_eq_true rfl, Nat.le_of_ble_eq_true rfl⟩) (xpreV (xrecv hK (xw_10 hR) rfl) hWK hS hR) rfl rfl hl.1 rfl (lv_room (Nat.le_of_ble_eq_true rfl)) dX1_setupMinutes_27 ⟨Nat.le_of_ble_eq_true rfl, Nat.le_of_ble_eq_true rfl⟩) ?_
        refine x_ifeq (tgt := 81) hx hb dX1_setupMinutes_32 (by decide) (fun c_32 => ?_) (fun c_32 => ?_)
        · have c_32 := of_decide_eq_false c_32
          have hje := walk_end hj hrow.1 hjl hlen c_32
          have hed : Lx.drop j = [] := by rw [hje]; exact List.drop_length
          refine lv_iload_n hx hb dX1_setupMinutes_81 rfl (lv_at hl 2 rfl) ?_
          have hB : xSetL S.2.1 mj (xOverN S.2.1 (nI mj) on (S.1 2 0)) none 0 = acc := by rw [← hLx, ← hbz, hed]; rfl
          have e9 : xSetupMinutes S (nI mj) on = (0, acc, S) := by simp [xSetupMinutes, c_3, c_32, hB, nI_clamp (show mj < 2 ^ 31 by omega)]
          exact vx_ret (xr_Ci hx hb hr hlocks ((congrArg (fun q => q.2.1) e9).symm) (⟨congrArg Prod.fst e9, ad, z1, by rw [show (xSetupMinutes S (nI mj) on).2.2 = S from congrArg (fun q => q.2.2) e9]; exact hR, rfl⟩) hS (by first | omega | decide) (by first | omega | decide) dX1_setupMinutes_82)
        · have c_32 := of_decide_eq_true c_32
          have hjl2 := walk_more hj hrow.1 ⟨hlen, hjl⟩ c_32
          obtain ⟨en, he⟩ : ∃ en, Lx[j]? = some en := ⟨_, List.getElem?_eq_getElem hjl2⟩
          have hen := hLlt j en he
          have hed := drop_at he
          rcases hlast with ⟨rfl, rfl⟩ | ⟨a, han, rfl, rfl⟩
          · refine lv_aload hx hb dX1_setupMinutes_35 (lv_at hl 0 rfl) ?_
            refine xc5_C (va_runF (As := []) (rest := []) (xClassAt hK (ci := 3) rfl) F (xX3_next g1 (A := A) (S := S) (ad := ad) (z := z1) j en Lx hrow hj he hen hlen) (va_cwF (x := ⟨"java/util/Iterator", "next", "()Ljava/lang/Object;"⟩) (C := "Lendlathe$Walk") 0 hts (lw_F q558 q561 q563 q77 q565) rfl rfl rfl (xnW hWK g (by decide) q560 q559 q564 q562 q551) (by decide +kernel) ⟨Nat.le_of_ble_eq_true rfl, Nat.le_of_ble_eq_true rfl⟩) (xpreV (xrecv hK (xw_10 hR) rfl) hWK hS hR) rfl rfl hl.1 rfl (lv_room (Nat.le_of_ble_eq_true rfl)) dX1_setupMinutes_37 ⟨Nat.le_of_ble_eq_true rfl, Nat.le_of_ble_eq_true rfl⟩) hS (fun H locs hR1 hz hk hS => ?_)
            have hR := hR1
            refine x_castO F hK rfl (xw_23 hR hen) (hts _ q514) dX1_setupMinutes_42 ?_
            refine lv_astore (lv' := [(6, .ref (ad (23, en))), (5, .ref (ad (10, 0))), (4, .null), (3, .int acc), (0, .ref (ad (0, 0))), (1, .int (nI mj)), (2, .int on)]) hx hb dX1_setupMinutes_45 hl (by decide) rfl (fun ls hl => ?_)
            refine lv_iload_n hx hb dX1_setupMinutes_47 rfl (lv_at hl 3 rfl) ?_
            refine lv_aloadN hx hb dX1_setupMinutes_48 (lv_at hl 2 rfl) ?_
            refine lv_ifnonnullN hx hb dX1_setupMinutes_50 ?_
            refine lv_iconst (v := 0) hx hb dX1_setupMinutes_53 (by decide) ?_
            refine lv_goto (tgt := 72) hx hb dX1_setupMinutes_54 (by decide) ?_
            refine lv_iadd hx hb dX1_setupMinutes_72 ?_
            refine lv_istore_n (lv' := [(3, .int (acc + 0)), (6, .ref (ad (23, en))), (5, .ref (ad (10, 0))), (4, .null), (0, .ref (ad (0, 0))), (1, .int (nI mj)), (2, .int on)]) hx hb dX1_setupMinutes_73 rfl hl (by decide) rfl (fun ls hl => ?_)
            refine lv_aload hx hb dX1_setupMinutes_74 (lv_at hl 1 rfl) ?_
            refine lv_astore (lv' := [(4, .ref (ad (23, en))), (3, .int (acc + 0)), (6, .ref (ad (23, en))), (5, .ref (ad (10, 0))), (0, .ref (ad (0, 0))), (1, .int (nI mj)), (2, .int on)]) hx hb dX1_setupMinutes_76 hl (by decide) rfl (fun ls hl => ?_)
            refine lv_goto (tgt := 25) hx hb dX1_setupMinutes_78 (by decide) ?_
            exact ih25 (j + 1) (z1.1, z1.2.1, nI (j + 1)) (.ref (ad (23, en))) (some en) (acc + 0) (by omega) (by omega) ⟨hrow.1, hrow.2⟩ rfl (Or.inr ⟨en, hen, rfl, rfl⟩) (by rw [← hbz, hed]; rfl) _ _ hR hS ls (lv_sub hl [3, 0, 1, 4, 5, 6] rfl)
          · refine lv_aload hx hb dX1_setupMinutes_35 (lv_at hl 0 rfl) ?_
            refine xc5_C (va_runF (As := []) (rest := []) (xClassAt hK (ci := 3) rfl) F (xX3_next g1 (A := A) (S := S) (ad := ad) (z := z1) j en Lx hrow hj he hen hlen) (va_cwF (x := ⟨"java/util/Iterator", "next", "()Ljava/lang/Object;"⟩) (C := "Lendlathe$Walk") 0 hts (lw_F q558 q561 q563 q77 q565) rfl rfl rfl (xnW hWK g (by decide) q560 q559 q564 q562 q551) (by decide +kernel) ⟨Nat.le_of_ble_eq_true rfl, Nat.le_of_ble_eq_true rfl⟩) (xpreV (xrecv hK (xw_10 hR) rfl) hWK hS hR) rfl rfl hl.1 rfl (lv_room (Nat.le_of_ble_eq_true rfl)) dX1_setupMinutes_37 ⟨Nat.le_of_ble_eq_true rfl, Nat.le_of_ble_eq_true rfl⟩) hS (fun H locs hR1 hz hk hS => ?_)
            have hR := hR1
            refine x_castO F hK rfl (xw_23 hR hen) (hts _ q514) dX1_setupMinutes_42 ?_
            refine lv_astore (lv' := [(6, .ref (ad (23, en))), (5, .ref (ad (10, 0))), (4, .ref (ad (23, a))), (3, .int acc), (0, .ref (ad (0, 0))), (1, .int (nI mj)), (2, .int on)]) hx hb dX1_setupMinutes_45 hl (by decide) rfl (fun ls hl => ?_)
            refine lv_iload_n hx hb dX1_setupMinutes_47 rfl (lv_at hl 3 rfl) ?_
            refine lv_aload hx hb dX1_setupMinutes_48 (lv_at hl 2 rfl) ?_
            refine lv_ifnonnull (tgt := 57) hx hb dX1_setupMinutes_50 (by decide) ?_
            refine lv_aload_n hx hb dX1_setupMinutes_57 rfl (lv_at hl 4 rfl) ?_
            refine lv_iload_n hx hb dX1_setupMinutes_58 rfl (lv_at hl 5 rfl) ?_
            refine lv_aload hx hb dX1_setupMinutes_59 (lv_at hl 2 rfl) ?_
            refine g_X1_181 F hWK g hK (xw_23 hR han) (v := .int (S.2.1 15 a 0)) rfl dX1_setupMinutes_61 ?_
            refine lv_aload hx hb dX1_setupMinutes_64 (lv_at hl 0 rfl) ?_
            refine g_X1_181 F hWK g hK (xw_23 hR hen) (v := .int (S.2.1 15 en 0)) rfl dX1_setupMinutes_66 ?_
            refine xc_P (va_runV (As := [.int (nI mj), .int (S.2.1 15 a 0), .int (S.2.1 15 en 0)]) (rest := [.int acc]) F (xX1_setup g1 (A := A) (S := S) (ad := ad) (z := (z1.1, z1.2.1, nI (j + 1))) (S.2.1 15 a 0) (S.2.1 15 en 0) (xi_nI (n := (S.1 0 0)) (by omega) (by omega)) hW) (cwV 3 hts (lw_V q591 q593 qs5 q56 q594) rfl rfl rfl hdV_X1_setup ⟨Nat.le_of_ble_eq_true rfl, Nat.le_of_ble_eq_true rfl⟩) (xpreV (xrecv hK (xw_0 hR) rfl) hWK hS hR) rfl rfl hl.1 rfl (lv_room (Nat.le_of_ble_eq_true rfl)) dX1_setupMinutes_69 ⟨Nat.le_of_ble_eq_true rfl, Nat.le_of_ble_eq_true rfl⟩) ?_
            refine lv_iadd hx hb dX1_setupMinutes_72 ?_
            refine lv_istore_n (lv' := [(3, .int (acc + (mSetup S.2.1 mj (S.2.1 15 a 0) (S.2.1 15 en 0)))), (6, .ref (ad (23, en))), (5, .ref (ad (10, 0))), (4, .ref (ad (23, a))), (0, .ref (ad (0, 0))), (1, .int (nI mj)), (2, .int on)]) hx hb dX1_setupMinutes_73 rfl hl (by decide) rfl (fun ls hl => ?_)
            refine lv_aload hx hb dX1_setupMinutes_74 (lv_at hl 1 rfl) ?_
            refine lv_astore (lv' := [(4, .ref (ad (23, en))), (3, .int (acc + (mSetup S.2.1 mj (S.2.1 15 a 0) (S.2.1 15 en 0)))), (6, .ref (ad (23, en))), (5, .ref (ad (10, 0))), (0, .ref (ad (0, 0))), (1, .int (nI mj)), (2, .int on)]) hx hb dX1_setupMinutes_76 hl (by decide) rfl (fun ls hl => ?_)
            refine lv_goto (tgt := 25) hx hb dX1_setupMinutes_78 (by decide) ?_
            exact ih25 (j + 1) (z1.1, z1.2.1, nI (j + 1)) (.ref (ad (23, en))) (some en) (acc + (mSetup S.2.1 mj (S.2.1 15 a 0) (S.2.1 15 en 0))) (by omega) (by omega) ⟨hrow.1, hrow.2⟩ rfl (Or.inr ⟨en, hen, rfl, rfl⟩) (by rw [← hbz, hed]; rfl) _ _ hR hS ls (lv_sub hl [3, 0, 1, 4, 5, 6] rfl)
    exact L25 (Lx.length + 1) 0 (zo.1, zo.2.1, 0) .null none 0 (by omega) (Nat.zero_le _) ⟨hrow.1, hrow.2⟩ rfl (Or.inl ⟨rfl, rfl⟩) rfl _ _ hR hS ls (lv_sub hl [0, 1, 2, 3, 4, 5] rfl)
  · have e9 : (xSetupMinutes S machine on).1 = xMayLook S machine on := by simp [xSetupMinutes, c_3]
    exact xc_T (vx_runV (As := [.int machine, .int on]) (rest := []) F (xX1_mayLook_no g1 (A := A) (S := S) (ad := ad) (z := z) machine on c_3) (cwV 2 hts (lw_V q1175 q1177 qs26 q56 q1178) rfl rfl rfl hdV_X1_mayLook ⟨Nat.le_of_ble_eq_true rfl, Nat.le_of_ble_eq_true rfl⟩) (xpreV (xrecv hK (xw_0 hR) rfl) hWK hS hR) rfl rfl hl.1 rfl (lv_room (Nat.le_of_ble_eq_true rfl)) dX1_setupMinutes_3 ⟨Nat.le_of_ble_eq_true rfl, Nat.le_of_ble_eq_true rfl⟩) hS (fun E ce q9 H locs hX hz hk hS hq9 hv9 hc9 => vx_out (fun x hx => (hnt x hx).elim) hlocks hq9 hv9 hc9 (fun t ht _ => ⟨by rw [ht]; exact ⟨hX.1.trans (congrArg xExn e9).symm, (by rw [e9]; exact c_3), z, hR.grow hX.2⟩, hS.F ht⟩) hS.2.2 (Nat.le_of_ble_eq_true rfl) (Nat.le_of_ble_eq_true rfl))

set_option maxHeartbeats 4000000 in
theorem xX1_firstStart {l : Launch} {G : xG} {s0 : State} {b0 : Nat} (g1 : xG1 l G s0 b0) {A : Nat → Prop} {S : xS} {ad : Nat × Nat → Nat} {z : xZ} (machine on minutes work : Int32) (hW : xW S) : vx_Met l yX1_firstStart (ws_ yX1_firstStart cX1_firstStart 8 (some .int)) ({ frames := 8, cells := 1, slots := 6, locals := 125 } : Room) (xP s0 A [.ref (ad (0, 0)), .int machine, .int on, .int minutes, .int work] (fun H => xRX G A S ad z H)) (xQc (some (.int ((xFirstStart S machine on minutes work).2.1))) (fun _ H => (xFirstStart S machine on minutes work).1 = 0 ∧ ∃ ad9 z9, xRX G A (xFirstStart S machine on minutes work).2.2 ad9 z9 H ∧ ad9 (0, 0) = ad (0, 0)) A) (xXc (fun E _ H => E = xExn (xFirstStart S machine on minutes work).1 ∧ ¬ (xFirstStart S machine on minutes work).1 = 0 ∧ ∃ z9, xRX G A S ad z9 H) A) 1 6 A := by
  refine vx_ofW (cc := cX1_firstStart) (maxL := 8) (ret := (some .int)) (by decide) rfl ?_
  intro p e s m args below meth c s₁ B hml hnt hv
  obtain ⟨rfl, hWK, hR⟩ := hv
  have g := g1.1
  have hx := B.exec
  have hb := B.bytes
  have hr := B.returns
  have hts := atoms_spec (ws := ws_ yX1_firstStart cX1_firstStart 8 (some .int)) B.pre
  have hts : ∀ w ∈ lw_all, w.before _ s = true := fun w h => hts w (List.mem_cons_of_mem _ h)
  have hown : s.vm.findClass "Lendlathe" = some m.cls := findClass_of_methodNamed B.named
  have hlocks := B.notSynchronized
  have hK := hWK.K g
  have F : CallFix p m c cX1_firstStart 8 s _ lw_all "Lendlathe" := ⟨hx, hb, hml, hown, hts⟩
  have hS : va_S A s.heap s.heap [] := va_S.rf
  have hl := lv_entry ([.ref (ad (0, 0)), .int machine, .int on, .int minutes, .int work]) (n := 8) (Nat.le_of_ble_eq_true rfl)
  rw [lg_entry_eq]
  generalize (lg_sl ([.ref (ad (0, 0)), .int machine, .int on, .int minutes, .int work]) ++ List.replicate (8 - (lg_sl ([.ref (ad (0, 0)), .int machine, .int on, .int minutes, .int work])).length) Slot.unset).toArray = ls at hl ⊢
  have hl : lv_has ls 8 [(0, .ref (ad (0, 0))), (1, .int machine), (2, .int on), (3, .int minutes), (4, .int work)] := hl
  have hn0 := hW.1.1
  have hn1 := hW.1.2.1
  have hn2 := hW.1.2.2.1
  have hn3 := hW.1.2.2.2.1
  have hn4 := hW.1.2.2.2.2
  refine lv_aload_n hx hb dX1_firstStart_0 rfl (lv_at hl 0 rfl) ?_
  refine lv_iload_n hx hb dX1_firstStart_1 rfl (lv_at hl 1 rfl) ?_
  refine lv_iload_n hx hb dX1_firstStart_2 rfl (lv_at hl 2 rfl) ?_
  refine lv_iload_n hx hb dX1_firstStart_3 rfl (lv_at hl 3 rfl) ?_
  refine lv_iload hx hb dX1_firstStart_4 (lv_at hl 4 rfl) ?_
  rcases Decidable.em (xMayStart S machine on minutes work = 0) with c_6 | c_6
  · refine xc_P0 (va_runV (As := [.int machine, .int on, .int minutes, .int work]) (rest := []) F (xX1_mayStart_ok g1 (A := A) (S := S) (ad := ad) (z := z) machine on minutes work c_6) (cwV 4 hts (lw_V q1207 q1209 qs27 q56 q1210) rfl rfl rfl hdV_X1_mayStart ⟨Nat.le_of_ble_eq_true rfl, Nat.le_of_ble_eq_true rfl⟩) (xpreV (xrecv hK (xw_0 hR) rfl) hWK hS hR) rfl rfl hl.1 rfl (lv_room (Nat.le_of_ble_eq_true rfl)) dX1_firstStart_6 ⟨Nat.le_of_ble_eq_true rfl, Nat.le_of_ble_eq_true rfl⟩) ?_
    obtain ⟨mj, hmj, rfl⟩ := inI_of' (n := S.1 0 0) (by first | rfl | decide) (by first | decide | omega) (xMayStart_in c_6).1
    refine lv_iconst (v := 0) hx hb dX1_firstStart_9 (by decide) ?_
    refine lv_istore (lv' := [(5, .int 0), (0, .ref (ad (0, 0))), (1, .int (nI mj)), (2, .int on), (3, .int minutes), (4, .int work)]) hx hb dX1_firstStart_10 hl (by decide) rfl (fun ls hl => ?_)
    refine lv_aload_n hx hb dX1_firstStart_12 rfl (lv_at hl 1 rfl) ?_
    refine g_X1_53 F hK (xw_0 hR) (v := .ref (ad (10, 0))) rfl dX1_firstStart_13 ?_
    refine lv_iload_n hx hb dX1_firstStart_16 rfl (lv_at hl 2 rfl) ?_
    refine lv_iload_n hx hb dX1_firstStart_17 rfl (lv_at hl 3 rfl) ?_
    refine xc_C (va_runV (As := [.int (nI mj), .int on]) (rest := []) F (xX3_over g1 (A := A) (S := S) (ad := ad) (z := z) (nI mj) on hW) (cwV 2 hts (lw_V q529 q530 q531 q77 q532) rfl rfl rfl hdV_X3_over ⟨Nat.le_of_ble_eq_true rfl, Nat.le_of_ble_eq_true rfl⟩) (xpreV (xrecv hK (xw_10 hR) rfl) hWK hS hR) rfl rfl hl.1 rfl (lv_room (Nat.le_of_ble_eq_true rfl)) dX1_firstStart_18 ⟨Nat.le_of_ble_eq_true rfl, Nat.le_of_ble_eq_true rfl⟩) hS (fun H locs hR1 hz hk hS => ?_)
    obtain ⟨zo, hR, hrow⟩ := hR1
    have hlen : (xOverN S.2.1 (nI mj) on (S.1 2 0)).length ≤ 150 := Nat.le_trans (xOverN_len _ _ _ _) (by omega)
    obtain ⟨Lx, hLx⟩ : ∃ Lx, Lx = xOverN S.2.1 (nI mj) on (S.1 2 0) := ⟨_, rfl⟩
    rw [← hLx] at hrow hlen
    have hLlt : ∀ k en : Nat, Lx[k]? = some en → en < S.1 2 0 := fun k en hq => xOverN_at (by rw [← hLx]; exact hq)
    refine xc_C (va_runV (As := []) (rest := []) F (xX3_iterator g1 (A := A) (S := S) (ad := ad) (z := zo) ) (cwV 0 hts (lw_V q543 q544 q545 q77 q546) rfl rfl rfl hdV_X3_iterator ⟨Nat.le_of_ble_eq_true rfl, Nat.le_of_ble_eq_true rfl⟩) (xpreV (xrecv hK (xw_10 hR) rfl) hWK hS hR) rfl rfl hl.1 rfl (lv_room (Nat.le_of_ble_eq_true rfl)) dX1_firstStart_21 ⟨Nat.le_of_ble_eq_true rfl, Nat.le_of_ble_eq_true rfl⟩) hS (fun H locs hR1 hz hk hS => ?_)
    have hR := hR1
    refine lv_astore (lv' := [(6, .ref (ad (10, 0))), (5, .int 0), (0, .ref (ad (0, 0))), (1, .int (nI mj)), (2, .int on), (3, .int minutes), (4, .int work)]) hx hb dX1_firstStart_24 hl (by decide) rfl (fun ls hl => ?_)
    have L26 : ∀ (n : Nat) (j : Nat) (z1 : xZ) (acc : Int32), Lx.length - j < n → (j ≤ Lx.length) → (xRow ad z1 Lx) → (z1.2.2 = nI j) → (xFirstL S.2.1 mj minutes work (Lx.drop j) acc = xFirstL S.2.1 mj minutes work Lx 0) → ∀ (H : Heap) (locs : List Loc), xRX G A S ad z1 H → va_S A s.heap H locs → ∀ (ls : Array Slot), lv_has ls 8 [(6, .ref (ad (10, 0))), (5, .int acc), (0, .ref (ad (0, 0))), (1, .int (nI mj)), (2, .int on), (3, .int minutes), (4, .int work)] → W p l e (headSpec (ws_ yX1_firstStart cX1_firstStart 8 (some .int)) ({ frames := 8, cells := 1, slots := 6, locals := 125 } : Room)).room s m ([.ref (ad (0, 0)), .int (nI mj), .int on, .int minutes, .int work] : List Value).toArray below meth c H locs 0 0 (vx_MQ below (xQc (some (.int ((xFirstStart S (nI mj) on minutes work).2.1))) (fun _ H => (xFirstStart S (nI mj) on minutes work).1 = 0 ∧ ∃ ad9 z9, xRX G A (xFirstStart S (nI mj) on minutes work).2.2 ad9 z9 H ∧ ad9 (0, 0) = ad (0, 0)) A) (xXc (fun E _ H => E = xExn (xFirstStart S (nI mj) on minutes work).1 ∧ ¬ (xFirstStart S (nI mj) on minutes work).1 = 0 ∧ ∃ z9, xRX G A S ad z9 H) A) ([.ref (ad (0, 0)), .int (nI mj), .int on, .int minutes, .int work] : List Value).toArray s 1 6 A) (F0 m 26 ls []) := by
      intro n26
      induction n26 with
      | zero =>
        intro j z1 acc hn26
        exact absurd hn26 (Nat.not_lt_zero _)
      | succ n26 ih26 =>
        intro j z1 acc hn26 hjl hrow hj hbz H locs hR hS ls hl
        refine lv_aload hx hb dX1_firstStart_26 (lv_at hl 0 rfl) ?_
        refine xc5_P (va_runF (As := []) (rest := []) (xClassAt hK (ci := 3) rfl) F (xX3_hasNext g1 (A := A) (S := S) (ad := ad) (z := z1) ) (va_cwF (x := ⟨"java/util/Iterator", "hasNext", "()Z"⟩) (C := "Lendlathe$Walk") 0 hts (lw_F q548 q552 q554 q77 q556) rfl rfl rfl (xnW hWK g (by decide) q550 q549 q555 q553 q551) (by decide +kernel) ⟨Nat.le_of_ble_eq_true rfl, Nat.le_of_ble_eq_true rfl⟩) (xpreV (xrecv hK (xw_10 hR) rfl) hWK hS hR) rfl rfl hl.1 rfl (lv_room (Nat.le_of_ble_eq_true rfl)) dX1_firstStart_28 ⟨Nat.le_of_ble_eq_true rfl, Nat.le_of_ble_eq_true rfl⟩) ?_
        refine x_ifeq (tgt := 99) hx hb dX1_firstStart_33 (by decide) (fun c_33 => ?_) (fun c_33 => ?_)
        · have c_33 := of_decide_eq_false c_33
          have hje := walk_end hj hrow.1 hjl hlen c_33
          have hed : Lx.drop j = [] := by rw [hje]; exact List.drop_length
          refine lv_iload hx hb dX1_firstStart_99 (lv_at hl 1 rfl) ?_
          refine lv_iload_n hx hb dX1_firstStart_101 rfl (lv_at hl 5 rfl) ?_
          refine lv_iadd hx hb dX1_firstStart_102 ?_
          refine lv_sipush (v := 480) hx hb dX1_firstStart_103 (by decide) ?_
          refine lv_icmp_gt (tgt := 113) hx hb dX1_firstStart_106 (by decide) (fun c_106 => ?_) (fun c_106 => ?_)
          · have n_106 := Int32.not_le.mpr c_106
            refine lv_iconst (v := 0) hx hb dX1_firstStart_113 (by decide) ?_
            have hB : xFirstL S.2.1 mj minutes work (xOverN S.2.1 (nI mj) on (S.1 2 0)) 0 = .inr acc := by rw [← hLx, ← hbz, hed]; rfl
            have e9 : (xFirstStart S (nI mj) on minutes work).1 = 3 := by simp [xFirstStart, c_6, c_33, c_106, n_106, hB, nI_clamp (show mj < 2 ^ 31 by omega)]
            exact xc_T (vx_runS (As := [.int 0]) (rest := []) F (xX1_known_no g1 (A := A) false rfl) (va_cwS 1 hts (lw_S q1125 q1126 q56 q1127) rfl rfl rfl hdS_X1_known ⟨Nat.le_of_ble_eq_true rfl, Nat.le_of_ble_eq_true rfl⟩) (xpre hWK hS trivial) rfl rfl hl.1 rfl (lv_room (Nat.le_of_ble_eq_true rfl)) dX1_firstStart_114 ⟨Nat.le_of_ble_eq_true rfl, Nat.le_of_ble_eq_true rfl⟩) hS (fun E ce q9 H locs hX hz hk hS hq9 hv9 hc9 => vx_out (fun x hx => (hnt x hx).elim) hlocks hq9 hv9 hc9 (fun t ht _ => ⟨by rw [ht]; exact ⟨hX.1.trans (congrArg xExn e9).symm, (by rw [e9]; decide), z1, hR.grow hX.2⟩, hS.F ht⟩) hS.2.2 (Nat.le_of_ble_eq_true rfl) (Nat.le_of_ble_eq_true rfl))
          · have n_106 := Int32.not_lt.mp c_106
            refine lv_iconst (v := 1) hx hb dX1_firstStart_109 (by decide) ?_
            refine lv_goto (tgt := 114) hx hb dX1_firstStart_110 (by decide) ?_
            refine xc_P0 (va_runS (As := [.int 1]) (rest := []) F (xX1_known_ok g1 (A := A) true rfl) (va_cwS 1 hts (lw_S q1125 q1126 q56 q1127) rfl rfl rfl hdS_X1_known ⟨Nat.le_of_ble_eq_true rfl, Nat.le_of_ble_eq_true rfl⟩) (xpre hWK hS trivial) rfl rfl hl.1 rfl (lv_room (Nat.le_of_ble_eq_true rfl)) dX1_firstStart_114 ⟨Nat.le_of_ble_eq_true rfl, Nat.le_of_ble_eq_true rfl⟩) ?_
            refine lv_iload hx hb dX1_firstStart_117 (lv_at hl 1 rfl) ?_
            have hB : xFirstL S.2.1 mj minutes work (xOverN S.2.1 (nI mj) on (S.1 2 0)) 0 = .inr acc := by rw [← hLx, ← hbz, hed]; rfl
            have e9 : xFirstStart S (nI mj) on minutes work = (0, acc, S) := by simp [xFirstStart, c_6, c_33, c_106, n_106, hB, nI_clamp (show mj < 2 ^ 31 by omega)]
            exact vx_ret (xr_Ci hx hb hr hlocks ((congrArg (fun q => q.2.1) e9).symm) (⟨congrArg Prod.fst e9, ad, z1, by rw [show (xFirstStart S (nI mj) on minutes work).2.2 = S from congrArg (fun q => q.2.2) e9]; exact hR, rfl⟩) hS (by first | omega | decide) (by first | omega | decide) dX1_firstStart_119)
        · have c_33 := of_decide_eq_true c_33
          have hjl2 := walk_more hj hrow.1 ⟨hlen, hjl⟩ c_33
          obtain ⟨en, he⟩ : ∃ en, Lx[j]? = some en := ⟨_, List.getElem?_eq_getElem hjl2⟩
          have hen := hLlt j en he
          have hed := drop_at he
          refine lv_aload hx hb dX1_firstStart_36 (lv_at hl 0 rfl) ?_
          refine xc5_C (va_runF (As := []) (rest := []) (xClassAt hK (ci := 3) rfl) F (xX3_next g1 (A := A) (S := S) (ad := ad) (z := z1) j en Lx hrow hj he hen hlen) (va_cwF (x := ⟨"java/util/Iterator", "next", "()Ljava/lang/Object;"⟩) (C := "Lendlathe$Walk") 0 hts (lw_F q558 q561 q563 q77 q565) rfl rfl rfl (xnW hWK g (by decide) q560 q559 q564 q562 q551) (by decide +kernel) ⟨Nat.le_of_ble_eq_true rfl, Nat.le_of_ble_eq_true rfl⟩) (xpreV (xrecv hK (xw_10 hR) rfl) hWK hS hR) rfl rfl hl.1 rfl (lv_room (Nat.le_of_ble_eq_true rfl)) dX1_firstStart_38 ⟨Nat.le_of_ble_eq_true rfl, Nat.le_of_ble_eq_true rfl⟩) hS (fun H locs hR1 hz hk hS => ?_)
          have hR := hR1
          refine x_castO F hK rfl (xw_23 hR hen) (hts _ q514) dX1_firstStart_43 ?_
          refine lv_astore (lv' := [(7, .ref (ad (23, en))), (6, .ref (ad (10, 0))), (5, .int acc), (0, .ref (ad (0, 0))), (1, .int (nI mj)), (2, .int on), (3, .int minutes), (4, .int work)]) hx hb dX1_firstStart_46 hl (by decide) rfl (fun ls hl => ?_)
          refine lv_iload hx hb dX1_firstStart_48 (lv_at hl 2 rfl) ?_
          refine lv_iload_n hx hb dX1_firstStart_50 rfl (lv_at hl 6 rfl) ?_
          refine lv_iadd hx hb dX1_firstStart_51 ?_
          refine lv_aload_n hx hb dX1_firstStart_52 rfl (lv_at hl 3 rfl) ?_
          refine lv_iload_n hx hb dX1_firstStart_53 rfl (lv_at hl 4 rfl) ?_
          refine lv_iload hx hb dX1_firstStart_54 (lv_at hl 7 rfl) ?_
          refine lv_aload hx hb dX1_firstStart_56 (lv_at hl 0 rfl) ?_
          refine g_X1_181 F hWK g hK (xw_23 hR hen) (v := .int (S.2.1 15 en 0)) rfl dX1_firstStart_58 ?_
          refine xc_P (va_runV (As := [.int (nI mj), .int work, .int (S.2.1 15 en 0)]) (rest := [.int (acc + minutes)]) F (xX1_setup g1 (A := A) (S := S) (ad := ad) (z := (z1.1, z1.2.1, nI (j + 1))) work (S.2.1 15 en 0) (xi_nI (n := (S.1 0 0)) (by omega) (by omega)) hW) (cwV 3 hts (lw_V q591 q593 qs5 q56 q594) rfl rfl rfl hdV_X1_setup ⟨Nat.le_of_ble_eq_true rfl, Nat.le_of_ble_eq_true rfl⟩) (xpreV (xrecv hK (xw_0 hR) rfl) hWK hS hR) rfl rfl hl.1 rfl (lv_room (Nat.le_of_ble_eq_true rfl)) dX1_firstStart_61 ⟨Nat.le_of_ble_eq_true rfl, Nat.le_of_ble_eq_true rfl⟩) ?_
          refine lv_iadd hx hb dX1_firstStart_64 ?_
          refine lv_aload hx hb dX1_firstStart_65 (lv_at hl 0 rfl) ?_
          refine g_X1_178 F hK (xw_23 hR hen) (v := .int (S.2.1 13 en 0)) rfl dX1_firstStart_67 ?_
          refine lv_icmp_gt (tgt := 76) hx hb dX1_firstStart_70 (by decide) (fun c_70 => ?_) (fun c_70 => ?_)
          · have n_70 := Int32.not_le.mpr c_70
            refine lv_aload hx hb dX1_firstStart_76 (lv_at hl 0 rfl) ?_
            refine xc_P (va_runU (As := []) (rest := []) F (xX7_end g1 (A := A) (S := S) (ad := ad) (z := (z1.1, z1.2.1, nI (j + 1))) en hen) (va_cwU (x := ⟨"Lendlathe$Entry", "end", "()I"⟩) (C := "Lendlathe$Entry") (owner := "Lendlathe$Stay") 0 hts (lw_U q599 q600 q602 q522 q88 q525) rfl rfl rfl rfl (by decide +kernel) ⟨Nat.le_of_ble_eq_true rfl, Nat.le_of_ble_eq_true rfl⟩) (xpreV (xrecv hK (xw_23 hR hen) rfl) hWK hS hR) rfl rfl hl.1 rfl (lv_room (Nat.le_of_ble_eq_true rfl)) dX1_firstStart_78 ⟨Nat.le_of_ble_eq_true rfl, Nat.le_of_ble_eq_true rfl⟩) ?_
            refine lv_aload_n hx hb dX1_firstStart_81 rfl (lv_at hl 3 rfl) ?_
            refine lv_iload_n hx hb dX1_firstStart_82 rfl (lv_at hl 4 rfl) ?_
            refine lv_aload hx hb dX1_firstStart_83 (lv_at hl 0 rfl) ?_
            refine g_X1_181 F hWK g hK (xw_23 hR hen) (v := .int (S.2.1 15 en 0)) rfl dX1_firstStart_85 ?_
            refine lv_iload hx hb dX1_firstStart_88 (lv_at hl 7 rfl) ?_
            refine xc_P (va_runV (As := [.int (nI mj), .int (S.2.1 15 en 0), .int work]) (rest := [.int (mEnd S.2.1 en)]) F (xX1_setup g1 (A := A) (S := S) (ad := ad) (z := (z1.1, z1.2.1, nI (j + 1))) (S.2.1 15 en 0) work (xi_nI (n := (S.1 0 0)) (by omega) (by omega)) hW) (cwV 3 hts (lw_V q591 q593 qs5 q56 q594) rfl rfl rfl hdV_X1_setup ⟨Nat.le_of_ble_eq_true rfl, Nat.le_of_ble_eq_true rfl⟩) (xpreV (xrecv hK (xw_0 hR) rfl) hWK hS hR) rfl rfl hl.1 rfl (lv_room (Nat.le_of_ble_eq_true rfl)) dX1_firstStart_90 ⟨Nat.le_of_ble_eq_true rfl, Nat.le_of_ble_eq_true rfl⟩) ?_
            refine lv_iadd hx hb dX1_firstStart_93 ?_
            refine lv_istore (lv' := [(5, .int ((mEnd S.2.1 en) + (mSetup S.2.1 mj (S.2.1 15 en 0) work))), (7, .ref (ad (23, en))), (6, .ref (ad (10, 0))), (0, .ref (ad (0, 0))), (1, .int (nI mj)), (2, .int on), (3, .int minutes), (4, .int work)]) hx hb dX1_firstStart_94 hl (by decide) rfl (fun ls hl => ?_)
            refine lv_goto (tgt := 26) hx hb dX1_firstStart_96 (by decide) ?_
            exact ih26 (j + 1) (z1.1, z1.2.1, nI (j + 1)) ((mEnd S.2.1 en) + (mSetup S.2.1 mj (S.2.1 15 en 0) work)) (by omega) (by omega) ⟨hrow.1, hrow.2⟩ rfl (by rw [← hbz, hed]; simp [xFirstL, c_6, c_70, n_70]) _ _ hR hS ls (lv_sub hl [2, 0, 3, 4, 5, 6, 7] rfl)
          · have n_70 := Int32.not_lt.mp c_70
            refine lv_iload hx hb dX1_firstStart_73 (lv_at hl 2 rfl) ?_
            have hB : xFirstL S.2.1 mj minutes work (xOverN S.2.1 (nI mj) on (S.1 2 0)) 0 = .inl acc := by rw [← hLx, ← hbz, hed]; simp [xFirstL, c_70, n_70]
            have e9 : xFirstStart S (nI mj) on minutes work = (0, acc, S) := by simp [xFirstStart, c_6, c_33, c_70, n_70, hB, nI_clamp (show mj < 2 ^ 31 by omega)]
            exact vx_ret (xr_Ci hx hb hr hlocks ((congrArg (fun q => q.2.1) e9).symm) (⟨congrArg Prod.fst e9, ad, (z1.1, z1.2.1, nI (j + 1)), by rw [show (xFirstStart S (nI mj) on minutes work).2.2 = S from congrArg (fun q => q.2.2) e9]; exact hR, rfl⟩) hS (by first | omega | decide) (by first | omega | decide) dX1_firstStart_75)
    exact L26 (Lx.length + 1) 0 (zo.1, zo.2.1, 0) 0 (by omega) (Nat.zero_le _) ⟨hrow.1, hrow.2⟩ rfl rfl _ _ hR hS ls (lv_sub hl [0, 1, 2, 3, 4, 5, 6] rfl)
  · have e9 : (xFirstStart S machine on minutes work).1 = xMayStart S machine on minutes work := by simp [xFirstStart, c_6]
    exact xc_T (vx_runV (As := [.int machine, .int on, .int minutes, .int work]) (rest := []) F (xX1_mayStart_no g1 (A := A) (S := S) (ad := ad) (z := z) machine on minutes work c_6) (cwV 4 hts (lw_V q1207 q1209 qs27 q56 q1210) rfl rfl rfl hdV_X1_mayStart ⟨Nat.le_of_ble_eq_true rfl, Nat.le_of_ble_eq_true rfl⟩) (xpreV (xrecv hK (xw_0 hR) rfl) hWK hS hR) rfl rfl hl.1 rfl (lv_room (Nat.le_of_ble_eq_true rfl)) dX1_firstStart_6 ⟨Nat.le_of_ble_eq_true rfl, Nat.le_of_ble_eq_true rfl⟩) hS (fun E ce q9 H locs hX hz hk hS hq9 hv9 hc9 => vx_out (fun x hx => (hnt x hx).elim) hlocks hq9 hv9 hc9 (fun t ht _ => ⟨by rw [ht]; exact ⟨hX.1.trans (congrArg xExn e9).symm, (by rw [e9]; exact c_6), z, hR.grow hX.2⟩, hS.F ht⟩) hS.2.2 (Nat.le_of_ble_eq_true rfl) (Nat.le_of_ble_eq_true rfl))

set_option maxHeartbeats 4000000 in
theorem xX1_firstByMinutes {l : Launch} {G : xG} {s0 : State} {b0 : Nat} (g1 : xG1 l G s0 b0) {A : Nat → Prop} {S : xS} {ad : Nat × Nat → Nat} {z : xZ} (machine on minutes work : Int32) (hW : xW S) : vx_Met l yX1_firstByMinutes (ws_ yX1_firstByMinutes cX1_firstByMinutes 6 (some .int)) ({ frames := 8, cells := 1, slots := 6, locals := 140 } : Room) (xP s0 A [.ref (ad (0, 0)), .int machine, .int on, .int minutes, .int work] (fun H => xRX G A S ad z H)) (xQc (some (.int ((xFirstBy S machine on minutes work).2.1))) (fun _ H => (xFirstBy S machine on minutes work).1 = 0 ∧ ∃ ad9 z9, xRX G A (xFirstBy S machine on minutes work).2.2 ad9 z9 H ∧ ad9 (0, 0) = ad (0, 0)) A) (xXc (fun E _ H => E = xExn (xFirstBy S machine on minutes work).1 ∧ ¬ (xFirstBy S machine on minutes work).1 = 0 ∧ ∃ z9, xRX G A S ad z9 H) A) 1 6 A := by
  refine vx_ofW (cc := cX1_firstByMinutes) (maxL := 6) (ret := (some .int)) (by decide) rfl ?_
  intro p e s m args below meth c s₁ B hml hnt hv
  obtain ⟨rfl, hWK, hR⟩ := hv
  have g := g1.1
  have hx := B.exec
  have hb := B.bytes
  have hr := B.returns
  have hts := atoms_spec (ws := ws_ yX1_firstByMinutes cX1_firstByMinutes 6 (some .int)) B.pre
  have hts : ∀ w ∈ lw_all, w.before _ s = true := fun w h => hts w (List.mem_cons_of_mem _ h)
  have hown : s.vm.findClass "Lendlathe" = some m.cls := findClass_of_methodNamed B.named
  have hlocks := B.notSynchronized
  have hK := hWK.K g
  have F : CallFix p m c cX1_firstByMinutes 6 s _ lw_all "Lendlathe" := ⟨hx, hb, hml, hown, hts⟩
  have hS : va_S A s.heap s.heap [] := va_S.rf
  have hl := lv_entry ([.ref (ad (0, 0)), .int machine, .int on, .int minutes, .int work]) (n := 6) (Nat.le_of_ble_eq_true rfl)
  rw [lg_entry_eq]
  generalize (lg_sl ([.ref (ad (0, 0)), .int machine, .int on, .int minutes, .int work]) ++ List.replicate (6 - (lg_sl ([.ref (ad (0, 0)), .int machine, .int on, .int minutes, .int work])).length) Slot.unset).toArray = ls at hl ⊢
  have hl : lv_has ls 6 [(0, .ref (ad (0, 0))), (1, .int machine), (2, .int on), (3, .int minutes), (4, .int work)] := hl
  have hn0 := hW.1.1
  have hn1 := hW.1.2.1
  have hn2 := hW.1.2.2.1
  have hn3 := hW.1.2.2.2.1
  have hn4 := hW.1.2.2.2.2
  refine lv_aload_n hx hb dX1_firstByMinutes_0 rfl (lv_at hl 0 rfl) ?_
  refine lv_iload_n hx hb dX1_firstByMinutes_1 rfl (lv_at hl 1 rfl) ?_
  refine lv_iload_n hx hb dX1_firstByMinutes_2 rfl (lv_at hl 2 rfl) ?_
  refine lv_iload_n hx hb dX1_firstByMinutes_3 rfl (lv_at hl 3 rfl) ?_
  refine lv_iload hx hb dX1_firstByMinutes_4 (lv_at hl 4 rfl) ?_
  rcases Decidable.em (xMayStart S machine on minutes work = 0) with c_6 | c_6
  · refine xc_P0 (va_runV (As := [.int machine, .int on, .int minutes, .int work]) (rest := []) F (xX1_mayStart_ok g1 (A := A) (S := S) (ad := ad) (z := z) machine on minutes work c_6) (cwV 4 hts (lw_V q1207 q1209 qs27 q56 q1210) rfl rfl rfl hdV_X1_mayStart ⟨Nat.le_of_ble_eq_true rfl, Nat.le_of_ble_eq_true rfl⟩) (xpreV (xrecv hK (xw_0 hR) rfl) hWK hS hR) rfl rfl hl.1 rfl (lv_room (Nat.le_of_ble_eq_true rfl)) dX1_firstByMinutes_6 ⟨Nat.le_of_ble_eq_true rfl, Nat.le_of_ble_eq_true rfl⟩) ?_
    have c_m := (xMayStart_in c_6).2
    obtain ⟨mj, hmj, rfl⟩ := inI_of' (n := S.1 0 0) (by first | rfl | decide) (by first | decide | omega) (xMayStart_in c_6).1
    obtain ⟨q, hq1, hq240, rfl⟩ := inI_of1 (n := 240) (by decide) (by decide) c_m
    refine lv_iconst (v := 0) hx hb dX1_firstByMinutes_9 (by decide) ?_
    refine lv_istore (lv' := [(5, .int 0), (0, .ref (ad (0, 0))), (1, .int (nI mj)), (2, .int on), (3, .int (nI q)), (4, .int work)]) hx hb dX1_firstByMinutes_10 hl (by decide) rfl (fun ls hl => ?_)
    have L12 : ∀ (n : Nat) (k : Nat) (z1 : xZ), 481 - k < n → (k ≤ 481) → (∀ j, j < k → xBusy S (nI mj) on (nI j) (nI q) work = true) → ∀ (H : Heap) (locs : List Loc), xRX G A S ad z1 H → va_S A s.heap H locs → ∀ (ls : Array Slot), lv_has ls 6 [(5, .int (nI k)), (0, .ref (ad (0, 0))), (1, .int (nI mj)), (2, .int on), (3, .int (nI q)), (4, .int work)] → W p l e (headSpec (ws_ yX1_firstByMinutes cX1_firstByMinutes 6 (some .int)) ({ frames := 8, cells := 1, slots := 6, locals := 140 } : Room)).room s m ([.ref (ad (0, 0)), .int (nI mj), .int on, .int (nI q), .int work] : List Value).toArray below meth c H locs 0 0 (vx_MQ below (xQc (some (.int ((xFirstBy S (nI mj) on (nI q) work).2.1))) (fun _ H => (xFirstBy S (nI mj) on (nI q) work).1 = 0 ∧ ∃ ad9 z9, xRX G A (xFirstBy S (nI mj) on (nI q) work).2.2 ad9 z9 H ∧ ad9 (0, 0) = ad (0, 0)) A) (xXc (fun E _ H => E = xExn (xFirstBy S (nI mj) on (nI q) work).1 ∧ ¬ (xFirstBy S (nI mj) on (nI q) work).1 = 0 ∧ ∃ z9, xRX G A S ad z9 H) A) ([.ref (ad (0, 0)), .int (nI mj), .int on, .int (nI q), .int work] : List Value).toArray s 1 6 A) (F0 m 12 ls []) := by
      intro n12
      induction n12 with
      | zero =>
        intro k z1 hn12
        exact absurd hn12 (Nat.not_lt_zero _)
      | succ n12 ih12 =>
        intro k z1 hn12 hk4 hc H locs hR hS ls hl
        refine lv_iload hx hb dX1_firstByMinutes_12 (lv_at hl 0 rfl) ?_
        refine lv_iload_n hx hb dX1_firstByMinutes_14 rfl (lv_at hl 4 rfl) ?_
        refine lv_iadd hx hb dX1_firstByMinutes_15 ?_
        refine x_topi (nI_add _ _) ?_
        refine lv_sipush (v := 480) hx hb dX1_firstByMinutes_16 (by decide) ?_
        refine xn_gt (tgt := 46) (k + q) 480 rfl (by decide) (by omega) (by omega) hx hb dX1_firstByMinutes_19 (by decide) (fun c_19 => ?_) (fun c_19 => ?_)
        · have n_19 := Nat.not_le.mpr c_19
          have hB : firstC (fun k => !xBusy S (nI mj) on (nI k) (nI q) work) (481 - q) 0 = none := firstC_no (fun j _ hj => by simp [hc j (by omega)])
          have e9 : (xFirstBy S (nI mj) on (nI q) work).1 = 3 := by simp [xFirstBy, c_6, c_19, n_19, hB, nI_clamp (show mj < 2 ^ 31 by omega), nI_clamp (show q < 2 ^ 31 by omega)]
          exact x_throw3 g1 hWK F hS hl.1 dX1_firstByMinutes_46 dX1_firstByMinutes_49 dX1_firstByMinutes_50 dX1_firstByMinutes_53 hnt hlocks (Nat.le_of_ble_eq_true rfl) (Nat.le_of_ble_eq_true rfl) (Nat.le_of_ble_eq_true rfl) (Nat.le_of_ble_eq_true rfl) (fun t9 _ hz9 hg9 => ⟨⟨(⟨rfl, hz9, hg9⟩ : xExn 3 = xExn 3 ∧ xGrow H t9.heap).1.trans (congrArg xExn e9).symm, (by rw [e9]; decide), z1, hR.grow (⟨rfl, hz9, hg9⟩ : xExn 3 = xExn 3 ∧ xGrow H t9.heap).2⟩, (xGrow.S (⟨hz9, hg9⟩ : xGrow H t9.heap) hS).F rfl⟩) (Nat.le_of_ble_eq_true rfl) (Nat.le_of_ble_eq_true rfl)
        · have n_19 := Nat.not_lt.mpr c_19
          refine lv_aload_n hx hb dX1_firstByMinutes_22 rfl (lv_at hl 1 rfl) ?_
          refine lv_iconst (v := (-1)) hx hb dX1_firstByMinutes_23 (by decide) ?_
          refine lv_iload_n hx hb dX1_firstByMinutes_24 rfl (lv_at hl 2 rfl) ?_
          refine lv_iload_n hx hb dX1_firstByMinutes_25 rfl (lv_at hl 3 rfl) ?_
          refine lv_iload hx hb dX1_firstByMinutes_26 (lv_at hl 0 rfl) ?_
          refine lv_iload_n hx hb dX1_firstByMinutes_28 rfl (lv_at hl 4 rfl) ?_
          refine lv_iload hx hb dX1_firstByMinutes_29 (lv_at hl 5 rfl) ?_
          refine xc_C (va_runV (As := [.int (-1), .int (nI mj), .int on, .int (nI k), .int (nI q), .int work]) (rest := []) F (xX1_isBusy g1 (A := A) (S := S) (ad := ad) (z := z1) (-1) on (nI k) (nI q) work (xi_nI (n := (S.1 0 0)) (by omega) (by omega)) hW) (cwV 6 hts (lw_V q1218 q527 qs3 q56 q528) rfl rfl rfl hdV_X1_isBusy ⟨Nat.le_of_ble_eq_true rfl, Nat.le_of_ble_eq_true rfl⟩) (xpreV (xrecv hK (xw_0 hR) rfl) hWK hS hR) rfl rfl hl.1 rfl (lv_room (Nat.le_of_ble_eq_true rfl)) dX1_firstByMinutes_31 ⟨Nat.le_of_ble_eq_true rfl, Nat.le_of_ble_eq_true rfl⟩) hS (fun H locs hR1 hz hk hS => ?_)
          obtain ⟨z_31, hR⟩ := hR1
          refine x_ifne (tgt := 40) hx hb dX1_firstByMinutes_34 (by decide) (fun c_34 => ?_) (fun c_34 => ?_)
          · refine lv_iinc (v := nI (k + 1)) (lv' := [(5, .int (nI (k + 1))), (0, .ref (ad (0, 0))), (1, .int (nI mj)), (2, .int on), (3, .int (nI q)), (4, .int work)]) hx hb dX1_firstByMinutes_40 hl (k := 0) rfl (nI_1 _) (by decide) rfl (fun ls hl => ?_)
            refine lv_goto (tgt := 12) hx hb dX1_firstByMinutes_43 (by decide) ?_
            exact ih12 (k + 1) z_31 (by omega) (by omega) (fun j hj => by rcases Nat.lt_succ_iff_lt_or_eq.mp hj with h9 | h9; exact hc j h9; rw [h9]; exact c_34) _ _ hR hS ls (lv_sub hl [0, 1, 2, 3, 4, 5] rfl)
          · refine lv_iload hx hb dX1_firstByMinutes_37 (lv_at hl 0 rfl) ?_
            have hB : firstC (fun k => !xBusy S (nI mj) on (nI k) (nI q) work) (481 - q) 0 = some k := firstC_some (by simp [c_34]) (Nat.zero_le _) (by omega) (fun j _ hj => by simp [hc j hj])
            have e9 : xFirstBy S (nI mj) on (nI q) work = (0, nI k, S) := by simp [xFirstBy, c_6, c_19, c_34, n_19, hB, nI_clamp (show mj < 2 ^ 31 by omega), nI_clamp (show q < 2 ^ 31 by omega)]
            exact vx_ret (xr_Ci hx hb hr hlocks ((congrArg (fun q => q.2.1) e9).symm) (⟨congrArg Prod.fst e9, ad, z_31, by rw [show (xFirstBy S (nI mj) on (nI q) work).2.2 = S from congrArg (fun q => q.2.2) e9]; exact hR, rfl⟩) hS (by first | omega | decide) (by first | omega | decide) dX1_firstByMinutes_39)
    exact L12 482 0 z (by omega) (by omega) (fun j hj => absurd hj (Nat.not_lt_zero _)) _ _ hR hS ls (lv_sub hl [0, 1, 2, 3, 4, 5] rfl)
  · have e9 : (xFirstBy S machine on minutes work).1 = xMayStart S machine on minutes work := by simp [xFirstBy, c_6]
    exact xc_T (vx_runV (As := [.int machine, .int on, .int minutes, .int work]) (rest := []) F (xX1_mayStart_no g1 (A := A) (S := S) (ad := ad) (z := z) machine on minutes work c_6) (cwV 4 hts (lw_V q1207 q1209 qs27 q56 q1210) rfl rfl rfl hdV_X1_mayStart ⟨Nat.le_of_ble_eq_true rfl, Nat.le_of_ble_eq_true rfl⟩) (xpreV (xrecv hK (xw_0 hR) rfl) hWK hS hR) rfl rfl hl.1 rfl (lv_room (Nat.le_of_ble_eq_true rfl)) dX1_firstByMinutes_6 ⟨Nat.le_of_ble_eq_true rfl, Nat.le_of_ble_eq_true rfl⟩) hS (fun E ce q9 H locs hX hz hk hS hq9 hv9 hc9 => vx_out (fun x hx => (hnt x hx).elim) hlocks hq9 hv9 hc9 (fun t ht _ => ⟨by rw [ht]; exact ⟨hX.1.trans (congrArg xExn e9).symm, (by rw [e9]; exact c_6), z, hR.grow hX.2⟩, hS.F ht⟩) hS.2.2 (Nat.le_of_ble_eq_true rfl) (Nat.le_of_ble_eq_true rfl))

set_option maxHeartbeats 4000000 in
theorem xX1_waiting {l : Launch} {G : xG} {s0 : State} {b0 : Nat} (g1 : xG1 l G s0 b0) {A : Nat → Prop} {S : xS} {ad : Nat × Nat → Nat} {z : xZ} (machine on : Int32) (hW : xW S) : vx_Met l yX1_waiting (ws_ yX1_waiting cX1_waiting 5 (some .int)) ({ frames := 7, cells := 1, slots := 6, locals := 101 } : Room) (xP s0 A [.ref (ad (0, 0)), .int machine, .int on] (fun H => xRX G A S ad z H)) (xQc (some (.int ((xWaiting S machine on).2.1))) (fun _ H => (xWaiting S machine on).1 = 0 ∧ ∃ ad9 z9, xRX G A (xWaiting S machine on).2.2 ad9 z9 H ∧ ad9 (0, 0) = ad (0, 0)) A) (xXc (fun E _ H => E = xExn (xWaiting S machine on).1 ∧ ¬ (xWaiting S machine on).1 = 0 ∧ ∃ z9, xRX G A S ad z9 H) A) 1 6 A := by
  refine vx_ofW (cc := cX1_waiting) (maxL := 5) (ret := (some .int)) (by decide) rfl ?_
  intro p e s m args below meth c s₁ B hml hnt hv
  obtain ⟨rfl, hWK, hR⟩ := hv
  have g := g1.1
  have hx := B.exec
  have hb := B.bytes
  have hr := B.returns
  have hts := atoms_spec (ws := ws_ yX1_waiting cX1_waiting 5 (some .int)) B.pre
  have hts : ∀ w ∈ lw_all, w.before _ s = true := fun w h => hts w (List.mem_cons_of_mem _ h)
  have hown : s.vm.findClass "Lendlathe" = some m.cls := findClass_of_methodNamed B.named
  have hlocks := B.notSynchronized
  have hK := hWK.K g
  have F : CallFix p m c cX1_waiting 5 s _ lw_all "Lendlathe" := ⟨hx, hb, hml, hown, hts⟩
  have hS : va_S A s.heap s.heap [] := va_S.rf
  have hl := lv_entry ([.ref (ad (0, 0)), .int machine, .int on]) (n := 5) (Nat.le_of_ble_eq_true rfl)
  rw [lg_entry_eq]
  generalize (lg_sl ([.ref (ad (0, 0)), .int machine, .int on]) ++ List.replicate (5 - (lg_sl ([.ref (ad (0, 0)), .int machine, .int on])).length) Slot.unset).toArray = ls at hl ⊢
  have hl : lv_has ls 5 [(0, .ref (ad (0, 0))), (1, .int machine), (2, .int on)] := hl
  have hn0 := hW.1.1
  have hn1 := hW.1.2.1
  have hn2 := hW.1.2.2.1
  have hn3 := hW.1.2.2.2.1
  have hn4 := hW.1.2.2.2.2
  refine lv_aload_n hx hb dX1_waiting_0 rfl (lv_at hl 0 rfl) ?_
  refine lv_iload_n hx hb dX1_waiting_1 rfl (lv_at hl 1 rfl) ?_
  refine xc_P (va_runV (As := [.int machine]) (rest := []) F (xX1_isMachine g1 (A := A) (S := S) (ad := ad) (z := z) machine) (cwV 1 hts (lw_V q1003 q1005 qs22 q56 q1006) rfl rfl rfl hdV_X1_isMachine ⟨Nat.le_of_ble_eq_true rfl, Nat.le_of_ble_eq_true rfl⟩) (xpreV (xrecv hK (xw_0 hR) rfl) hWK hS hR) rfl rfl hl.1 rfl (lv_room (Nat.le_of_ble_eq_true rfl)) dX1_waiting_2 ⟨Nat.le_of_ble_eq_true rfl, Nat.le_of_ble_eq_true rfl⟩) ?_
  rcases xbtf (inI machine 0 (nI (S.1 0 0) - 1)) with c_5 | c_5
  · refine xc_P0 (va_runS (As := [.int (bI (inI machine 0 (nI (S.1 0 0) - 1)))]) (rest := []) F (xX1_there_ok g1 (A := A) (inI machine 0 (nI (S.1 0 0) - 1)) c_5) (va_cwS 1 hts (lw_S q937 q938 q56 q939) rfl rfl rfl hdS_X1_there ⟨Nat.le_of_ble_eq_true rfl, Nat.le_of_ble_eq_true rfl⟩) (xpre hWK hS trivial) rfl rfl hl.1 rfl (lv_room (Nat.le_of_ble_eq_true rfl)) dX1_waiting_5 ⟨Nat.le_of_ble_eq_true rfl, Nat.le_of_ble_eq_true rfl⟩) ?_
    refine lv_aload_n hx hb dX1_waiting_8 rfl (lv_at hl 0 rfl) ?_
    refine lv_iload_n hx hb dX1_waiting_9 rfl (lv_at hl 2 rfl) ?_
    refine xc_P (va_runV (As := [.int on]) (rest := []) F (xX1_isAhead g1 (A := A) (S := S) (ad := ad) (z := z) on) (cwV 1 hts (lw_V q1007 q1009 qs23 q56 q1010) rfl rfl rfl hdV_X1_isAhead ⟨Nat.le_of_ble_eq_true rfl, Nat.le_of_ble_eq_true rfl⟩) (xpreV (xrecv hK (xw_0 hR) rfl) hWK hS hR) rfl rfl hl.1 rfl (lv_room (Nat.le_of_ble_eq_true rfl)) dX1_waiting_10 ⟨Nat.le_of_ble_eq_true rfl, Nat.le_of_ble_eq_true rfl⟩) ?_
    rcases xbtf (inI on (S.2.1 7 0 0) (S.2.1 7 0 0 + 6)) with c_13 | c_13
    · refine xc_P0 (va_runS (As := [.int (bI (inI on (S.2.1 7 0 0) (S.2.1 7 0 0 + 6)))]) (rest := []) F (xX1_want_ok g1 (A := A) (inI on (S.2.1 7 0 0) (S.2.1 7 0 0 + 6)) c_13) (va_cwS 1 hts (lw_S q761 q762 q56 q763) rfl rfl rfl hdS_X1_want ⟨Nat.le_of_ble_eq_true rfl, Nat.le_of_ble_eq_true rfl⟩) (xpre hWK hS trivial) rfl rfl hl.1 rfl (lv_room (Nat.le_of_ble_eq_true rfl)) dX1_waiting_13 ⟨Nat.le_of_ble_eq_true rfl, Nat.le_of_ble_eq_true rfl⟩) ?_
      refine lv_iconst (v := 0) hx hb dX1_waiting_16 (by decide) ?_
      refine lv_istore_n (lv' := [(3, .int 0), (0, .ref (ad (0, 0))), (1, .int machine), (2, .int on)]) hx hb dX1_waiting_17 rfl hl (by decide) rfl (fun ls hl => ?_)
      refine lv_iconst (v := 0) hx hb dX1_waiting_18 (by decide) ?_
      refine lv_istore (lv' := [(4, .int 0), (3, .int 0), (0, .ref (ad (0, 0))), (1, .int machine), (2, .int on)]) hx hb dX1_waiting_19 hl (by decide) rfl (fun ls hl => ?_)
      have L21 : ∀ (n : Nat) (k : Nat) (acc : Int32), S.1 2 0 - k < n → (k ≤ S.1 2 0) → (acc = mWaitings S machine on k) → ∀ (ls : Array Slot), lv_has ls 5 [(4, .int (nI k)), (3, .int acc), (0, .ref (ad (0, 0))), (1, .int machine), (2, .int on)] → W p l e (headSpec (ws_ yX1_waiting cX1_waiting 5 (some .int)) ({ frames := 7, cells := 1, slots := 6, locals := 101 } : Room)).room s m ([.ref (ad (0, 0)), .int machine, .int on] : List Value).toArray below meth c s.heap [] 0 0 (vx_MQ below (xQc (some (.int ((xWaiting S machine on).2.1))) (fun _ H => (xWaiting S machine on).1 = 0 ∧ ∃ ad9 z9, xRX G A (xWaiting S machine on).2.2 ad9 z9 H ∧ ad9 (0, 0) = ad (0, 0)) A) (xXc (fun E _ H => E = xExn (xWaiting S machine on).1 ∧ ¬ (xWaiting S machine on).1 = 0 ∧ ∃ z9, xRX G A S ad z9 H) A) ([.ref (ad (0, 0)), .int machine, .int on] : List Value).toArray s 1 6 A) (F0 m 21 ls []) := by
        intro n21
        induction n21 with
        | zero =>
          intro k acc hn21
          exact absurd hn21 (Nat.not_lt_zero _)
        | succ n21 ih21 =>
          intro k acc hn21 hkn ea ls hl
          refine lv_iload hx hb dX1_waiting_21 (lv_at hl 0 rfl) ?_
          refine lv_aload_n hx hb dX1_waiting_23 rfl (lv_at hl 2 rfl) ?_
          refine g_X1_36 F hK (xw_0 hR) (v := .ref (ad (5, 0))) rfl dX1_waiting_24 ?_
          refine xc_P (va_runV (As := []) (rest := [.int (nI k)]) F (xJ2_size_23 g1 (A := A) (S := S) (ad := ad) (z := z) ) (cwV 0 hts (lw_V q510 q511 q512 q60 q513) rfl rfl rfl hdV_J2_size ⟨Nat.le_of_ble_eq_true rfl, Nat.le_of_ble_eq_true rfl⟩) (xpreV (xrecv hK (xw_5 hR) rfl) hWK hS hR) rfl rfl hl.1 rfl (lv_room (Nat.le_of_ble_eq_true rfl)) dX1_waiting_27 ⟨Nat.le_of_ble_eq_true rfl, Nat.le_of_ble_eq_true rfl⟩) ?_
          refine xn_ge (tgt := 105) k (S.1 2 0) rfl rfl (by omega) (by omega) hx hb dX1_waiting_30 (by decide) (fun c_30 => ?_) (fun c_30 => ?_)
          · have n_30 := Nat.not_lt.mpr c_30
            refine lv_iload_n hx hb dX1_waiting_105 rfl (lv_at hl 1 rfl) ?_
            have hk9 : k = S.1 2 0 := (by omega)
            subst hk9
            have e9 : xWaiting S machine on = (0, acc, S) := by simp [xWaiting, c_5, c_13, c_30, n_30, ea]
            exact vx_ret (xr_Ci hx hb hr hlocks ((congrArg (fun q => q.2.1) e9).symm) (⟨congrArg Prod.fst e9, ad, z, by rw [show (xWaiting S machine on).2.2 = S from congrArg (fun q => q.2.2) e9]; exact hR, rfl⟩) hS (by first | omega | decide) (by first | omega | decide) dX1_waiting_106)
          · have n_30 := Nat.not_le.mpr c_30
            refine lv_iload_n hx hb dX1_waiting_33 rfl (lv_at hl 1 rfl) ?_
            refine lv_aload_n hx hb dX1_waiting_34 rfl (lv_at hl 2 rfl) ?_
            refine g_X1_36 F hK (xw_0 hR) (v := .ref (ad (5, 0))) rfl dX1_waiting_35 ?_
            refine lv_iload hx hb dX1_waiting_38 (lv_at hl 0 rfl) ?_
            refine xc_P (va_runV (As := [.int (nI k)]) (rest := [.int acc]) F (xJ2_get_23 g1 (A := A) (S := S) (ad := ad) (z := z) (xi_nI (n := (S.1 2 0)) (by omega) (by omega)) (by first | assumption | omega)) (cwV 1 hts (lw_V q486 q487 q488 q60 q489) rfl rfl rfl hdV_J2_get ⟨Nat.le_of_ble_eq_true rfl, Nat.le_of_ble_eq_true rfl⟩) (xpreV (xrecv hK (xw_5 hR) rfl) hWK hS hR) rfl rfl hl.1 rfl (lv_room (Nat.le_of_ble_eq_true rfl)) dX1_waiting_40 ⟨Nat.le_of_ble_eq_true rfl, Nat.le_of_ble_eq_true rfl⟩) ?_
            refine x_castO F hK rfl (xw_23 hR (xi_nI (n := (S.1 2 0)) (by omega) (by omega)).lt) (hts _ q514) dX1_waiting_43 ?_
            refine g_X1_150 F hWK g hK (xw_23 hR (xi_nI (n := (S.1 2 0)) (by omega) (by omega)).lt) (v := .int (S.2.1 16 k 0)) rfl dX1_waiting_46 ?_
            refine lv_bipush (v := 119) hx hb dX1_waiting_49 (by decide) ?_
            refine lv_icmp_ne (tgt := 96) hx hb dX1_waiting_51 (by decide) (fun c_51 => ?_) (fun c_51 => ?_)
            · refine lv_iconst (v := 0) hx hb dX1_waiting_96 (by decide) ?_
              refine lv_iadd hx hb dX1_waiting_97 ?_
              refine lv_istore_n (lv' := [(3, .int (acc + 0)), (4, .int (nI k)), (0, .ref (ad (0, 0))), (1, .int machine), (2, .int on)]) hx hb dX1_waiting_98 rfl hl (by decide) rfl (fun ls hl => ?_)
              refine lv_iinc (v := nI (k + 1)) (lv' := [(4, .int (nI (k + 1))), (3, .int (acc + 0)), (0, .ref (ad (0, 0))), (1, .int machine), (2, .int on)]) hx hb dX1_waiting_99 hl (k := 1) rfl (nI_1 _) (by decide) rfl (fun ls hl => ?_)
              refine lv_goto (tgt := 21) hx hb dX1_waiting_102 (by decide) ?_
              exact ih21 (k + 1) (acc + 0) (by omega) (by omega) (by rw [ea]; simp [mWaitings, sumI, c_51]) ls (lv_sub hl [0, 1, 2, 3, 4] rfl)
            · refine lv_aload_n hx hb dX1_waiting_54 rfl (lv_at hl 2 rfl) ?_
              refine g_X1_36 F hK (xw_0 hR) (v := .ref (ad (5, 0))) rfl dX1_waiting_55 ?_
              refine lv_iload hx hb dX1_waiting_58 (lv_at hl 0 rfl) ?_
              refine xc_P (va_runV (As := [.int (nI k)]) (rest := [.int acc]) F (xJ2_get_23 g1 (A := A) (S := S) (ad := ad) (z := z) (xi_nI (n := (S.1 2 0)) (by omega) (by omega)) (by first | assumption | omega)) (cwV 1 hts (lw_V q486 q487 q488 q60 q489) rfl rfl rfl hdV_J2_get ⟨Nat.le_of_ble_eq_true rfl, Nat.le_of_ble_eq_true rfl⟩) (xpreV (xrecv hK (xw_5 hR) rfl) hWK hS hR) rfl rfl hl.1 rfl (lv_room (Nat.le_of_ble_eq_true rfl)) dX1_waiting_60 ⟨Nat.le_of_ble_eq_true rfl, Nat.le_of_ble_eq_true rfl⟩) ?_
              refine x_castO F hK rfl (xw_23 hR (xi_nI (n := (S.1 2 0)) (by omega) (by omega)).lt) (hts _ q514) dX1_waiting_63 ?_
              refine g_X1_194 F hK (xw_23 hR (xi_nI (n := (S.1 2 0)) (by omega) (by omega)).lt) (v := .int (S.2.1 11 k 0)) rfl dX1_waiting_66 ?_
              refine lv_iload_n hx hb dX1_waiting_69 rfl (lv_at hl 3 rfl) ?_
              refine lv_icmp_ne (tgt := 96) hx hb dX1_waiting_70 (by decide) (fun c_70 => ?_) (fun c_70 => ?_)
              · refine lv_iconst (v := 0) hx hb dX1_waiting_96 (by decide) ?_
                refine lv_iadd hx hb dX1_waiting_97 ?_
                refine lv_istore_n (lv' := [(3, .int (acc + 0)), (4, .int (nI k)), (0, .ref (ad (0, 0))), (1, .int machine), (2, .int on)]) hx hb dX1_waiting_98 rfl hl (by decide) rfl (fun ls hl => ?_)
                refine lv_iinc (v := nI (k + 1)) (lv' := [(4, .int (nI (k + 1))), (3, .int (acc + 0)), (0, .ref (ad (0, 0))), (1, .int machine), (2, .int on)]) hx hb dX1_waiting_99 hl (k := 1) rfl (nI_1 _) (by decide) rfl (fun ls hl => ?_)
                refine lv_goto (tgt := 21) hx hb dX1_waiting_102 (by decide) ?_
                exact ih21 (k + 1) (acc + 0) (by omega) (by omega) (by rw [ea]; simp [mWaitings, sumI, c_51, c_70]) ls (lv_sub hl [0, 1, 2, 3, 4] rfl)
              · refine lv_aload_n hx hb dX1_waiting_73 rfl (lv_at hl 2 rfl) ?_
                refine g_X1_36 F hK (xw_0 hR) (v := .ref (ad (5, 0))) rfl dX1_waiting_74 ?_
                refine lv_iload hx hb dX1_waiting_77 (lv_at hl 0 rfl) ?_
                refine xc_P (va_runV (As := [.int (nI k)]) (rest := [.int acc]) F (xJ2_get_23 g1 (A := A) (S := S) (ad := ad) (z := z) (xi_nI (n := (S.1 2 0)) (by omega) (by omega)) (by first | assumption | omega)) (cwV 1 hts (lw_V q486 q487 q488 q60 q489) rfl rfl rfl hdV_J2_get ⟨Nat.le_of_ble_eq_true rfl, Nat.le_of_ble_eq_true rfl⟩) (xpreV (xrecv hK (xw_5 hR) rfl) hWK hS hR) rfl rfl hl.1 rfl (lv_room (Nat.le_of_ble_eq_true rfl)) dX1_waiting_79 ⟨Nat.le_of_ble_eq_true rfl, Nat.le_of_ble_eq_true rfl⟩) ?_
                refine x_castO F hK rfl (xw_23 hR (xi_nI (n := (S.1 2 0)) (by omega) (by omega)).lt) (hts _ q514) dX1_waiting_82 ?_
                refine g_X1_154 F hK (xw_23 hR (xi_nI (n := (S.1 2 0)) (by omega) (by omega)).lt) (v := .int (S.2.1 12 k 0)) rfl dX1_waiting_85 ?_
                refine lv_iload_n hx hb dX1_waiting_88 rfl (lv_at hl 4 rfl) ?_
                refine lv_icmp_ne (tgt := 96) hx hb dX1_waiting_89 (by decide) (fun c_89 => ?_) (fun c_89 => ?_)
                · refine lv_iconst (v := 0) hx hb dX1_waiting_96 (by decide) ?_
                  refine lv_iadd hx hb dX1_waiting_97 ?_
                  refine lv_istore_n (lv' := [(3, .int (acc + 0)), (4, .int (nI k)), (0, .ref (ad (0, 0))), (1, .int machine), (2, .int on)]) hx hb dX1_waiting_98 rfl hl (by decide) rfl (fun ls hl => ?_)
                  refine lv_iinc (v := nI (k + 1)) (lv' := [(4, .int (nI (k + 1))), (3, .int (acc + 0)), (0, .ref (ad (0, 0))), (1, .int machine), (2, .int on)]) hx hb dX1_waiting_99 hl (k := 1) rfl (nI_1 _) (by decide) rfl (fun ls hl => ?_)
                  refine lv_goto (tgt := 21) hx hb dX1_waiting_102 (by decide) ?_
                  exact ih21 (k + 1) (acc + 0) (by omega) (by omega) (by rw [ea]; simp [mWaitings, sumI, c_51, c_70, c_89]) ls (lv_sub hl [0, 1, 2, 3, 4] rfl)
                · refine lv_iconst (v := 1) hx hb dX1_waiting_92 (by decide) ?_
                  refine lv_goto (tgt := 97) hx hb dX1_waiting_93 (by decide) ?_
                  refine lv_iadd hx hb dX1_waiting_97 ?_
                  refine lv_istore_n (lv' := [(3, .int (acc + 1)), (4, .int (nI k)), (0, .ref (ad (0, 0))), (1, .int machine), (2, .int on)]) hx hb dX1_waiting_98 rfl hl (by decide) rfl (fun ls hl => ?_)
                  refine lv_iinc (v := nI (k + 1)) (lv' := [(4, .int (nI (k + 1))), (3, .int (acc + 1)), (0, .ref (ad (0, 0))), (1, .int machine), (2, .int on)]) hx hb dX1_waiting_99 hl (k := 1) rfl (nI_1 _) (by decide) rfl (fun ls hl => ?_)
                  refine lv_goto (tgt := 21) hx hb dX1_waiting_102 (by decide) ?_
                  exact ih21 (k + 1) (acc + 1) (by omega) (by omega) (by rw [ea]; simp [mWaitings, sumI, c_51, c_70, c_89]) ls (lv_sub hl [0, 1, 2, 3, 4] rfl)
      exact L21 (S.1 2 0 + 1) 0 0 (by omega) (by omega) rfl ls (lv_sub hl [0, 1, 2, 3, 4] rfl)
    · have e9 : (xWaiting S machine on).1 = 1 := by simp [xWaiting, c_5, c_13]
      exact xc_T (vx_runS (As := [.int (bI (inI on (S.2.1 7 0 0) (S.2.1 7 0 0 + 6)))]) (rest := []) F (xX1_want_no g1 (A := A) (inI on (S.2.1 7 0 0) (S.2.1 7 0 0 + 6)) c_13) (va_cwS 1 hts (lw_S q761 q762 q56 q763) rfl rfl rfl hdS_X1_want ⟨Nat.le_of_ble_eq_true rfl, Nat.le_of_ble_eq_true rfl⟩) (xpre hWK hS trivial) rfl rfl hl.1 rfl (lv_room (Nat.le_of_ble_eq_true rfl)) dX1_waiting_13 ⟨Nat.le_of_ble_eq_true rfl, Nat.le_of_ble_eq_true rfl⟩) hS (fun E ce q9 H locs hX hz hk hS hq9 hv9 hc9 => vx_out (fun x hx => (hnt x hx).elim) hlocks hq9 hv9 hc9 (fun t ht _ => ⟨by rw [ht]; exact ⟨hX.1.trans (congrArg xExn e9).symm, (by rw [e9]; decide), z, hR.grow hX.2⟩, hS.F ht⟩) hS.2.2 (Nat.le_of_ble_eq_true rfl) (Nat.le_of_ble_eq_true rfl))
  · have e9 : (xWaiting S machine on).1 = 4 := by simp [xWaiting, c_5]
    exact xc_T (vx_runS (As := [.int (bI (inI machine 0 (nI (S.1 0 0) - 1)))]) (rest := []) F (xX1_there_no g1 (A := A) (inI machine 0 (nI (S.1 0 0) - 1)) c_5) (va_cwS 1 hts (lw_S q937 q938 q56 q939) rfl rfl rfl hdS_X1_there ⟨Nat.le_of_ble_eq_true rfl, Nat.le_of_ble_eq_true rfl⟩) (xpre hWK hS trivial) rfl rfl hl.1 rfl (lv_room (Nat.le_of_ble_eq_true rfl)) dX1_waiting_5 ⟨Nat.le_of_ble_eq_true rfl, Nat.le_of_ble_eq_true rfl⟩) hS (fun E ce q9 H locs hX hz hk hS hq9 hv9 hc9 => vx_out (fun x hx => (hnt x hx).elim) hlocks hq9 hv9 hc9 (fun t ht _ => ⟨by rw [ht]; exact ⟨hX.1.trans (congrArg xExn e9).symm, (by rw [e9]; decide), z, hR.grow hX.2⟩, hS.F ht⟩) hS.2.2 (Nat.le_of_ble_eq_true rfl) (Nat.le_of_ble_eq_true rfl))

set_option maxHeartbeats 4000000 in
theorem xX1_meanMinutes {l : Launch} {G : xG} {s0 : State} {b0 : Nat} (g1 : xG1 l G s0 b0) {A : Nat → Prop} {S : xS} {ad : Nat × Nat → Nat} {z : xZ} (hW : xW S) : vx_Met l yX1_meanMinutes (ws_ yX1_meanMinutes cX1_meanMinutes 4 (some .double)) ({ frames := 6, cells := 1, slots := 6, locals := 81 } : Room) (xP s0 A [.ref (ad (0, 0))] (fun H => xRX G A S ad z H)) (xQc (some (.double ((xMean S).2.1))) (fun _ H => (xMean S).1 = 0 ∧ ∃ ad9 z9, xRX G A (xMean S).2.2 ad9 z9 H ∧ ad9 (0, 0) = ad (0, 0)) A) (xXc (fun E _ H => E = xExn (xMean S).1 ∧ ¬ (xMean S).1 = 0 ∧ ∃ z9, xRX G A S ad z9 H) A) 1 6 A := by
  refine vx_ofW (cc := cX1_meanMinutes) (maxL := 4) (ret := (some .double)) (by decide) rfl ?_
  intro p e s m args below meth c s₁ B hml hnt hv
  obtain ⟨rfl, hWK, hR⟩ := hv
  have g := g1.1
  have hx := B.exec
  have hb := B.bytes
  have hr := B.returns
  have hts := atoms_spec (ws := ws_ yX1_meanMinutes cX1_meanMinutes 4 (some .double)) B.pre
  have hts : ∀ w ∈ lw_all, w.before _ s = true := fun w h => hts w (List.mem_cons_of_mem _ h)
  have hown : s.vm.findClass "Lendlathe" = some m.cls := findClass_of_methodNamed B.named
  have hlocks := B.notSynchronized
  have hK := hWK.K g
  have F : CallFix p m c cX1_meanMinutes 4 s _ lw_all "Lendlathe" := ⟨hx, hb, hml, hown, hts⟩
  have hS : va_S A s.heap s.heap [] := va_S.rf
  have hl := lv_entry ([.ref (ad (0, 0))]) (n := 4) (Nat.le_of_ble_eq_true rfl)
  rw [lg_entry_eq]
  generalize (lg_sl ([.ref (ad (0, 0))]) ++ List.replicate (4 - (lg_sl ([.ref (ad (0, 0))])).length) Slot.unset).toArray = ls at hl ⊢
  have hl : lv_has ls 4 [(0, .ref (ad (0, 0)))] := hl
  have hn0 := hW.1.1
  have hn1 := hW.1.2.1
  have hn2 := hW.1.2.2.1
  have hn3 := hW.1.2.2.2.1
  have hn4 := hW.1.2.2.2.2
  refine lv_iconst (v := 0) hx hb dX1_meanMinutes_0 (by decide) ?_
  refine lv_istore_n (lv' := [(1, .int 0), (0, .ref (ad (0, 0)))]) hx hb dX1_meanMinutes_1 rfl hl (by decide) rfl (fun ls hl => ?_)
  refine lv_iconst (v := 0) hx hb dX1_meanMinutes_2 (by decide) ?_
  refine lv_istore_n (lv' := [(2, .int 0), (1, .int 0), (0, .ref (ad (0, 0)))]) hx hb dX1_meanMinutes_3 rfl hl (by decide) rfl (fun ls hl => ?_)
  refine lv_iconst (v := 0) hx hb dX1_meanMinutes_4 (by decide) ?_
  refine lv_istore_n (lv' := [(3, .int 0), (2, .int 0), (1, .int 0), (0, .ref (ad (0, 0)))]) hx hb dX1_meanMinutes_5 rfl hl (by decide) rfl (fun ls hl => ?_)
  have L6 : ∀ (n : Nat) (k : Nat) (a : Int32) (b : Int32), S.1 2 0 - k < n → (k ≤ S.1 2 0) → (a = mDirtyMin S k) → (b = mDirtyCnt S k) → ∀ (ls : Array Slot), lv_has ls 4 [(3, .int (nI k)), (1, .int a), (2, .int b), (0, .ref (ad (0, 0)))] → W p l e (headSpec (ws_ yX1_meanMinutes cX1_meanMinutes 4 (some .double)) ({ frames := 6, cells := 1, slots := 6, locals := 81 } : Room)).room s m ([.ref (ad (0, 0))] : List Value).toArray below meth c s.heap [] 0 0 (vx_MQ below (xQc (some (.double ((xMean S).2.1))) (fun _ H => (xMean S).1 = 0 ∧ ∃ ad9 z9, xRX G A (xMean S).2.2 ad9 z9 H ∧ ad9 (0, 0) = ad (0, 0)) A) (xXc (fun E _ H => E = xExn (xMean S).1 ∧ ¬ (xMean S).1 = 0 ∧ ∃ z9, xRX G A S ad z9 H) A) ([.ref (ad (0, 0))] : List Value).toArray s 1 6 A) (F0 m 6 ls []) := by
    intro n6
    induction n6 with
    | zero =>
      intro k a b hn6
      exact absurd hn6 (Nat.not_lt_zero _)
    | succ n6 ih6 =>
      intro k a b hn6 hkn ea eb ls hl
      refine lv_iload_n hx hb dX1_meanMinutes_6 rfl (lv_at hl 0 rfl) ?_
      refine lv_aload_n hx hb dX1_meanMinutes_7 rfl (lv_at hl 3 rfl) ?_
      refine g_X1_36 F hK (xw_0 hR) (v := .ref (ad (5, 0))) rfl dX1_meanMinutes_8 ?_
      refine xc_P (va_runV (As := []) (rest := [.int (nI k)]) F (xJ2_size_23 g1 (A := A) (S := S) (ad := ad) (z := z) ) (cwV 0 hts (lw_V q510 q511 q512 q60 q513) rfl rfl rfl hdV_J2_size ⟨Nat.le_of_ble_eq_true rfl, Nat.le_of_ble_eq_true rfl⟩) (xpreV (xrecv hK (xw_5 hR) rfl) hWK hS hR) rfl rfl hl.1 rfl (lv_room (Nat.le_of_ble_eq_true rfl)) dX1_meanMinutes_11 ⟨Nat.le_of_ble_eq_true rfl, Nat.le_of_ble_eq_true rfl⟩) ?_
      refine xn_ge (tgt := 65) k (S.1 2 0) rfl rfl (by omega) (by omega) hx hb dX1_meanMinutes_14 (by decide) (fun c_14 => ?_) (fun c_14 => ?_)
      · have n_14 := Nat.not_lt.mpr c_14
        refine lv_iload_n hx hb dX1_meanMinutes_65 rfl (lv_at hl 2 rfl) ?_
        refine lv_if_ne (tgt := 77) hx hb dX1_meanMinutes_66 (by decide) (fun c_66 => ?_) (fun c_66 => ?_)
        · refine lv_iload_n hx hb dX1_meanMinutes_77 rfl (lv_at hl 1 rfl) ?_
          refine lv_i2d hx hb dX1_meanMinutes_78 ?_
          refine lv_iload_n hx hb dX1_meanMinutes_79 rfl (lv_at hl 2 rfl) ?_
          refine lv_i2d hx hb dX1_meanMinutes_80 ?_
          refine lv_ddiv hx hb dX1_meanMinutes_81 (mean_nan _ hn2 (by have hk9 : k = S.1 2 0 := (by omega); subst hk9; rw [eb]; exact mDirtyCnt_le _ _) c_66) ?_
          have hk9 : k = S.1 2 0 := (by omega)
          subst hk9
          have e9 : xMean S = (0, FP.ddiv (FP.i2d a) (FP.i2d b), S) := by simp [xMean, c_14, c_66, n_14, ← ea, ← eb]
          exact vx_ret (xr_Cd hx hb hr hlocks ((congrArg (fun q => q.2.1) e9).symm) (⟨congrArg Prod.fst e9, ad, z, by rw [show (xMean S).2.2 = S from congrArg (fun q => q.2.2) e9]; exact hR, rfl⟩) hS (by first | omega | decide) (by first | omega | decide) dX1_meanMinutes_82)
        · have hk9 : k = S.1 2 0 := (by omega)
          subst hk9
          have e9 : (xMean S).1 = 6 := by simp [xMean, c_14, c_66, n_14, ← ea, ← eb]
          exact x_throw6 g1 hWK F hS hl.1 dX1_meanMinutes_69 dX1_meanMinutes_72 dX1_meanMinutes_73 dX1_meanMinutes_76 hnt hlocks (Nat.le_of_ble_eq_true rfl) (Nat.le_of_ble_eq_true rfl) (Nat.le_of_ble_eq_true rfl) (Nat.le_of_ble_eq_true rfl) (fun t9 _ hz9 hg9 => ⟨⟨(⟨rfl, hz9, hg9⟩ : xExn 6 = xExn 6 ∧ xGrow s.heap t9.heap).1.trans (congrArg xExn e9).symm, (by rw [e9]; decide), z, hR.grow (⟨rfl, hz9, hg9⟩ : xExn 6 = xExn 6 ∧ xGrow s.heap t9.heap).2⟩, (xGrow.S (⟨hz9, hg9⟩ : xGrow s.heap t9.heap) hS).F rfl⟩) (Nat.le_of_ble_eq_true rfl) (Nat.le_of_ble_eq_true rfl)
      · have n_14 := Nat.not_le.mpr c_14
        refine lv_aload_n hx hb dX1_meanMinutes_17 rfl (lv_at hl 3 rfl) ?_
        refine g_X1_36 F hK (xw_0 hR) (v := .ref (ad (5, 0))) rfl dX1_meanMinutes_18 ?_
        refine lv_iload_n hx hb dX1_meanMinutes_21 rfl (lv_at hl 0 rfl) ?_
        refine xc_P (va_runV (As := [.int (nI k)]) (rest := []) F (xJ2_get_23 g1 (A := A) (S := S) (ad := ad) (z := z) (xi_nI (n := (S.1 2 0)) (by omega) (by omega)) (by first | assumption | omega)) (cwV 1 hts (lw_V q486 q487 q488 q60 q489) rfl rfl rfl hdV_J2_get ⟨Nat.le_of_ble_eq_true rfl, Nat.le_of_ble_eq_true rfl⟩) (xpreV (xrecv hK (xw_5 hR) rfl) hWK hS hR) rfl rfl hl.1 rfl (lv_room (Nat.le_of_ble_eq_true rfl)) dX1_meanMinutes_22 ⟨Nat.le_of_ble_eq_true rfl, Nat.le_of_ble_eq_true rfl⟩) ?_
        refine x_castO F hK rfl (xw_23 hR (xi_nI (n := (S.1 2 0)) (by omega) (by omega)).lt) (hts _ q514) dX1_meanMinutes_25 ?_
        refine g_X1_150 F hWK g hK (xw_23 hR (xi_nI (n := (S.1 2 0)) (by omega) (by omega)).lt) (v := .int (S.2.1 16 k 0)) rfl dX1_meanMinutes_28 ?_
        refine lv_bipush (v := 100) hx hb dX1_meanMinutes_31 (by decide) ?_
        refine lv_icmp_eq (tgt := 39) hx hb dX1_meanMinutes_33 (by decide) (fun c_33 => ?_) (fun c_33 => ?_)
        · refine lv_iload_n hx hb dX1_meanMinutes_39 rfl (lv_at hl 1 rfl) ?_
          refine lv_aload_n hx hb dX1_meanMinutes_40 rfl (lv_at hl 3 rfl) ?_
          refine g_X1_36 F hK (xw_0 hR) (v := .ref (ad (5, 0))) rfl dX1_meanMinutes_41 ?_
          refine lv_iload_n hx hb dX1_meanMinutes_44 rfl (lv_at hl 0 rfl) ?_
          refine xc_P (va_runV (As := [.int (nI k)]) (rest := [.int a]) F (xJ2_get_23 g1 (A := A) (S := S) (ad := ad) (z := z) (xi_nI (n := (S.1 2 0)) (by omega) (by omega)) (by first | assumption | omega)) (cwV 1 hts (lw_V q486 q487 q488 q60 q489) rfl rfl rfl hdV_J2_get ⟨Nat.le_of_ble_eq_true rfl, Nat.le_of_ble_eq_true rfl⟩) (xpreV (xrecv hK (xw_5 hR) rfl) hWK hS hR) rfl rfl hl.1 rfl (lv_room (Nat.le_of_ble_eq_true rfl)) dX1_meanMinutes_45 ⟨Nat.le_of_ble_eq_true rfl, Nat.le_of_ble_eq_true rfl⟩) ?_
          refine x_castO F hK rfl (xw_23 hR (xi_nI (n := (S.1 2 0)) (by omega) (by omega)).lt) (hts _ q514) dX1_meanMinutes_48 ?_
          refine g_X1_296 F hK (xw_23 hR (xi_nI (n := (S.1 2 0)) (by omega) (by omega)).lt) (v := .int (S.2.1 14 k 0)) rfl dX1_meanMinutes_51 ?_
          refine lv_iadd hx hb dX1_meanMinutes_54 ?_
          refine lv_istore_n (lv' := [(1, .int (a + (S.2.1 14 k 0))), (3, .int (nI k)), (2, .int b), (0, .ref (ad (0, 0)))]) hx hb dX1_meanMinutes_55 rfl hl (by decide) rfl (fun ls hl => ?_)
          refine lv_iinc (v := b + 1) (lv' := [(2, .int (b + 1)), (1, .int (a + (S.2.1 14 k 0))), (3, .int (nI k)), (0, .ref (ad (0, 0)))]) hx hb dX1_meanMinutes_56 hl (k := 2) rfl (rfl) (by decide) rfl (fun ls hl => ?_)
          refine lv_iinc (v := nI (k + 1)) (lv' := [(3, .int (nI (k + 1))), (2, .int (b + 1)), (1, .int (a + (S.2.1 14 k 0))), (0, .ref (ad (0, 0)))]) hx hb dX1_meanMinutes_59 hl (k := 2) rfl (nI_1 _) (by decide) rfl (fun ls hl => ?_)
          refine lv_goto (tgt := 6) hx hb dX1_meanMinutes_62 (by decide) ?_
          exact ih6 (k + 1) (a + (S.2.1 14 k 0)) (b + 1) (by omega) (by omega) (by rw [ea]; simp [mDirtyMin, sumI, c_33]) (by rw [eb]; simp [mDirtyCnt, sumI, c_33]) ls (lv_sub hl [0, 2, 1, 3] rfl)
        · refine lv_goto (tgt := 59) hx hb dX1_meanMinutes_36 (by decide) ?_
          refine lv_iinc (v := nI (k + 1)) (lv' := [(3, .int (nI (k + 1))), (1, .int a), (2, .int b), (0, .ref (ad (0, 0)))]) hx hb dX1_meanMinutes_59 hl (k := 0) rfl (nI_1 _) (by decide) rfl (fun ls hl => ?_)
          refine lv_goto (tgt := 6) hx hb dX1_meanMinutes_62 (by decide) ?_
          exact ih6 (k + 1) a b (by omega) (by omega) (by rw [ea]; simp [mDirtyMin, sumI, c_33]) (by rw [eb]; simp [mDirtyCnt, sumI, c_33]) ls (lv_sub hl [0, 1, 2, 3] rfl)
  exact L6 (S.1 2 0 + 1) 0 0 0 (by omega) (by omega) rfl rfl ls (lv_sub hl [0, 2, 1, 3] rfl)

set_option maxHeartbeats 4000000 in
theorem xX1_freeOf {l : Launch} {G : xG} {s0 : State} {b0 : Nat} (g1 : xG1 l G s0 b0) {A : Nat → Prop} {S : xS} {ad : Nat × Nat → Nat} {z : xZ} (bar : Int32) (hW : xW S) : vx_Met l yX1_freeOf (ws_ yX1_freeOf cX1_freeOf 2 (some .int)) ({ frames := 7, cells := 1, slots := 6, locals := 101 } : Room) (xP s0 A [.ref (ad (0, 0)), .int bar] (fun H => xRX G A S ad z H)) (xQc (some (.int ((xFreeOf S bar).2.1))) (fun _ H => (xFreeOf S bar).1 = 0 ∧ ∃ ad9 z9, xRX G A (xFreeOf S bar).2.2 ad9 z9 H ∧ ad9 (0, 0) = ad (0, 0)) A) (xXc (fun E _ H => E = xExn (xFreeOf S bar).1 ∧ ¬ (xFreeOf S bar).1 = 0 ∧ ∃ z9, xRX G A S ad z9 H) A) 1 6 A := by
  refine vx_ofW (cc := cX1_freeOf) (maxL := 2) (ret := (some .int)) (by decide) rfl ?_
  intro p e s m args below meth c s₁ B hml hnt hv
  obtain ⟨rfl, hWK, hR⟩ := hv
  have g := g1.1
  have hx := B.exec
  have hb := B.bytes
  have hr := B.returns
  have hts := atoms_spec (ws := ws_ yX1_freeOf cX1_freeOf 2 (some .int)) B.pre
  have hts : ∀ w ∈ lw_all, w.before _ s = true := fun w h => hts w (List.mem_cons_of_mem _ h)
  have hown : s.vm.findClass "Lendlathe" = some m.cls := findClass_of_methodNamed B.named
  have hlocks := B.notSynchronized
  have hK := hWK.K g
  have F : CallFix p m c cX1_freeOf 2 s _ lw_all "Lendlathe" := ⟨hx, hb, hml, hown, hts⟩
  have hS : va_S A s.heap s.heap [] := va_S.rf
  have hl := lv_entry ([.ref (ad (0, 0)), .int bar]) (n := 2) (Nat.le_of_ble_eq_true rfl)
  rw [lg_entry_eq]
  generalize (lg_sl ([.ref (ad (0, 0)), .int bar]) ++ List.replicate (2 - (lg_sl ([.ref (ad (0, 0)), .int bar])).length) Slot.unset).toArray = ls at hl ⊢
  have hl : lv_has ls 2 [(0, .ref (ad (0, 0))), (1, .int bar)] := hl
  have hn0 := hW.1.1
  have hn1 := hW.1.2.1
  have hn2 := hW.1.2.2.1
  have hn3 := hW.1.2.2.2.1
  have hn4 := hW.1.2.2.2.2
  refine lv_iload_n hx hb dX1_freeOf_0 rfl (lv_at hl 1 rfl) ?_
  refine lv_iconst (v := 0) hx hb dX1_freeOf_1 (by decide) ?_
  refine lv_aload_n hx hb dX1_freeOf_2 rfl (lv_at hl 0 rfl) ?_
  refine g_X1_39 F hK (xw_0 hR) (v := .ref (ad (6, 0))) rfl dX1_freeOf_3 ?_
  refine xc_P (va_runV (As := []) (rest := [.int 0, .int bar]) F (xJ2_size_26 g1 (A := A) (S := S) (ad := ad) (z := z) ) (cwV 0 hts (lw_V q510 q511 q512 q60 q513) rfl rfl rfl hdV_J2_size ⟨Nat.le_of_ble_eq_true rfl, Nat.le_of_ble_eq_true rfl⟩) (xpreV (xrecv hK (xw_6 hR) rfl) hWK hS hR) rfl rfl hl.1 rfl (lv_room (Nat.le_of_ble_eq_true rfl)) dX1_freeOf_6 ⟨Nat.le_of_ble_eq_true rfl, Nat.le_of_ble_eq_true rfl⟩) ?_
  refine lv_iconst (v := 1) hx hb dX1_freeOf_9 (by decide) ?_
  refine lv_isub hx hb dX1_freeOf_10 ?_
  refine xc_P (va_runS (As := [.int bar, .int 0, .int ((nI (S.1 3 0)) - 1)]) (rest := []) F (xX1_in g1 (A := A) bar 0 ((nI (S.1 3 0)) - 1)) (va_cwS 3 hts (lw_S q758 q759 q56 q760) rfl rfl rfl hdS_X1_in ⟨Nat.le_of_ble_eq_true rfl, Nat.le_of_ble_eq_true rfl⟩) (xpre hWK hS trivial) rfl rfl hl.1 rfl (lv_room (Nat.le_of_ble_eq_true rfl)) dX1_freeOf_11 ⟨Nat.le_of_ble_eq_true rfl, Nat.le_of_ble_eq_true rfl⟩) ?_
  rcases xbtf (inI bar 0 ((nI (S.1 3 0)) - 1)) with c_14 | c_14
  · refine xc_P0 (va_runS (As := [.int (bI (inI bar 0 ((nI (S.1 3 0)) - 1)))]) (rest := []) F (xX1_known_ok g1 (A := A) (inI bar 0 ((nI (S.1 3 0)) - 1)) c_14) (va_cwS 1 hts (lw_S q1125 q1126 q56 q1127) rfl rfl rfl hdS_X1_known ⟨Nat.le_of_ble_eq_true rfl, Nat.le_of_ble_eq_true rfl⟩) (xpre hWK hS trivial) rfl rfl hl.1 rfl (lv_room (Nat.le_of_ble_eq_true rfl)) dX1_freeOf_14 ⟨Nat.le_of_ble_eq_true rfl, Nat.le_of_ble_eq_true rfl⟩) ?_
    obtain ⟨bj, hbj, rfl⟩ := inI_of' (n := S.1 3 0) (by first | rfl | decide) (by first | decide | omega) c_14
    refine lv_aload_n hx hb dX1_freeOf_17 rfl (lv_at hl 0 rfl) ?_
    refine g_X1_39 F hK (xw_0 hR) (v := .ref (ad (6, 0))) rfl dX1_freeOf_18 ?_
    refine lv_iload_n hx hb dX1_freeOf_21 rfl (lv_at hl 1 rfl) ?_
    refine xc_P (va_runV (As := [.int (nI bj)]) (rest := []) F (xJ2_get_26 g1 (A := A) (S := S) (ad := ad) (z := z) (xi_nI (n := (S.1 3 0)) (by omega) (by omega)) (by first | assumption | omega)) (cwV 1 hts (lw_V q486 q487 q488 q60 q489) rfl rfl rfl hdV_J2_get ⟨Nat.le_of_ble_eq_true rfl, Nat.le_of_ble_eq_true rfl⟩) (xpreV (xrecv hK (xw_6 hR) rfl) hWK hS hR) rfl rfl hl.1 rfl (lv_room (Nat.le_of_ble_eq_true rfl)) dX1_freeOf_22 ⟨Nat.le_of_ble_eq_true rfl, Nat.le_of_ble_eq_true rfl⟩) ?_
    refine x_castO F hK rfl (xw_26 hR (xi_nI (n := (S.1 3 0)) (by omega) (by omega)).lt) (hts _ q721) dX1_freeOf_25 ?_
    refine g_X1_326 F hWK g hK (xw_26 hR (xi_nI (n := (S.1 3 0)) (by omega) (by omega)).lt) (v := .int (S.2.1 22 bj 0)) rfl dX1_freeOf_28 ?_
    have e9 : xFreeOf S (nI bj) = (0, S.2.1 22 bj 0, S) := by simp [xFreeOf, c_14, nI_clamp (show bj < 2 ^ 31 by omega)]
    exact vx_ret (xr_Ci hx hb hr hlocks ((congrArg (fun q => q.2.1) e9).symm) (⟨congrArg Prod.fst e9, ad, z, by rw [show (xFreeOf S (nI bj)).2.2 = S from congrArg (fun q => q.2.2) e9]; exact hR, rfl⟩) hS (by first | omega | decide) (by first | omega | decide) dX1_freeOf_31)
  · have e9 : (xFreeOf S bar).1 = 3 := by simp [xFreeOf, c_14]
    exact xc_T (vx_runS (As := [.int (bI (inI bar 0 ((nI (S.1 3 0)) - 1)))]) (rest := []) F (xX1_known_no g1 (A := A) (inI bar 0 ((nI (S.1 3 0)) - 1)) c_14) (va_cwS 1 hts (lw_S q1125 q1126 q56 q1127) rfl rfl rfl hdS_X1_known ⟨Nat.le_of_ble_eq_true rfl, Nat.le_of_ble_eq_true rfl⟩) (xpre hWK hS trivial) rfl rfl hl.1 rfl (lv_room (Nat.le_of_ble_eq_true rfl)) dX1_freeOf_14 ⟨Nat.le_of_ble_eq_true rfl, Nat.le_of_ble_eq_true rfl⟩) hS (fun E ce q9 H locs hX hz hk hS hq9 hv9 hc9 => vx_out (fun x hx => (hnt x hx).elim) hlocks hq9 hv9 hc9 (fun t ht _ => ⟨by rw [ht]; exact ⟨hX.1.trans (congrArg xExn e9).symm, (by rw [e9]; decide), z, hR.grow hX.2⟩, hS.F ht⟩) hS.2.2 (Nat.le_of_ble_eq_true rfl) (Nat.le_of_ble_eq_true rfl))

set_option maxHeartbeats 4000000 in
theorem xX1_freeByCuts {l : Launch} {G : xG} {s0 : State} {b0 : Nat} (g1 : xG1 l G s0 b0) {A : Nat → Prop} {S : xS} {ad : Nat × Nat → Nat} {z : xZ} (bar : Int32) (hW : xW S) : vx_Met l yX1_freeByCuts (ws_ yX1_freeByCuts cX1_freeByCuts 2 (some .int)) ({ frames := 7, cells := 1, slots := 6, locals := 101 } : Room) (xP s0 A [.ref (ad (0, 0)), .int bar] (fun H => xRX G A S ad z H)) (xQc (some (.int ((xFreeCuts S bar).2.1))) (fun _ H => (xFreeCuts S bar).1 = 0 ∧ ∃ ad9 z9, xRX G A (xFreeCuts S bar).2.2 ad9 z9 H ∧ ad9 (0, 0) = ad (0, 0)) A) (xXc (fun E _ H => E = xExn (xFreeCuts S bar).1 ∧ ¬ (xFreeCuts S bar).1 = 0 ∧ ∃ z9, xRX G A S ad z9 H) A) 1 6 A := by
  refine vx_ofW (cc := cX1_freeByCuts) (maxL := 2) (ret := (some .int)) (by decide) rfl ?_
  intro p e s m args below meth c s₁ B hml hnt hv
  obtain ⟨rfl, hWK, hR⟩ := hv
  have g := g1.1
  have hx := B.exec
  have hb := B.bytes
  have hr := B.returns
  have hts := atoms_spec (ws := ws_ yX1_freeByCuts cX1_freeByCuts 2 (some .int)) B.pre
  have hts : ∀ w ∈ lw_all, w.before _ s = true := fun w h => hts w (List.mem_cons_of_mem _ h)
  have hown : s.vm.findClass "Lendlathe" = some m.cls := findClass_of_methodNamed B.named
  have hlocks := B.notSynchronized
  have hK := hWK.K g
  have F : CallFix p m c cX1_freeByCuts 2 s _ lw_all "Lendlathe" := ⟨hx, hb, hml, hown, hts⟩
  have hS : va_S A s.heap s.heap [] := va_S.rf
  have hl := lv_entry ([.ref (ad (0, 0)), .int bar]) (n := 2) (Nat.le_of_ble_eq_true rfl)
  rw [lg_entry_eq]
  generalize (lg_sl ([.ref (ad (0, 0)), .int bar]) ++ List.replicate (2 - (lg_sl ([.ref (ad (0, 0)), .int bar])).length) Slot.unset).toArray = ls at hl ⊢
  have hl : lv_has ls 2 [(0, .ref (ad (0, 0))), (1, .int bar)] := hl
  have hn0 := hW.1.1
  have hn1 := hW.1.2.1
  have hn2 := hW.1.2.2.1
  have hn3 := hW.1.2.2.2.1
  have hn4 := hW.1.2.2.2.2
  refine lv_iload_n hx hb dX1_freeByCuts_0 rfl (lv_at hl 1 rfl) ?_
  refine lv_iconst (v := 0) hx hb dX1_freeByCuts_1 (by decide) ?_
  refine lv_aload_n hx hb dX1_freeByCuts_2 rfl (lv_at hl 0 rfl) ?_
  refine g_X1_39 F hK (xw_0 hR) (v := .ref (ad (6, 0))) rfl dX1_freeByCuts_3 ?_
  refine xc_P (va_runV (As := []) (rest := [.int 0, .int bar]) F (xJ2_size_26 g1 (A := A) (S := S) (ad := ad) (z := z) ) (cwV 0 hts (lw_V q510 q511 q512 q60 q513) rfl rfl rfl hdV_J2_size ⟨Nat.le_of_ble_eq_true rfl, Nat.le_of_ble_eq_true rfl⟩) (xpreV (xrecv hK (xw_6 hR) rfl) hWK hS hR) rfl rfl hl.1 rfl (lv_room (Nat.le_of_ble_eq_true rfl)) dX1_freeByCuts_6 ⟨Nat.le_of_ble_eq_true rfl, Nat.le_of_ble_eq_true rfl⟩) ?_
  refine lv_iconst (v := 1) hx hb dX1_freeByCuts_9 (by decide) ?_
  refine lv_isub hx hb dX1_freeByCuts_10 ?_
  refine xc_P (va_runS (As := [.int bar, .int 0, .int ((nI (S.1 3 0)) - 1)]) (rest := []) F (xX1_in g1 (A := A) bar 0 ((nI (S.1 3 0)) - 1)) (va_cwS 3 hts (lw_S q758 q759 q56 q760) rfl rfl rfl hdS_X1_in ⟨Nat.le_of_ble_eq_true rfl, Nat.le_of_ble_eq_true rfl⟩) (xpre hWK hS trivial) rfl rfl hl.1 rfl (lv_room (Nat.le_of_ble_eq_true rfl)) dX1_freeByCuts_11 ⟨Nat.le_of_ble_eq_true rfl, Nat.le_of_ble_eq_true rfl⟩) ?_
  rcases xbtf (inI bar 0 ((nI (S.1 3 0)) - 1)) with c_14 | c_14
  · refine xc_P0 (va_runS (As := [.int (bI (inI bar 0 ((nI (S.1 3 0)) - 1)))]) (rest := []) F (xX1_known_ok g1 (A := A) (inI bar 0 ((nI (S.1 3 0)) - 1)) c_14) (va_cwS 1 hts (lw_S q1125 q1126 q56 q1127) rfl rfl rfl hdS_X1_known ⟨Nat.le_of_ble_eq_true rfl, Nat.le_of_ble_eq_true rfl⟩) (xpre hWK hS trivial) rfl rfl hl.1 rfl (lv_room (Nat.le_of_ble_eq_true rfl)) dX1_freeByCuts_14 ⟨Nat.le_of_ble_eq_true rfl, Nat.le_of_ble_eq_true rfl⟩) ?_
    obtain ⟨bj, hbj, rfl⟩ := inI_of' (n := S.1 3 0) (by first | rfl | decide) (by first | decide | omega) c_14
    refine lv_aload_n hx hb dX1_freeByCuts_17 rfl (lv_at hl 0 rfl) ?_
    refine lv_iload_n hx hb dX1_freeByCuts_18 rfl (lv_at hl 1 rfl) ?_
    refine xc_P (va_runV (As := [.int (nI bj)]) (rest := []) F (xX1_freeBy g1 (A := A) (S := S) (ad := ad) (z := z) (xi_nI (n := (S.1 3 0)) (by omega) (by omega)) hW) (cwV 1 hts (lw_V q717 q719 qs9 q56 q720) rfl rfl rfl hdV_X1_freeBy ⟨Nat.le_of_ble_eq_true rfl, Nat.le_of_ble_eq_true rfl⟩) (xpreV (xrecv hK (xw_0 hR) rfl) hWK hS hR) rfl rfl hl.1 rfl (lv_room (Nat.le_of_ble_eq_true rfl)) dX1_freeByCuts_19 ⟨Nat.le_of_ble_eq_true rfl, Nat.le_of_ble_eq_true rfl⟩) ?_
    have e9 : xFreeCuts S (nI bj) = (0, xFreeBy S bj (nI bj) (S.1 2 0), S) := by simp [xFreeCuts, c_14, nI_clamp (show bj < 2 ^ 31 by omega)]
    exact vx_ret (xr_Ci hx hb hr hlocks ((congrArg (fun q => q.2.1) e9).symm) (⟨congrArg Prod.fst e9, ad, z, by rw [show (xFreeCuts S (nI bj)).2.2 = S from congrArg (fun q => q.2.2) e9]; exact hR, rfl⟩) hS (by first | omega | decide) (by first | omega | decide) dX1_freeByCuts_22)
  · have e9 : (xFreeCuts S bar).1 = 3 := by simp [xFreeCuts, c_14]
    exact xc_T (vx_runS (As := [.int (bI (inI bar 0 ((nI (S.1 3 0)) - 1)))]) (rest := []) F (xX1_known_no g1 (A := A) (inI bar 0 ((nI (S.1 3 0)) - 1)) c_14) (va_cwS 1 hts (lw_S q1125 q1126 q56 q1127) rfl rfl rfl hdS_X1_known ⟨Nat.le_of_ble_eq_true rfl, Nat.le_of_ble_eq_true rfl⟩) (xpre hWK hS trivial) rfl rfl hl.1 rfl (lv_room (Nat.le_of_ble_eq_true rfl)) dX1_freeByCuts_14 ⟨Nat.le_of_ble_eq_true rfl, Nat.le_of_ble_eq_true rfl⟩) hS (fun E ce q9 H locs hX hz hk hS hq9 hv9 hc9 => vx_out (fun x hx => (hnt x hx).elim) hlocks hq9 hv9 hc9 (fun t ht _ => ⟨by rw [ht]; exact ⟨hX.1.trans (congrArg xExn e9).symm, (by rw [e9]; decide), z, hR.grow hX.2⟩, hS.F ht⟩) hS.2.2 (Nat.le_of_ble_eq_true rfl) (Nat.le_of_ble_eq_true rfl))

set_option maxHeartbeats 4000000 in
theorem xX1_setPrice {l : Launch} {G : xG} {s0 : State} {b0 : Nat} (g1 : xG1 l G s0 b0) {A : Nat → Prop} {S : xS} {ad : Nat × Nat → Nat} {z : xZ} (material price : Int32) (hW : xW S) : vx_Met l yX1_setPrice (ws_ yX1_setPrice cX1_setPrice 4 (some .int)) ({ frames := 7, cells := 1, slots := 6, locals := 101 } : Room) (xP s0 A [.ref (ad (0, 0)), .int material, .int price] (fun H => xRX G A S ad z H)) (xQc (some (.int ((xSetPrice S material price).2.1))) (fun _ H => (xSetPrice S material price).1 = 0 ∧ ∃ ad9 z9, xRX G A (xSetPrice S material price).2.2 ad9 z9 H ∧ ad9 (0, 0) = ad (0, 0)) A) (xXc (fun E _ H => E = xExn (xSetPrice S material price).1 ∧ ¬ (xSetPrice S material price).1 = 0 ∧ ∃ z9, xRX G A S ad z9 H) A) 1 6 A := by
  refine vx_ofW (cc := cX1_setPrice) (maxL := 4) (ret := (some .int)) (by decide) rfl ?_
  intro p e s m args below meth c s₁ B hml hnt hv
  obtain ⟨rfl, hWK, hR⟩ := hv
  have g := g1.1
  have hx := B.exec
  have hb := B.bytes
  have hr := B.returns
  have hts := atoms_spec (ws := ws_ yX1_setPrice cX1_setPrice 4 (some .int)) B.pre
  have hts : ∀ w ∈ lw_all, w.before _ s = true := fun w h => hts w (List.mem_cons_of_mem _ h)
  have hown : s.vm.findClass "Lendlathe" = some m.cls := findClass_of_methodNamed B.named
  have hlocks := B.notSynchronized
  have hK := hWK.K g
  have F : CallFix p m c cX1_setPrice 4 s _ lw_all "Lendlathe" := ⟨hx, hb, hml, hown, hts⟩
  have hS : va_S A s.heap s.heap [] := va_S.rf
  have hl := lv_entry ([.ref (ad (0, 0)), .int material, .int price]) (n := 4) (Nat.le_of_ble_eq_true rfl)
  rw [lg_entry_eq]
  generalize (lg_sl ([.ref (ad (0, 0)), .int material, .int price]) ++ List.replicate (4 - (lg_sl ([.ref (ad (0, 0)), .int material, .int price])).length) Slot.unset).toArray = ls at hl ⊢
  have hl : lv_has ls 4 [(0, .ref (ad (0, 0))), (1, .int material), (2, .int price)] := hl
  have hn0 := hW.1.1
  have hn1 := hW.1.2.1
  have hn2 := hW.1.2.2.1
  have hn3 := hW.1.2.2.2.1
  have hn4 := hW.1.2.2.2.2
  refine lv_iload_n hx hb dX1_setPrice_0 rfl (lv_at hl 1 rfl) ?_
  refine xc_P (va_runS (As := [.int material]) (rest := []) F (xX1_isMaterial g1 (A := A) material) (va_cwS 1 hts (lw_S q1233 q1234 q56 q1235) rfl rfl rfl hdS_X1_isMaterial ⟨Nat.le_of_ble_eq_true rfl, Nat.le_of_ble_eq_true rfl⟩) (xpre hWK hS trivial) rfl rfl hl.1 rfl (lv_room (Nat.le_of_ble_eq_true rfl)) dX1_setPrice_1 ⟨Nat.le_of_ble_eq_true rfl, Nat.le_of_ble_eq_true rfl⟩) ?_
  refine x_ifeq (tgt := 21) hx hb dX1_setPrice_4 (by decide) (fun c_4 => ?_) (fun c_4 => ?_)
  · refine lv_iconst (v := 0) hx hb dX1_setPrice_21 (by decide) ?_
    have e9 : (xSetPrice S material price).1 = 1 := by simp [xSetPrice, c_4]
    exact xc_T (vx_runS (As := [.int 0]) (rest := []) F (xX1_want_no g1 (A := A) false rfl) (va_cwS 1 hts (lw_S q761 q762 q56 q763) rfl rfl rfl hdS_X1_want ⟨Nat.le_of_ble_eq_true rfl, Nat.le_of_ble_eq_true rfl⟩) (xpre hWK hS trivial) rfl rfl hl.1 rfl (lv_room (Nat.le_of_ble_eq_true rfl)) dX1_setPrice_22 ⟨Nat.le_of_ble_eq_true rfl, Nat.le_of_ble_eq_true rfl⟩) hS (fun E ce q9 H locs hX hz hk hS hq9 hv9 hc9 => vx_out (fun x hx => (hnt x hx).elim) hlocks hq9 hv9 hc9 (fun t ht _ => ⟨by rw [ht]; exact ⟨hX.1.trans (congrArg xExn e9).symm, (by rw [e9]; decide), z, hR.grow hX.2⟩, hS.F ht⟩) hS.2.2 (Nat.le_of_ble_eq_true rfl) (Nat.le_of_ble_eq_true rfl))
  · refine lv_iload_n hx hb dX1_setPrice_7 rfl (lv_at hl 2 rfl) ?_
    refine lv_iconst (v := 0) hx hb dX1_setPrice_8 (by decide) ?_
    refine lv_bipush (v := 99) hx hb dX1_setPrice_9 (by decide) ?_
    refine xc_P (va_runS (As := [.int price, .int 0, .int 99]) (rest := []) F (xX1_in g1 (A := A) price 0 99) (va_cwS 3 hts (lw_S q758 q759 q56 q760) rfl rfl rfl hdS_X1_in ⟨Nat.le_of_ble_eq_true rfl, Nat.le_of_ble_eq_true rfl⟩) (xpre hWK hS trivial) rfl rfl hl.1 rfl (lv_room (Nat.le_of_ble_eq_true rfl)) dX1_setPrice_11 ⟨Nat.le_of_ble_eq_true rfl, Nat.le_of_ble_eq_true rfl⟩) ?_
    refine x_ifeq (tgt := 21) hx hb dX1_setPrice_14 (by decide) (fun c_14 => ?_) (fun c_14 => ?_)
    · refine lv_iconst (v := 0) hx hb dX1_setPrice_21 (by decide) ?_
      have e9 : (xSetPrice S material price).1 = 1 := by simp [xSetPrice, c_4, c_14]
      exact xc_T (vx_runS (As := [.int 0]) (rest := []) F (xX1_want_no g1 (A := A) false rfl) (va_cwS 1 hts (lw_S q761 q762 q56 q763) rfl rfl rfl hdS_X1_want ⟨Nat.le_of_ble_eq_true rfl, Nat.le_of_ble_eq_true rfl⟩) (xpre hWK hS trivial) rfl rfl hl.1 rfl (lv_room (Nat.le_of_ble_eq_true rfl)) dX1_setPrice_22 ⟨Nat.le_of_ble_eq_true rfl, Nat.le_of_ble_eq_true rfl⟩) hS (fun E ce q9 H locs hX hz hk hS hq9 hv9 hc9 => vx_out (fun x hx => (hnt x hx).elim) hlocks hq9 hv9 hc9 (fun t ht _ => ⟨by rw [ht]; exact ⟨hX.1.trans (congrArg xExn e9).symm, (by rw [e9]; decide), z, hR.grow hX.2⟩, hS.F ht⟩) hS.2.2 (Nat.le_of_ble_eq_true rfl) (Nat.le_of_ble_eq_true rfl))
    · refine lv_iconst (v := 1) hx hb dX1_setPrice_17 (by decide) ?_
      refine lv_goto (tgt := 22) hx hb dX1_setPrice_18 (by decide) ?_
      refine xc_P0 (va_runS (As := [.int 1]) (rest := []) F (xX1_want_ok g1 (A := A) true rfl) (va_cwS 1 hts (lw_S q761 q762 q56 q763) rfl rfl rfl hdS_X1_want ⟨Nat.le_of_ble_eq_true rfl, Nat.le_of_ble_eq_true rfl⟩) (xpre hWK hS trivial) rfl rfl hl.1 rfl (lv_room (Nat.le_of_ble_eq_true rfl)) dX1_setPrice_22 ⟨Nat.le_of_ble_eq_true rfl, Nat.le_of_ble_eq_true rfl⟩) ?_
      obtain ⟨mj, hmj, rfl⟩ := inI_of' (n := 3) (by first | rfl | decide) (by first | decide | omega) c_4
      refine lv_aload_n hx hb dX1_setPrice_25 rfl (lv_at hl 0 rfl) ?_
      refine g_X1_47 F hK (xw_0 hR) (v := .ref (ad (9, 0))) rfl dX1_setPrice_26 ?_
      refine lv_iload_n hx hb dX1_setPrice_29 rfl (lv_at hl 1 rfl) ?_
      refine x_iald hx hb hK (xw_9 hR) (v := .int (S.2.1 6 mj 0)) (xi_nI (n := 3) (by omega) (by omega)) (rfl) dX1_setPrice_30 ?_
      refine lv_istore_n (lv' := [(3, .int (S.2.1 6 mj 0)), (0, .ref (ad (0, 0))), (1, .int (nI mj)), (2, .int price)]) hx hb dX1_setPrice_31 rfl hl (by decide) rfl (fun ls hl => ?_)
      refine lv_aload_n hx hb dX1_setPrice_32 rfl (lv_at hl 1 rfl) ?_
      refine g_X1_47 F hK (xw_0 hR) (v := .ref (ad (9, 0))) rfl dX1_setPrice_33 ?_
      refine lv_iload_n hx hb dX1_setPrice_36 rfl (lv_at hl 2 rfl) ?_
      refine lv_iload_n hx hb dX1_setPrice_37 rfl (lv_at hl 3 rfl) ?_
      refine x_iast hx hb hK hS (xw_9 hR) (xa_9 hR) (xi_nI (n := 3) (by omega) (by omega)) dX1_setPrice_38 (fun H locs hat hof hS => ?_)
      have hR := xs_9_a hR hof hat
      refine lv_iload_n hx hb dX1_setPrice_39 rfl (lv_at hl 0 rfl) ?_
      have e9 : xSetPrice S (nI mj) price = (0, S.2.1 6 mj 0, (sF S 6 mj 0 price)) := by simp [xSetPrice, c_4, c_14, nI_clamp (show mj < 2 ^ 31 by omega)]
      exact vx_ret (xr_Ci hx hb hr hlocks ((congrArg (fun q => q.2.1) e9).symm) (⟨congrArg Prod.fst e9, ad, z, by rw [show (xSetPrice S (nI mj) price).2.2 = (sF S 6 mj 0 price) from congrArg (fun q => q.2.2) e9]; exact hR, rfl⟩) hS (by first | omega | decide) (by first | omega | decide) dX1_setPrice_40)

set_option maxHeartbeats 4000000 in
theorem xX1_shareOf {l : Launch} {G : xG} {s0 : State} {b0 : Nat} (g1 : xG1 l G s0 b0) {A : Nat → Prop} {S : xS} {ad : Nat × Nat → Nat} {z : xZ} (breakage member : Int32) (hW : xW S) : vx_Met l yX1_shareOf (ws_ yX1_shareOf cX1_shareOf 3 (some .int)) ({ frames := 7, cells := 1, slots := 6, locals := 101 } : Room) (xP s0 A [.ref (ad (0, 0)), .int breakage, .int member] (fun H => xRX G A S ad z H)) (xQc (some (.int ((xShareOf S breakage member).2.1))) (fun _ H => (xShareOf S breakage member).1 = 0 ∧ ∃ ad9 z9, xRX G A (xShareOf S breakage member).2.2 ad9 z9 H ∧ ad9 (0, 0) = ad (0, 0)) A) (xXc (fun E _ H => E = xExn (xShareOf S breakage member).1 ∧ ¬ (xShareOf S breakage member).1 = 0 ∧ ∃ z9, xRX G A S ad z9 H) A) 1 6 A := by
  refine vx_ofW (cc := cX1_shareOf) (maxL := 3) (ret := (some .int)) (by decide) rfl ?_
  intro p e s m args below meth c s₁ B hml hnt hv
  obtain ⟨rfl, hWK, hR⟩ := hv
  have g := g1.1
  have hx := B.exec
  have hb := B.bytes
  have hr := B.returns
  have hts := atoms_spec (ws := ws_ yX1_shareOf cX1_shareOf 3 (some .int)) B.pre
  have hts : ∀ w ∈ lw_all, w.before _ s = true := fun w h => hts w (List.mem_cons_of_mem _ h)
  have hown : s.vm.findClass "Lendlathe" = some m.cls := findClass_of_methodNamed B.named
  have hlocks := B.notSynchronized
  have hK := hWK.K g
  have F : CallFix p m c cX1_shareOf 3 s _ lw_all "Lendlathe" := ⟨hx, hb, hml, hown, hts⟩
  have hS : va_S A s.heap s.heap [] := va_S.rf
  have hl := lv_entry ([.ref (ad (0, 0)), .int breakage, .int member]) (n := 3) (Nat.le_of_ble_eq_true rfl)
  rw [lg_entry_eq]
  generalize (lg_sl ([.ref (ad (0, 0)), .int breakage, .int member]) ++ List.replicate (3 - (lg_sl ([.ref (ad (0, 0)), .int breakage, .int member])).length) Slot.unset).toArray = ls at hl ⊢
  have hl : lv_has ls 3 [(0, .ref (ad (0, 0))), (1, .int breakage), (2, .int member)] := hl
  have hn0 := hW.1.1
  have hn1 := hW.1.2.1
  have hn2 := hW.1.2.2.1
  have hn3 := hW.1.2.2.2.1
  have hn4 := hW.1.2.2.2.2
  refine lv_iload_n hx hb dX1_shareOf_0 rfl (lv_at hl 1 rfl) ?_
  refine lv_iconst (v := 0) hx hb dX1_shareOf_1 (by decide) ?_
  refine lv_aload_n hx hb dX1_shareOf_2 rfl (lv_at hl 0 rfl) ?_
  refine g_X1_344 F hK (xw_0 hR) (v := .int (nI (S.1 4 0))) rfl dX1_shareOf_3 ?_
  refine lv_iconst (v := 1) hx hb dX1_shareOf_6 (by decide) ?_
  refine lv_isub hx hb dX1_shareOf_7 ?_
  refine xc_P (va_runS (As := [.int breakage, .int 0, .int ((nI (S.1 4 0)) - 1)]) (rest := []) F (xX1_in g1 (A := A) breakage 0 ((nI (S.1 4 0)) - 1)) (va_cwS 3 hts (lw_S q758 q759 q56 q760) rfl rfl rfl hdS_X1_in ⟨Nat.le_of_ble_eq_true rfl, Nat.le_of_ble_eq_true rfl⟩) (xpre hWK hS trivial) rfl rfl hl.1 rfl (lv_room (Nat.le_of_ble_eq_true rfl)) dX1_shareOf_8 ⟨Nat.le_of_ble_eq_true rfl, Nat.le_of_ble_eq_true rfl⟩) ?_
  rcases xbtf (inI breakage 0 ((nI (S.1 4 0)) - 1)) with c_11 | c_11
  · refine xc_P0 (va_runS (As := [.int (bI (inI breakage 0 ((nI (S.1 4 0)) - 1)))]) (rest := []) F (xX1_known_ok g1 (A := A) (inI breakage 0 ((nI (S.1 4 0)) - 1)) c_11) (va_cwS 1 hts (lw_S q1125 q1126 q56 q1127) rfl rfl rfl hdS_X1_known ⟨Nat.le_of_ble_eq_true rfl, Nat.le_of_ble_eq_true rfl⟩) (xpre hWK hS trivial) rfl rfl hl.1 rfl (lv_room (Nat.le_of_ble_eq_true rfl)) dX1_shareOf_11 ⟨Nat.le_of_ble_eq_true rfl, Nat.le_of_ble_eq_true rfl⟩) ?_
    refine lv_aload_n hx hb dX1_shareOf_14 rfl (lv_at hl 0 rfl) ?_
    refine lv_iload_n hx hb dX1_shareOf_15 rfl (lv_at hl 2 rfl) ?_
    refine xc_P (va_runV (As := [.int member]) (rest := []) F (xX1_isMember g1 (A := A) (S := S) (ad := ad) (z := z) member) (cwV 1 hts (lw_V q933 q935 qs20 q56 q936) rfl rfl rfl hdV_X1_isMember ⟨Nat.le_of_ble_eq_true rfl, Nat.le_of_ble_eq_true rfl⟩) (xpreV (xrecv hK (xw_0 hR) rfl) hWK hS hR) rfl rfl hl.1 rfl (lv_room (Nat.le_of_ble_eq_true rfl)) dX1_shareOf_16 ⟨Nat.le_of_ble_eq_true rfl, Nat.le_of_ble_eq_true rfl⟩) ?_
    rcases xbtf (inI member 0 (nI (S.1 1 0) - 1)) with c_19 | c_19
    · refine xc_P0 (va_runS (As := [.int (bI (inI member 0 (nI (S.1 1 0) - 1)))]) (rest := []) F (xX1_there_ok g1 (A := A) (inI member 0 (nI (S.1 1 0) - 1)) c_19) (va_cwS 1 hts (lw_S q937 q938 q56 q939) rfl rfl rfl hdS_X1_there ⟨Nat.le_of_ble_eq_true rfl, Nat.le_of_ble_eq_true rfl⟩) (xpre hWK hS trivial) rfl rfl hl.1 rfl (lv_room (Nat.le_of_ble_eq_true rfl)) dX1_shareOf_19 ⟨Nat.le_of_ble_eq_true rfl, Nat.le_of_ble_eq_true rfl⟩) ?_
      obtain ⟨bj, hbj, rfl⟩ := inI_of' (n := S.1 4 0) (by first | rfl | decide) (by first | decide | omega) c_11
      obtain ⟨mj, hmj, rfl⟩ := inI_of' (n := S.1 1 0) (by first | rfl | decide) (by first | decide | omega) c_19
      refine lv_aload_n hx hb dX1_shareOf_22 rfl (lv_at hl 0 rfl) ?_
      refine g_X1_71 F hK (xw_0 hR) (v := .ref (ad (13, 0))) rfl dX1_shareOf_23 ?_
      refine lv_iload_n hx hb dX1_shareOf_26 rfl (lv_at hl 1 rfl) ?_
      refine x_aald hx hb hK (xw_13 hR) rfl rfl (v := .ref (ad (14, bj))) (xi_nI (n := 20) (by omega) (by omega)) (rfl) dX1_shareOf_27 ?_
      refine lv_iload_n hx hb dX1_shareOf_28 rfl (lv_at hl 2 rfl) ?_
      refine x_iald hx hb hK (xw_14 hR (by omega)) (v := .int (S.2.1 25 bj mj)) (xi_nI (n := 10) (by omega) (by omega)) (rfl) dX1_shareOf_29 ?_
      have e9 : xShareOf S (nI bj) (nI mj) = (0, S.2.1 25 bj mj, S) := by simp [xShareOf, c_11, c_19, nI_clamp (show bj < 2 ^ 31 by omega), nI_clamp (show mj < 2 ^ 31 by omega)]
      exact vx_ret (xr_Ci hx hb hr hlocks ((congrArg (fun q => q.2.1) e9).symm) (⟨congrArg Prod.fst e9, ad, z, by rw [show (xShareOf S (nI bj) (nI mj)).2.2 = S from congrArg (fun q => q.2.2) e9]; exact hR, rfl⟩) hS (by first | omega | decide) (by first | omega | decide) dX1_shareOf_30)
    · have e9 : (xShareOf S breakage member).1 = 4 := by simp [xShareOf, c_11, c_19]
      exact xc_T (vx_runS (As := [.int (bI (inI member 0 (nI (S.1 1 0) - 1)))]) (rest := []) F (xX1_there_no g1 (A := A) (inI member 0 (nI (S.1 1 0) - 1)) c_19) (va_cwS 1 hts (lw_S q937 q938 q56 q939) rfl rfl rfl hdS_X1_there ⟨Nat.le_of_ble_eq_true rfl, Nat.le_of_ble_eq_true rfl⟩) (xpre hWK hS trivial) rfl rfl hl.1 rfl (lv_room (Nat.le_of_ble_eq_true rfl)) dX1_shareOf_19 ⟨Nat.le_of_ble_eq_true rfl, Nat.le_of_ble_eq_true rfl⟩) hS (fun E ce q9 H locs hX hz hk hS hq9 hv9 hc9 => vx_out (fun x hx => (hnt x hx).elim) hlocks hq9 hv9 hc9 (fun t ht _ => ⟨by rw [ht]; exact ⟨hX.1.trans (congrArg xExn e9).symm, (by rw [e9]; decide), z, hR.grow hX.2⟩, hS.F ht⟩) hS.2.2 (Nat.le_of_ble_eq_true rfl) (Nat.le_of_ble_eq_true rfl))
  · have e9 : (xShareOf S breakage member).1 = 3 := by simp [xShareOf, c_11]
    exact xc_T (vx_runS (As := [.int (bI (inI breakage 0 ((nI (S.1 4 0)) - 1)))]) (rest := []) F (xX1_known_no g1 (A := A) (inI breakage 0 ((nI (S.1 4 0)) - 1)) c_11) (va_cwS 1 hts (lw_S q1125 q1126 q56 q1127) rfl rfl rfl hdS_X1_known ⟨Nat.le_of_ble_eq_true rfl, Nat.le_of_ble_eq_true rfl⟩) (xpre hWK hS trivial) rfl rfl hl.1 rfl (lv_room (Nat.le_of_ble_eq_true rfl)) dX1_shareOf_11 ⟨Nat.le_of_ble_eq_true rfl, Nat.le_of_ble_eq_true rfl⟩) hS (fun E ce q9 H locs hX hz hk hS hq9 hv9 hc9 => vx_out (fun x hx => (hnt x hx).elim) hlocks hq9 hv9 hc9 (fun t ht _ => ⟨by rw [ht]; exact ⟨hX.1.trans (congrArg xExn e9).symm, (by rw [e9]; decide), z, hR.grow hX.2⟩, hS.F ht⟩) hS.2.2 (Nat.le_of_ble_eq_true rfl) (Nat.le_of_ble_eq_true rfl))

set_option maxHeartbeats 4000000 in
theorem xX1_pay {l : Launch} {G : xG} {s0 : State} {b0 : Nat} (g1 : xG1 l G s0 b0) {A : Nat → Prop} {S : xS} {ad : Nat × Nat → Nat} {z : xZ} (member amount : Int32) (hW : xW S) : vx_Met l yX1_pay (ws_ yX1_pay cX1_pay 4 (some .int)) ({ frames := 7, cells := 1, slots := 6, locals := 101 } : Room) (xP s0 A [.ref (ad (0, 0)), .int member, .int amount] (fun H => xRX G A S ad z H)) (xQc (some (.int ((xPay S member amount).2.1))) (fun _ H => (xPay S member amount).1 = 0 ∧ ∃ ad9 z9, xRX G A (xPay S member amount).2.2 ad9 z9 H ∧ ad9 (0, 0) = ad (0, 0)) A) (xXc (fun E _ H => E = xExn (xPay S member amount).1 ∧ ¬ (xPay S member amount).1 = 0 ∧ ∃ z9, xRX G A S ad z9 H) A) 1 6 A := by
  refine vx_ofW (cc := cX1_pay) (maxL := 4) (ret := (some .int)) (by decide) rfl ?_
  intro p e s m args below meth c s₁ B hml hnt hv
  obtain ⟨rfl, hWK, hR⟩ := hv
  have g := g1.1
  have hx := B.exec
  have hb := B.bytes
  have hr := B.returns
  have hts := atoms_spec (ws := ws_ yX1_pay cX1_pay 4 (some .int)) B.pre
  have hts : ∀ w ∈ lw_all, w.before _ s = true := fun w h => hts w (List.mem_cons_of_mem _ h)
  have hown : s.vm.findClass "Lendlathe" = some m.cls := findClass_of_methodNamed B.named
  have hlocks := B.notSynchronized
  have hK := hWK.K g
  have F : CallFix p m c cX1_pay 4 s _ lw_all "Lendlathe" := ⟨hx, hb, hml, hown, hts⟩
  have hS : va_S A s.heap s.heap [] := va_S.rf
  have hl := lv_entry ([.ref (ad (0, 0)), .int member, .int amount]) (n := 4) (Nat.le_of_ble_eq_true rfl)
  rw [lg_entry_eq]
  generalize (lg_sl ([.ref (ad (0, 0)), .int member, .int amount]) ++ List.replicate (4 - (lg_sl ([.ref (ad (0, 0)), .int member, .int amount])).length) Slot.unset).toArray = ls at hl ⊢
  have hl : lv_has ls 4 [(0, .ref (ad (0, 0))), (1, .int member), (2, .int amount)] := hl
  have hn0 := hW.1.1
  have hn1 := hW.1.2.1
  have hn2 := hW.1.2.2.1
  have hn3 := hW.1.2.2.2.1
  have hn4 := hW.1.2.2.2.2
  refine lv_aload_n hx hb dX1_pay_0 rfl (lv_at hl 0 rfl) ?_
  refine lv_iload_n hx hb dX1_pay_1 rfl (lv_at hl 1 rfl) ?_
  refine xc_P (va_runV (As := [.int member]) (rest := []) F (xX1_isMember g1 (A := A) (S := S) (ad := ad) (z := z) member) (cwV 1 hts (lw_V q933 q935 qs20 q56 q936) rfl rfl rfl hdV_X1_isMember ⟨Nat.le_of_ble_eq_true rfl, Nat.le_of_ble_eq_true rfl⟩) (xpreV (xrecv hK (xw_0 hR) rfl) hWK hS hR) rfl rfl hl.1 rfl (lv_room (Nat.le_of_ble_eq_true rfl)) dX1_pay_2 ⟨Nat.le_of_ble_eq_true rfl, Nat.le_of_ble_eq_true rfl⟩) ?_
  rcases xbtf (inI member 0 (nI (S.1 1 0) - 1)) with c_5 | c_5
  · refine xc_P0 (va_runS (As := [.int (bI (inI member 0 (nI (S.1 1 0) - 1)))]) (rest := []) F (xX1_there_ok g1 (A := A) (inI member 0 (nI (S.1 1 0) - 1)) c_5) (va_cwS 1 hts (lw_S q937 q938 q56 q939) rfl rfl rfl hdS_X1_there ⟨Nat.le_of_ble_eq_true rfl, Nat.le_of_ble_eq_true rfl⟩) (xpre hWK hS trivial) rfl rfl hl.1 rfl (lv_room (Nat.le_of_ble_eq_true rfl)) dX1_pay_5 ⟨Nat.le_of_ble_eq_true rfl, Nat.le_of_ble_eq_true rfl⟩) ?_
    refine lv_iload_n hx hb dX1_pay_8 rfl (lv_at hl 2 rfl) ?_
    refine lv_iconst (v := 1) hx hb dX1_pay_9 (by decide) ?_
    refine lv_ldcw (v := 1000000) hx hb hown (hts _ q1406) dX1_pay_10 ?_
    refine xc_P (va_runS (As := [.int amount, .int 1, .int 1000000]) (rest := []) F (xX1_in g1 (A := A) amount 1 1000000) (va_cwS 3 hts (lw_S q758 q759 q56 q760) rfl rfl rfl hdS_X1_in ⟨Nat.le_of_ble_eq_true rfl, Nat.le_of_ble_eq_true rfl⟩) (xpre hWK hS trivial) rfl rfl hl.1 rfl (lv_room (Nat.le_of_ble_eq_true rfl)) dX1_pay_13 ⟨Nat.le_of_ble_eq_true rfl, Nat.le_of_ble_eq_true rfl⟩) ?_
    rcases xbtf (inI amount 1 1000000) with c_16 | c_16
    · refine xc_P0 (va_runS (As := [.int (bI (inI amount 1 1000000))]) (rest := []) F (xX1_want_ok g1 (A := A) (inI amount 1 1000000) c_16) (va_cwS 1 hts (lw_S q761 q762 q56 q763) rfl rfl rfl hdS_X1_want ⟨Nat.le_of_ble_eq_true rfl, Nat.le_of_ble_eq_true rfl⟩) (xpre hWK hS trivial) rfl rfl hl.1 rfl (lv_room (Nat.le_of_ble_eq_true rfl)) dX1_pay_16 ⟨Nat.le_of_ble_eq_true rfl, Nat.le_of_ble_eq_true rfl⟩) ?_
      obtain ⟨mj, hmj, rfl⟩ := inI_of' (n := S.1 1 0) (by first | rfl | decide) (by first | decide | omega) c_5
      refine lv_aload_n hx hb dX1_pay_19 rfl (lv_at hl 0 rfl) ?_
      refine g_X1_33 F hK (xw_0 hR) (v := .ref (ad (4, 0))) rfl dX1_pay_20 ?_
      refine lv_iload_n hx hb dX1_pay_23 rfl (lv_at hl 1 rfl) ?_
      refine xc_P (va_runV (As := [.int (nI mj)]) (rest := []) F (xJ2_get_21 g1 (A := A) (S := S) (ad := ad) (z := z) (xi_nI (n := (S.1 1 0)) (by omega) (by omega)) (by first | assumption | omega)) (cwV 1 hts (lw_V q486 q487 q488 q60 q489) rfl rfl rfl hdV_J2_get ⟨Nat.le_of_ble_eq_true rfl, Nat.le_of_ble_eq_true rfl⟩) (xpreV (xrecv hK (xw_4 hR) rfl) hWK hS hR) rfl rfl hl.1 rfl (lv_room (Nat.le_of_ble_eq_true rfl)) dX1_pay_24 ⟨Nat.le_of_ble_eq_true rfl, Nat.le_of_ble_eq_true rfl⟩) ?_
      refine x_castO F hK rfl (xw_21 hR (xi_nI (n := (S.1 1 0)) (by omega) (by omega)).lt) (hts _ q500) dX1_pay_27 ?_
      refine lv_astore_n (lv' := [(3, .ref (ad (21, mj))), (0, .ref (ad (0, 0))), (1, .int (nI mj)), (2, .int amount)]) hx hb dX1_pay_30 rfl hl (by decide) rfl (fun ls hl => ?_)
      refine lv_aload_n hx hb dX1_pay_31 rfl (lv_at hl 0 rfl) ?_
      refine g_X1_366 F hWK g hK (xw_21 hR (xi_nI (n := (S.1 1 0)) (by omega) (by omega)).lt) (v := .int (S.2.1 3 mj 0)) rfl dX1_pay_32 ?_
      refine lv_ldcw (v := 1000000000) hx hb hown (hts _ q1407) dX1_pay_35 ?_
      refine lv_iload_n hx hb dX1_pay_38 rfl (lv_at hl 3 rfl) ?_
      refine lv_isub hx hb dX1_pay_39 ?_
      refine lv_icmp_gt (tgt := 47) hx hb dX1_pay_40 (by decide) (fun c_40 => ?_) (fun c_40 => ?_)
      · have n_40 := Int32.not_le.mpr c_40
        refine lv_iconst (v := 0) hx hb dX1_pay_47 (by decide) ?_
        have e9 : (xPay S (nI mj) amount).1 = 2 := by simp [xPay, c_5, c_16, c_40, n_40, fset, nI_clamp (show mj < 2 ^ 31 by omega)]
        exact xc_T (vx_runS (As := [.int 0]) (rest := []) F (xX1_ready_no g1 (A := A) false rfl) (va_cwS 1 hts (lw_S q769 q770 q56 q771) rfl rfl rfl hdS_X1_ready ⟨Nat.le_of_ble_eq_true rfl, Nat.le_of_ble_eq_true rfl⟩) (xpre hWK hS trivial) rfl rfl hl.1 rfl (lv_room (Nat.le_of_ble_eq_true rfl)) dX1_pay_48 ⟨Nat.le_of_ble_eq_true rfl, Nat.le_of_ble_eq_true rfl⟩) hS (fun E ce q9 H locs hX hz hk hS hq9 hv9 hc9 => vx_out (fun x hx => (hnt x hx).elim) hlocks hq9 hv9 hc9 (fun t ht _ => ⟨by rw [ht]; exact ⟨hX.1.trans (congrArg xExn e9).symm, (by rw [e9]; decide), z, hR.grow hX.2⟩, hS.F ht⟩) hS.2.2 (Nat.le_of_ble_eq_true rfl) (Nat.le_of_ble_eq_true rfl))
      · have n_40 := Int32.not_lt.mp c_40
        refine lv_iconst (v := 1) hx hb dX1_pay_43 (by decide) ?_
        refine lv_goto (tgt := 48) hx hb dX1_pay_44 (by decide) ?_
        refine xc_P0 (va_runS (As := [.int 1]) (rest := []) F (xX1_ready_ok g1 (A := A) true rfl) (va_cwS 1 hts (lw_S q769 q770 q56 q771) rfl rfl rfl hdS_X1_ready ⟨Nat.le_of_ble_eq_true rfl, Nat.le_of_ble_eq_true rfl⟩) (xpre hWK hS trivial) rfl rfl hl.1 rfl (lv_room (Nat.le_of_ble_eq_true rfl)) dX1_pay_48 ⟨Nat.le_of_ble_eq_true rfl, Nat.le_of_ble_eq_true rfl⟩) ?_
        refine lv_aload_n hx hb dX1_pay_51 rfl (lv_at hl 0 rfl) ?_
        refine lv_dup hx hb dX1_pay_52 rfl ?_
        refine g_X1_366 F hWK g hK (xw_21 hR (xi_nI (n := (S.1 1 0)) (by omega) (by omega)).lt) (v := .int (S.2.1 3 mj 0)) rfl dX1_pay_53 ?_
        refine lv_iload_n hx hb dX1_pay_56 rfl (lv_at hl 3 rfl) ?_
        refine lv_iadd hx hb dX1_pay_57 ?_
        refine p_X1_366 F hWK g hK hS (xw_21 hR (xi_nI (n := (S.1 1 0)) (by omega) (by omega)).lt) (xa_21 hR (xi_nI (n := (S.1 1 0)) (by omega) (by omega)).lt) (v := .int ((S.2.1 3 mj 0) + amount)) rfl rfl (Nat.le_of_ble_eq_true rfl) dX1_pay_58 (fun H locs hat hof hS => ?_)
        have hR := xs_21_2 hR (xi_nI (n := (S.1 1 0)) (by omega) (by omega)).lt hof hat
        refine lv_aload_n hx hb dX1_pay_61 rfl (lv_at hl 0 rfl) ?_
        refine xc_P (va_runV (As := []) (rest := []) F (xX6_owes g1 (A := A) (S := (sF S 3 mj 0 ((S.2.1 3 mj 0) + amount))) (ad := ad) (z := z) mj ((xi_nI (n := (S.1 1 0)) (by omega) (by omega)).lt)) (cwV 0 hts (lw_V q730 q731 q732 q83 q733) rfl rfl rfl hdV_X6_owes ⟨Nat.le_of_ble_eq_true rfl, Nat.le_of_ble_eq_true rfl⟩) (xpreV (xrecv hK (xw_21 hR (xi_nI (n := (S.1 1 0)) (by omega) (by omega)).lt) rfl) hWK hS hR) rfl rfl hl.1 rfl (lv_room (Nat.le_of_ble_eq_true rfl)) dX1_pay_62 ⟨Nat.le_of_ble_eq_true rfl, Nat.le_of_ble_eq_true rfl⟩) ?_
        have e9 : xPay S (nI mj) amount = (0, (sF S 3 mj 0 ((S.2.1 3 mj 0) + amount)).2.1 4 mj 0 - (sF S 3 mj 0 ((S.2.1 3 mj 0) + amount)).2.1 3 mj 0, (sF S 3 mj 0 ((S.2.1 3 mj 0) + amount))) := by simp [xPay, c_5, c_16, c_40, n_40, fset, nI_clamp (show mj < 2 ^ 31 by omega)]
        exact vx_ret (xr_Ci hx hb hr hlocks ((congrArg (fun q => q.2.1) e9).symm) (⟨congrArg Prod.fst e9, ad, z, by rw [show (xPay S (nI mj) amount).2.2 = (sF S 3 mj 0 ((S.2.1 3 mj 0) + amount)) from congrArg (fun q => q.2.2) e9]; exact hR, rfl⟩) hS (by first | omega | decide) (by first | omega | decide) dX1_pay_65)
    · have e9 : (xPay S member amount).1 = 1 := by simp [xPay, c_5, c_16, fset]
      exact xc_T (vx_runS (As := [.int (bI (inI amount 1 1000000))]) (rest := []) F (xX1_want_no g1 (A := A) (inI amount 1 1000000) c_16) (va_cwS 1 hts (lw_S q761 q762 q56 q763) rfl rfl rfl hdS_X1_want ⟨Nat.le_of_ble_eq_true rfl, Nat.le_of_ble_eq_true rfl⟩) (xpre hWK hS trivial) rfl rfl hl.1 rfl (lv_room (Nat.le_of_ble_eq_true rfl)) dX1_pay_16 ⟨Nat.le_of_ble_eq_true rfl, Nat.le_of_ble_eq_true rfl⟩) hS (fun E ce q9 H locs hX hz hk hS hq9 hv9 hc9 => vx_out (fun x hx => (hnt x hx).elim) hlocks hq9 hv9 hc9 (fun t ht _ => ⟨by rw [ht]; exact ⟨hX.1.trans (congrArg xExn e9).symm, (by rw [e9]; decide), z, hR.grow hX.2⟩, hS.F ht⟩) hS.2.2 (Nat.le_of_ble_eq_true rfl) (Nat.le_of_ble_eq_true rfl))
  · have e9 : (xPay S member amount).1 = 4 := by simp [xPay, c_5, fset]
    exact xc_T (vx_runS (As := [.int (bI (inI member 0 (nI (S.1 1 0) - 1)))]) (rest := []) F (xX1_there_no g1 (A := A) (inI member 0 (nI (S.1 1 0) - 1)) c_5) (va_cwS 1 hts (lw_S q937 q938 q56 q939) rfl rfl rfl hdS_X1_there ⟨Nat.le_of_ble_eq_true rfl, Nat.le_of_ble_eq_true rfl⟩) (xpre hWK hS trivial) rfl rfl hl.1 rfl (lv_room (Nat.le_of_ble_eq_true rfl)) dX1_pay_5 ⟨Nat.le_of_ble_eq_true rfl, Nat.le_of_ble_eq_true rfl⟩) hS (fun E ce q9 H locs hX hz hk hS hq9 hv9 hc9 => vx_out (fun x hx => (hnt x hx).elim) hlocks hq9 hv9 hc9 (fun t ht _ => ⟨by rw [ht]; exact ⟨hX.1.trans (congrArg xExn e9).symm, (by rw [e9]; decide), z, hR.grow hX.2⟩, hS.F ht⟩) hS.2.2 (Nat.le_of_ble_eq_true rfl) (Nat.le_of_ble_eq_true rfl))

set_option maxHeartbeats 4000000 in
theorem xX1_owes {l : Launch} {G : xG} {s0 : State} {b0 : Nat} (g1 : xG1 l G s0 b0) {A : Nat → Prop} {S : xS} {ad : Nat × Nat → Nat} {z : xZ} (member : Int32) (hW : xW S) : vx_Met l yX1_owes (ws_ yX1_owes cX1_owes 2 (some .int)) ({ frames := 7, cells := 1, slots := 6, locals := 101 } : Room) (xP s0 A [.ref (ad (0, 0)), .int member] (fun H => xRX G A S ad z H)) (xQc (some (.int ((xOwes S member).2.1))) (fun _ H => (xOwes S member).1 = 0 ∧ ∃ ad9 z9, xRX G A (xOwes S member).2.2 ad9 z9 H ∧ ad9 (0, 0) = ad (0, 0)) A) (xXc (fun E _ H => E = xExn (xOwes S member).1 ∧ ¬ (xOwes S member).1 = 0 ∧ ∃ z9, xRX G A S ad z9 H) A) 1 6 A := by
  refine vx_ofW (cc := cX1_owes) (maxL := 2) (ret := (some .int)) (by decide) rfl ?_
  intro p e s m args below meth c s₁ B hml hnt hv
  obtain ⟨rfl, hWK, hR⟩ := hv
  have g := g1.1
  have hx := B.exec
  have hb := B.bytes
  have hr := B.returns
  have hts := atoms_spec (ws := ws_ yX1_owes cX1_owes 2 (some .int)) B.pre
  have hts : ∀ w ∈ lw_all, w.before _ s = true := fun w h => hts w (List.mem_cons_of_mem _ h)
  have hown : s.vm.findClass "Lendlathe" = some m.cls := findClass_of_methodNamed B.named
  have hlocks := B.notSynchronized
  have hK := hWK.K g
  have F : CallFix p m c cX1_owes 2 s _ lw_all "Lendlathe" := ⟨hx, hb, hml, hown, hts⟩
  have hS : va_S A s.heap s.heap [] := va_S.rf
  have hl := lv_entry ([.ref (ad (0, 0)), .int member]) (n := 2) (Nat.le_of_ble_eq_true rfl)
  rw [lg_entry_eq]
  generalize (lg_sl ([.ref (ad (0, 0)), .int member]) ++ List.replicate (2 - (lg_sl ([.ref (ad (0, 0)), .int member])).length) Slot.unset).toArray = ls at hl ⊢
  have hl : lv_has ls 2 [(0, .ref (ad (0, 0))), (1, .int member)] := hl
  have hn0 := hW.1.1
  have hn1 := hW.1.2.1
  have hn2 := hW.1.2.2.1
  have hn3 := hW.1.2.2.2.1
  have hn4 := hW.1.2.2.2.2
  refine lv_aload_n hx hb dX1_owes_0 rfl (lv_at hl 0 rfl) ?_
  refine lv_iload_n hx hb dX1_owes_1 rfl (lv_at hl 1 rfl) ?_
  refine xc_P (va_runV (As := [.int member]) (rest := []) F (xX1_isMember g1 (A := A) (S := S) (ad := ad) (z := z) member) (cwV 1 hts (lw_V q933 q935 qs20 q56 q936) rfl rfl rfl hdV_X1_isMember ⟨Nat.le_of_ble_eq_true rfl, Nat.le_of_ble_eq_true rfl⟩) (xpreV (xrecv hK (xw_0 hR) rfl) hWK hS hR) rfl rfl hl.1 rfl (lv_room (Nat.le_of_ble_eq_true rfl)) dX1_owes_2 ⟨Nat.le_of_ble_eq_true rfl, Nat.le_of_ble_eq_true rfl⟩) ?_
  rcases xbtf (inI member 0 (nI (S.1 1 0) - 1)) with c_5 | c_5
  · refine xc_P0 (va_runS (As := [.int (bI (inI member 0 (nI (S.1 1 0) - 1)))]) (rest := []) F (xX1_there_ok g1 (A := A) (inI member 0 (nI (S.1 1 0) - 1)) c_5) (va_cwS 1 hts (lw_S q937 q938 q56 q939) rfl rfl rfl hdS_X1_there ⟨Nat.le_of_ble_eq_true rfl, Nat.le_of_ble_eq_true rfl⟩) (xpre hWK hS trivial) rfl rfl hl.1 rfl (lv_room (Nat.le_of_ble_eq_true rfl)) dX1_owes_5 ⟨Nat.le_of_ble_eq_true rfl, Nat.le_of_ble_eq_true rfl⟩) ?_
    obtain ⟨mj, hmj, rfl⟩ := inI_of' (n := S.1 1 0) (by first | rfl | decide) (by first | decide | omega) c_5
    refine lv_aload_n hx hb dX1_owes_8 rfl (lv_at hl 0 rfl) ?_
    refine g_X1_33 F hK (xw_0 hR) (v := .ref (ad (4, 0))) rfl dX1_owes_9 ?_
    refine lv_iload_n hx hb dX1_owes_12 rfl (lv_at hl 1 rfl) ?_
    refine xc_P (va_runV (As := [.int (nI mj)]) (rest := []) F (xJ2_get_21 g1 (A := A) (S := S) (ad := ad) (z := z) (xi_nI (n := (S.1 1 0)) (by omega) (by omega)) (by first | assumption | omega)) (cwV 1 hts (lw_V q486 q487 q488 q60 q489) rfl rfl rfl hdV_J2_get ⟨Nat.le_of_ble_eq_true rfl, Nat.le_of_ble_eq_true rfl⟩) (xpreV (xrecv hK (xw_4 hR) rfl) hWK hS hR) rfl rfl hl.1 rfl (lv_room (Nat.le_of_ble_eq_true rfl)) dX1_owes_13 ⟨Nat.le_of_ble_eq_true rfl, Nat.le_of_ble_eq_true rfl⟩) ?_
    refine x_castO F hK rfl (xw_21 hR (xi_nI (n := (S.1 1 0)) (by omega) (by omega)).lt) (hts _ q500) dX1_owes_16 ?_
    refine xc_P (va_runV (As := []) (rest := []) F (xX6_owes g1 (A := A) (S := S) (ad := ad) (z := z) mj ((xi_nI (n := (S.1 1 0)) (by omega) (by omega)).lt)) (cwV 0 hts (lw_V q730 q731 q732 q83 q733) rfl rfl rfl hdV_X6_owes ⟨Nat.le_of_ble_eq_true rfl, Nat.le_of_ble_eq_true rfl⟩) (xpreV (xrecv hK (xw_21 hR (xi_nI (n := (S.1 1 0)) (by omega) (by omega)).lt) rfl) hWK hS hR) rfl rfl hl.1 rfl (lv_room (Nat.le_of_ble_eq_true rfl)) dX1_owes_19 ⟨Nat.le_of_ble_eq_true rfl, Nat.le_of_ble_eq_true rfl⟩) ?_
    have e9 : xOwes S (nI mj) = (0, S.2.1 4 mj 0 - S.2.1 3 mj 0, S) := by simp [xOwes, c_5, nI_clamp (show mj < 2 ^ 31 by omega)]
    exact vx_ret (xr_Ci hx hb hr hlocks ((congrArg (fun q => q.2.1) e9).symm) (⟨congrArg Prod.fst e9, ad, z, by rw [show (xOwes S (nI mj)).2.2 = S from congrArg (fun q => q.2.2) e9]; exact hR, rfl⟩) hS (by first | omega | decide) (by first | omega | decide) dX1_owes_22)
  · have e9 : (xOwes S member).1 = 4 := by simp [xOwes, c_5]
    exact xc_T (vx_runS (As := [.int (bI (inI member 0 (nI (S.1 1 0) - 1)))]) (rest := []) F (xX1_there_no g1 (A := A) (inI member 0 (nI (S.1 1 0) - 1)) c_5) (va_cwS 1 hts (lw_S q937 q938 q56 q939) rfl rfl rfl hdS_X1_there ⟨Nat.le_of_ble_eq_true rfl, Nat.le_of_ble_eq_true rfl⟩) (xpre hWK hS trivial) rfl rfl hl.1 rfl (lv_room (Nat.le_of_ble_eq_true rfl)) dX1_owes_5 ⟨Nat.le_of_ble_eq_true rfl, Nat.le_of_ble_eq_true rfl⟩) hS (fun E ce q9 H locs hX hz hk hS hq9 hv9 hc9 => vx_out (fun x hx => (hnt x hx).elim) hlocks hq9 hv9 hc9 (fun t ht _ => ⟨by rw [ht]; exact ⟨hX.1.trans (congrArg xExn e9).symm, (by rw [e9]; decide), z, hR.grow hX.2⟩, hS.F ht⟩) hS.2.2 (Nat.le_of_ble_eq_true rfl) (Nat.le_of_ble_eq_true rfl))

set_option maxHeartbeats 4000000 in
theorem xX1_owesByEntries {l : Launch} {G : xG} {s0 : State} {b0 : Nat} (g1 : xG1 l G s0 b0) {A : Nat → Prop} {S : xS} {ad : Nat × Nat → Nat} {z : xZ} (member : Int32) (hW : xW S) : vx_Met l yX1_owesByEntries (ws_ yX1_owesByEntries cX1_owesByEntries 2 (some .int)) ({ frames := 7, cells := 1, slots := 6, locals := 101 } : Room) (xP s0 A [.ref (ad (0, 0)), .int member] (fun H => xRX G A S ad z H)) (xQc (some (.int ((xOwesE S member).2.1))) (fun _ H => (xOwesE S member).1 = 0 ∧ ∃ ad9 z9, xRX G A (xOwesE S member).2.2 ad9 z9 H ∧ ad9 (0, 0) = ad (0, 0)) A) (xXc (fun E _ H => E = xExn (xOwesE S member).1 ∧ ¬ (xOwesE S member).1 = 0 ∧ ∃ z9, xRX G A S ad z9 H) A) 1 6 A := by
  refine vx_ofW (cc := cX1_owesByEntries) (maxL := 2) (ret := (some .int)) (by decide) rfl ?_
  intro p e s m args below meth c s₁ B hml hnt hv
  obtain ⟨rfl, hWK, hR⟩ := hv
  have g := g1.1
  have hx := B.exec
  have hb := B.bytes
  have hr := B.returns
  have hts := atoms_spec (ws := ws_ yX1_owesByEntries cX1_owesByEntries 2 (some .int)) B.pre
  have hts : ∀ w ∈ lw_all, w.before _ s = true := fun w h => hts w (List.mem_cons_of_mem _ h)
  have hown : s.vm.findClass "Lendlathe" = some m.cls := findClass_of_methodNamed B.named
  have hlocks := B.notSynchronized
  have hK := hWK.K g
  have F : CallFix p m c cX1_owesByEntries 2 s _ lw_all "Lendlathe" := ⟨hx, hb, hml, hown, hts⟩
  have hS : va_S A s.heap s.heap [] := va_S.rf
  have hl := lv_entry ([.ref (ad (0, 0)), .int member]) (n := 2) (Nat.le_of_ble_eq_true rfl)
  rw [lg_entry_eq]
  generalize (lg_sl ([.ref (ad (0, 0)), .int member]) ++ List.replicate (2 - (lg_sl ([.ref (ad (0, 0)), .int member])).length) Slot.unset).toArray = ls at hl ⊢
  have hl : lv_has ls 2 [(0, .ref (ad (0, 0))), (1, .int member)] := hl
  have hn0 := hW.1.1
  have hn1 := hW.1.2.1
  have hn2 := hW.1.2.2.1
  have hn3 := hW.1.2.2.2.1
  have hn4 := hW.1.2.2.2.2
  refine lv_aload_n hx hb dX1_owesByEntries_0 rfl (lv_at hl 0 rfl) ?_
  refine lv_iload_n hx hb dX1_owesByEntries_1 rfl (lv_at hl 1 rfl) ?_
  refine xc_P (va_runV (As := [.int member]) (rest := []) F (xX1_isMember g1 (A := A) (S := S) (ad := ad) (z := z) member) (cwV 1 hts (lw_V q933 q935 qs20 q56 q936) rfl rfl rfl hdV_X1_isMember ⟨Nat.le_of_ble_eq_true rfl, Nat.le_of_ble_eq_true rfl⟩) (xpreV (xrecv hK (xw_0 hR) rfl) hWK hS hR) rfl rfl hl.1 rfl (lv_room (Nat.le_of_ble_eq_true rfl)) dX1_owesByEntries_2 ⟨Nat.le_of_ble_eq_true rfl, Nat.le_of_ble_eq_true rfl⟩) ?_
  rcases xbtf (inI member 0 (nI (S.1 1 0) - 1)) with c_5 | c_5
  · refine xc_P0 (va_runS (As := [.int (bI (inI member 0 (nI (S.1 1 0) - 1)))]) (rest := []) F (xX1_there_ok g1 (A := A) (inI member 0 (nI (S.1 1 0) - 1)) c_5) (va_cwS 1 hts (lw_S q937 q938 q56 q939) rfl rfl rfl hdS_X1_there ⟨Nat.le_of_ble_eq_true rfl, Nat.le_of_ble_eq_true rfl⟩) (xpre hWK hS trivial) rfl rfl hl.1 rfl (lv_room (Nat.le_of_ble_eq_true rfl)) dX1_owesByEntries_5 ⟨Nat.le_of_ble_eq_true rfl, Nat.le_of_ble_eq_true rfl⟩) ?_
    obtain ⟨mj, hmj, rfl⟩ := inI_of' (n := S.1 1 0) (by first | rfl | decide) (by first | decide | omega) c_5
    refine lv_aload_n hx hb dX1_owesByEntries_8 rfl (lv_at hl 0 rfl) ?_
    refine lv_iload_n hx hb dX1_owesByEntries_9 rfl (lv_at hl 1 rfl) ?_
    refine xc_P (va_runV (As := [.int (nI mj)]) (rest := []) F (xX1_owesBy g1 (A := A) (S := S) (ad := ad) (z := z) (xi_nI (n := (S.1 1 0)) (by omega) (by omega)) hW) (cwV 1 hts (lw_V q726 q728 qs10 q56 q729) rfl rfl rfl hdV_X1_owesBy ⟨Nat.le_of_ble_eq_true rfl, Nat.le_of_ble_eq_true rfl⟩) (xpreV (xrecv hK (xw_0 hR) rfl) hWK hS hR) rfl rfl hl.1 rfl (lv_room (Nat.le_of_ble_eq_true rfl)) dX1_owesByEntries_10 ⟨Nat.le_of_ble_eq_true rfl, Nat.le_of_ble_eq_true rfl⟩) ?_
    have e9 : xOwesE S (nI mj) = (0, xOwesBy S mj (nI mj), S) := by simp [xOwesE, c_5, nI_clamp (show mj < 2 ^ 31 by omega)]
    exact vx_ret (xr_Ci hx hb hr hlocks ((congrArg (fun q => q.2.1) e9).symm) (⟨congrArg Prod.fst e9, ad, z, by rw [show (xOwesE S (nI mj)).2.2 = S from congrArg (fun q => q.2.2) e9]; exact hR, rfl⟩) hS (by first | omega | decide) (by first | omega | decide) dX1_owesByEntries_13)
  · have e9 : (xOwesE S member).1 = 4 := by simp [xOwesE, c_5]
    exact xc_T (vx_runS (As := [.int (bI (inI member 0 (nI (S.1 1 0) - 1)))]) (rest := []) F (xX1_there_no g1 (A := A) (inI member 0 (nI (S.1 1 0) - 1)) c_5) (va_cwS 1 hts (lw_S q937 q938 q56 q939) rfl rfl rfl hdS_X1_there ⟨Nat.le_of_ble_eq_true rfl, Nat.le_of_ble_eq_true rfl⟩) (xpre hWK hS trivial) rfl rfl hl.1 rfl (lv_room (Nat.le_of_ble_eq_true rfl)) dX1_owesByEntries_5 ⟨Nat.le_of_ble_eq_true rfl, Nat.le_of_ble_eq_true rfl⟩) hS (fun E ce q9 H locs hX hz hk hS hq9 hv9 hc9 => vx_out (fun x hx => (hnt x hx).elim) hlocks hq9 hv9 hc9 (fun t ht _ => ⟨by rw [ht]; exact ⟨hX.1.trans (congrArg xExn e9).symm, (by rw [e9]; decide), z, hR.grow hX.2⟩, hS.F ht⟩) hS.2.2 (Nat.le_of_ble_eq_true rfl) (Nat.le_of_ble_eq_true rfl))

set_option maxHeartbeats 4000000 in
theorem xX1_dueOf {l : Launch} {G : xG} {s0 : State} {b0 : Nat} (g1 : xG1 l G s0 b0) {A : Nat → Prop} {S : xS} {ad : Nat × Nat → Nat} {z : xZ} (entry : Int32) (hW : xW S) : vx_Met l yX1_dueOf (ws_ yX1_dueOf cX1_dueOf 2 (some .int)) ({ frames := 8, cells := 1, slots := 6, locals := 122 } : Room) (xP s0 A [.ref (ad (0, 0)), .int entry] (fun H => xRX G A S ad z H)) (xQc (some (.int ((xDueOf S entry).2.1))) (fun _ H => (xDueOf S entry).1 = 0 ∧ ∃ ad9 z9, xRX G A (xDueOf S entry).2.2 ad9 z9 H ∧ ad9 (0, 0) = ad (0, 0)) A) (xXc (fun E _ H => E = xExn (xDueOf S entry).1 ∧ ¬ (xDueOf S entry).1 = 0 ∧ ∃ z9, xRX G A S ad z9 H) A) 1 6 A := by
  refine vx_ofW (cc := cX1_dueOf) (maxL := 2) (ret := (some .int)) (by decide) rfl ?_
  intro p e s m args below meth c s₁ B hml hnt hv
  obtain ⟨rfl, hWK, hR⟩ := hv
  have g := g1.1
  have hx := B.exec
  have hb := B.bytes
  have hr := B.returns
  have hts := atoms_spec (ws := ws_ yX1_dueOf cX1_dueOf 2 (some .int)) B.pre
  have hts : ∀ w ∈ lw_all, w.before _ s = true := fun w h => hts w (List.mem_cons_of_mem _ h)
  have hown : s.vm.findClass "Lendlathe" = some m.cls := findClass_of_methodNamed B.named
  have hlocks := B.notSynchronized
  have hK := hWK.K g
  have F : CallFix p m c cX1_dueOf 2 s _ lw_all "Lendlathe" := ⟨hx, hb, hml, hown, hts⟩
  have hS : va_S A s.heap s.heap [] := va_S.rf
  have hl := lv_entry ([.ref (ad (0, 0)), .int entry]) (n := 2) (Nat.le_of_ble_eq_true rfl)
  rw [lg_entry_eq]
  generalize (lg_sl ([.ref (ad (0, 0)), .int entry]) ++ List.replicate (2 - (lg_sl ([.ref (ad (0, 0)), .int entry])).length) Slot.unset).toArray = ls at hl ⊢
  have hl : lv_has ls 2 [(0, .ref (ad (0, 0))), (1, .int entry)] := hl
  have hn0 := hW.1.1
  have hn1 := hW.1.2.1
  have hn2 := hW.1.2.2.1
  have hn3 := hW.1.2.2.2.1
  have hn4 := hW.1.2.2.2.2
  refine lv_aload_n hx hb dX1_dueOf_0 rfl (lv_at hl 0 rfl) ?_
  refine lv_iload_n hx hb dX1_dueOf_1 rfl (lv_at hl 1 rfl) ?_
  rcases xbtf (inI entry 0 (nI (S.1 2 0) - 1)) with c_2 | c_2
  · obtain ⟨ej, hej, rfl⟩ := inI_of' (n := S.1 2 0) (by first | rfl | decide) (by first | decide | omega) c_2
    refine xc_P (va_runV (As := [.int (nI ej)]) (rest := []) F (xX1_entryAt_ok g1 (A := A) (S := S) (ad := ad) (z := z) (xi_nI (n := (S.1 2 0)) (by omega) (by omega)) hW) (cwV 1 hts (lw_V q1121 q1123 qs25 q56 q1124) rfl rfl rfl hdV_X1_entryAt ⟨Nat.le_of_ble_eq_true rfl, Nat.le_of_ble_eq_true rfl⟩) (xpreV (xrecv hK (xw_0 hR) rfl) hWK hS hR) rfl rfl hl.1 rfl (lv_room (Nat.le_of_ble_eq_true rfl)) dX1_dueOf_2 ⟨Nat.le_of_ble_eq_true rfl, Nat.le_of_ble_eq_true rfl⟩) ?_
    refine g_X1_372 F hWK g hK (xw_23 hR (xi_nI (n := (S.1 2 0)) (by omega) (by omega)).lt) (v := .int (S.2.1 17 ej 0)) rfl dX1_dueOf_5 ?_
    have e9 : xDueOf S (nI ej) = (0, S.2.1 17 ej 0, S) := by simp [xDueOf, c_2, nI_clamp (show ej < 2 ^ 31 by omega)]
    exact vx_ret (xr_Ci hx hb hr hlocks ((congrArg (fun q => q.2.1) e9).symm) (⟨congrArg Prod.fst e9, ad, z, by rw [show (xDueOf S (nI ej)).2.2 = S from congrArg (fun q => q.2.2) e9]; exact hR, rfl⟩) hS (by first | omega | decide) (by first | omega | decide) dX1_dueOf_8)
  · have e9 : (xDueOf S entry).1 = 3 := by simp [xDueOf, c_2]
    exact xc_T (vx_runV (As := [.int entry]) (rest := []) F (xX1_entryAt_no g1 (A := A) (S := S) (ad := ad) (z := z) entry hW c_2) (cwV 1 hts (lw_V q1121 q1123 qs25 q56 q1124) rfl rfl rfl hdV_X1_entryAt ⟨Nat.le_of_ble_eq_true rfl, Nat.le_of_ble_eq_true rfl⟩) (xpreV (xrecv hK (xw_0 hR) rfl) hWK hS hR) rfl rfl hl.1 rfl (lv_room (Nat.le_of_ble_eq_true rfl)) dX1_dueOf_2 ⟨Nat.le_of_ble_eq_true rfl, Nat.le_of_ble_eq_true rfl⟩) hS (fun E ce q9 H locs hX hz hk hS hq9 hv9 hc9 => vx_out (fun x hx => (hnt x hx).elim) hlocks hq9 hv9 hc9 (fun t ht _ => ⟨by rw [ht]; exact ⟨hX.1.trans (congrArg xExn e9).symm, (by rw [e9]; decide), z, hR.grow hX.2⟩, hS.F ht⟩) hS.2.2 (Nat.le_of_ble_eq_true rfl) (Nat.le_of_ble_eq_true rfl))

set_option maxHeartbeats 4000000 in
theorem xX1_stateOf {l : Launch} {G : xG} {s0 : State} {b0 : Nat} (g1 : xG1 l G s0 b0) {A : Nat → Prop} {S : xS} {ad : Nat × Nat → Nat} {z : xZ} (entry : Int32) (hW : xW S) : vx_Met l yX1_stateOf (ws_ yX1_stateOf cX1_stateOf 2 (some .char)) ({ frames := 8, cells := 1, slots := 6, locals := 122 } : Room) (xP s0 A [.ref (ad (0, 0)), .int entry] (fun H => xRX G A S ad z H)) (xQc (some (.int ((xStateOf S entry).2.1))) (fun _ H => (xStateOf S entry).1 = 0 ∧ ∃ ad9 z9, xRX G A (xStateOf S entry).2.2 ad9 z9 H ∧ ad9 (0, 0) = ad (0, 0)) A) (xXc (fun E _ H => E = xExn (xStateOf S entry).1 ∧ ¬ (xStateOf S entry).1 = 0 ∧ ∃ z9, xRX G A S ad z9 H) A) 1 6 A := by
  refine vx_ofW (cc := cX1_stateOf) (maxL := 2) (ret := (some .char)) (by decide) rfl ?_
  intro p e s m args below meth c s₁ B hml hnt hv
  obtain ⟨rfl, hWK, hR⟩ := hv
  have g := g1.1
  have hx := B.exec
  have hb := B.bytes
  have hr := B.returns
  have hts := atoms_spec (ws := ws_ yX1_stateOf cX1_stateOf 2 (some .char)) B.pre
  have hts : ∀ w ∈ lw_all, w.before _ s = true := fun w h => hts w (List.mem_cons_of_mem _ h)
  have hown : s.vm.findClass "Lendlathe" = some m.cls := findClass_of_methodNamed B.named
  have hlocks := B.notSynchronized
  have hK := hWK.K g
  have F : CallFix p m c cX1_stateOf 2 s _ lw_all "Lendlathe" := ⟨hx, hb, hml, hown, hts⟩
  have hS : va_S A s.heap s.heap [] := va_S.rf
  have hl := lv_entry ([.ref (ad (0, 0)), .int entry]) (n := 2) (Nat.le_of_ble_eq_true rfl)
  rw [lg_entry_eq]
  generalize (lg_sl ([.ref (ad (0, 0)), .int entry]) ++ List.replicate (2 - (lg_sl ([.ref (ad (0, 0)), .int entry])).length) Slot.unset).toArray = ls at hl ⊢
  have hl : lv_has ls 2 [(0, .ref (ad (0, 0))), (1, .int entry)] := hl
  have hn0 := hW.1.1
  have hn1 := hW.1.2.1
  have hn2 := hW.1.2.2.1
  have hn3 := hW.1.2.2.2.1
  have hn4 := hW.1.2.2.2.2
  refine lv_aload_n hx hb dX1_stateOf_0 rfl (lv_at hl 0 rfl) ?_
  refine lv_iload_n hx hb dX1_stateOf_1 rfl (lv_at hl 1 rfl) ?_
  rcases xbtf (inI entry 0 (nI (S.1 2 0) - 1)) with c_2 | c_2
  · obtain ⟨ej, hej, rfl⟩ := inI_of' (n := S.1 2 0) (by first | rfl | decide) (by first | decide | omega) c_2
    refine xc_P (va_runV (As := [.int (nI ej)]) (rest := []) F (xX1_entryAt_ok g1 (A := A) (S := S) (ad := ad) (z := z) (xi_nI (n := (S.1 2 0)) (by omega) (by omega)) hW) (cwV 1 hts (lw_V q1121 q1123 qs25 q56 q1124) rfl rfl rfl hdV_X1_entryAt ⟨Nat.le_of_ble_eq_true rfl, Nat.le_of_ble_eq_true rfl⟩) (xpreV (xrecv hK (xw_0 hR) rfl) hWK hS hR) rfl rfl hl.1 rfl (lv_room (Nat.le_of_ble_eq_true rfl)) dX1_stateOf_2 ⟨Nat.le_of_ble_eq_true rfl, Nat.le_of_ble_eq_true rfl⟩) ?_
    refine g_X1_150 F hWK g hK (xw_23 hR (xi_nI (n := (S.1 2 0)) (by omega) (by omega)).lt) (v := .int (S.2.1 16 ej 0)) rfl dX1_stateOf_5 ?_
    have e9 : xStateOf S (nI ej) = (0, S.2.1 16 ej 0, S) := by simp [xStateOf, c_2, nI_clamp (show ej < 2 ^ 31 by omega)]
    exact vx_ret (xr_Cc hx hb hr hlocks ((congrArg (fun q => q.2.1) e9).symm) (⟨congrArg Prod.fst e9, ad, z, by rw [show (xStateOf S (nI ej)).2.2 = S from congrArg (fun q => q.2.2) e9]; exact hR, rfl⟩) hS (by first | omega | decide) (by first | omega | decide) (xStateOf_nar hW) dX1_stateOf_8)
  · have e9 : (xStateOf S entry).1 = 3 := by simp [xStateOf, c_2]
    exact xc_T (vx_runV (As := [.int entry]) (rest := []) F (xX1_entryAt_no g1 (A := A) (S := S) (ad := ad) (z := z) entry hW c_2) (cwV 1 hts (lw_V q1121 q1123 qs25 q56 q1124) rfl rfl rfl hdV_X1_entryAt ⟨Nat.le_of_ble_eq_true rfl, Nat.le_of_ble_eq_true rfl⟩) (xpreV (xrecv hK (xw_0 hR) rfl) hWK hS hR) rfl rfl hl.1 rfl (lv_room (Nat.le_of_ble_eq_true rfl)) dX1_stateOf_2 ⟨Nat.le_of_ble_eq_true rfl, Nat.le_of_ble_eq_true rfl⟩) hS (fun E ce q9 H locs hX hz hk hS hq9 hv9 hc9 => vx_out (fun x hx => (hnt x hx).elim) hlocks hq9 hv9 hc9 (fun t ht _ => ⟨by rw [ht]; exact ⟨hX.1.trans (congrArg xExn e9).symm, (by rw [e9]; decide), z, hR.grow hX.2⟩, hS.F ht⟩) hS.2.2 (Nat.le_of_ble_eq_true rfl) (Nat.le_of_ble_eq_true rfl))

set_option maxHeartbeats 4000000 in
theorem xX1_cut {l : Launch} {G : xG} {s0 : State} {b0 : Nat} (g1 : xG1 l G s0 b0) {A : Nat → Prop} {S : xS} {ad : Nat × Nat → Nat} {z : xZ} (entry material length : Int32) (hW : xW S) : vx_Met l yX1_cut (ws_ yX1_cut cX1_cut 8 (some .int)) ({ frames := 8, cells := 1, slots := 6, locals := 122 } : Room) (xP s0 A [.ref (ad (0, 0)), .int entry, .int material, .int length] (fun H => xRX G A S ad z H)) (xQc (some (.int ((xCut S entry material length).2.1))) (fun _ H => (xCut S entry material length).1 = 0 ∧ ∃ ad9 z9, xRX G A (xCut S entry material length).2.2 ad9 z9 H ∧ ad9 (0, 0) = ad (0, 0)) A) (xXc (fun E _ H => E = xExn (xCut S entry material length).1 ∧ ¬ (xCut S entry material length).1 = 0 ∧ ∃ z9, xRX G A S ad z9 H) A) 1 6 A := by
  refine vx_ofW (cc := cX1_cut) (maxL := 8) (ret := (some .int)) (by decide) rfl ?_
  intro p e s m args below meth c s₁ B hml hnt hv
  obtain ⟨rfl, hWK, hR⟩ := hv
  have g := g1.1
  have hx := B.exec
  have hb := B.bytes
  have hr := B.returns
  have hts := atoms_spec (ws := ws_ yX1_cut cX1_cut 8 (some .int)) B.pre
  have hts : ∀ w ∈ lw_all, w.before _ s = true := fun w h => hts w (List.mem_cons_of_mem _ h)
  have hown : s.vm.findClass "Lendlathe" = some m.cls := findClass_of_methodNamed B.named
  have hlocks := B.notSynchronized
  have hK := hWK.K g
  have F : CallFix p m c cX1_cut 8 s _ lw_all "Lendlathe" := ⟨hx, hb, hml, hown, hts⟩
  have hS : va_S A s.heap s.heap [] := va_S.rf
  have hl := lv_entry ([.ref (ad (0, 0)), .int entry, .int material, .int length]) (n := 8) (Nat.le_of_ble_eq_true rfl)
  rw [lg_entry_eq]
  generalize (lg_sl ([.ref (ad (0, 0)), .int entry, .int material, .int length]) ++ List.replicate (8 - (lg_sl ([.ref (ad (0, 0)), .int entry, .int material, .int length])).length) Slot.unset).toArray = ls at hl ⊢
  have hl : lv_has ls 8 [(0, .ref (ad (0, 0))), (1, .int entry), (2, .int material), (3, .int length)] := hl
  have hn0 := hW.1.1
  have hn1 := hW.1.2.1
  have hn2 := hW.1.2.2.1
  have hn3 := hW.1.2.2.2.1
  have hn4 := hW.1.2.2.2.2
  refine lv_aload_n hx hb dX1_cut_0 rfl (lv_at hl 0 rfl) ?_
  refine lv_iload_n hx hb dX1_cut_1 rfl (lv_at hl 1 rfl) ?_
  rcases xbtf (inI entry 0 (nI (S.1 2 0) - 1)) with c_2 | c_2
  · obtain ⟨ej, hej, rfl⟩ := inI_of' (n := S.1 2 0) (by first | rfl | decide) (by first | decide | omega) c_2
    have h6e := hW.cut ej
    refine xc_P (va_runV (As := [.int (nI ej)]) (rest := []) F (xX1_entryAt_ok g1 (A := A) (S := S) (ad := ad) (z := z) (xi_nI (n := (S.1 2 0)) (by omega) (by omega)) hW) (cwV 1 hts (lw_V q1121 q1123 qs25 q56 q1124) rfl rfl rfl hdV_X1_entryAt ⟨Nat.le_of_ble_eq_true rfl, Nat.le_of_ble_eq_true rfl⟩) (xpreV (xrecv hK (xw_0 hR) rfl) hWK hS hR) rfl rfl hl.1 rfl (lv_room (Nat.le_of_ble_eq_true rfl)) dX1_cut_2 ⟨Nat.le_of_ble_eq_true rfl, Nat.le_of_ble_eq_true rfl⟩) ?_
    refine lv_astore (lv' := [(4, .ref (ad (23, ej))), (0, .ref (ad (0, 0))), (1, .int (nI ej)), (2, .int material), (3, .int length)]) hx hb dX1_cut_5 hl (by decide) rfl (fun ls hl => ?_)
    refine lv_iload_n hx hb dX1_cut_7 rfl (lv_at hl 3 rfl) ?_
    refine xc_P (va_runS (As := [.int material]) (rest := []) F (xX1_isMaterial g1 (A := A) material) (va_cwS 1 hts (lw_S q1233 q1234 q56 q1235) rfl rfl rfl hdS_X1_isMaterial ⟨Nat.le_of_ble_eq_true rfl, Nat.le_of_ble_eq_true rfl⟩) (xpre hWK hS trivial) rfl rfl hl.1 rfl (lv_room (Nat.le_of_ble_eq_true rfl)) dX1_cut_8 ⟨Nat.le_of_ble_eq_true rfl, Nat.le_of_ble_eq_true rfl⟩) ?_
    refine x_ifeq (tgt := 29) hx hb dX1_cut_11 (by decide) (fun c_11 => ?_) (fun c_11 => ?_)
    · refine lv_iconst (v := 0) hx hb dX1_cut_29 (by decide) ?_
      have e9 : (xCut S (nI ej) material length).1 = 1 := by simp [xCut, c_2, c_11, nI_clamp (show ej < 2 ^ 31 by omega)]
      exact xc_T (vx_runS (As := [.int 0]) (rest := []) F (xX1_want_no g1 (A := A) false rfl) (va_cwS 1 hts (lw_S q761 q762 q56 q763) rfl rfl rfl hdS_X1_want ⟨Nat.le_of_ble_eq_true rfl, Nat.le_of_ble_eq_true rfl⟩) (xpre hWK hS trivial) rfl rfl hl.1 rfl (lv_room (Nat.le_of_ble_eq_true rfl)) dX1_cut_30 ⟨Nat.le_of_ble_eq_true rfl, Nat.le_of_ble_eq_true rfl⟩) hS (fun E ce q9 H locs hX hz hk hS hq9 hv9 hc9 => vx_out (fun x hx => (hnt x hx).elim) hlocks hq9 hv9 hc9 (fun t ht _ => ⟨by rw [ht]; exact ⟨hX.1.trans (congrArg xExn e9).symm, (by rw [e9]; decide), z, hR.grow hX.2⟩, hS.F ht⟩) hS.2.2 (Nat.le_of_ble_eq_true rfl) (Nat.le_of_ble_eq_true rfl))
    · refine lv_iload_n hx hb dX1_cut_14 rfl (lv_at hl 4 rfl) ?_
      refine lv_iconst (v := 1) hx hb dX1_cut_15 (by decide) ?_
      refine lv_sipush (v := 5000) hx hb dX1_cut_16 (by decide) ?_
      refine xc_P (va_runS (As := [.int length, .int 1, .int 5000]) (rest := []) F (xX1_in g1 (A := A) length 1 5000) (va_cwS 3 hts (lw_S q758 q759 q56 q760) rfl rfl rfl hdS_X1_in ⟨Nat.le_of_ble_eq_true rfl, Nat.le_of_ble_eq_true rfl⟩) (xpre hWK hS trivial) rfl rfl hl.1 rfl (lv_room (Nat.le_of_ble_eq_true rfl)) dX1_cut_19 ⟨Nat.le_of_ble_eq_true rfl, Nat.le_of_ble_eq_true rfl⟩) ?_
      refine x_ifeq (tgt := 29) hx hb dX1_cut_22 (by decide) (fun c_22 => ?_) (fun c_22 => ?_)
      · refine lv_iconst (v := 0) hx hb dX1_cut_29 (by decide) ?_
        have e9 : (xCut S (nI ej) material length).1 = 1 := by simp [xCut, c_2, c_11, c_22, nI_clamp (show ej < 2 ^ 31 by omega)]
        exact xc_T (vx_runS (As := [.int 0]) (rest := []) F (xX1_want_no g1 (A := A) false rfl) (va_cwS 1 hts (lw_S q761 q762 q56 q763) rfl rfl rfl hdS_X1_want ⟨Nat.le_of_ble_eq_true rfl, Nat.le_of_ble_eq_true rfl⟩) (xpre hWK hS trivial) rfl rfl hl.1 rfl (lv_room (Nat.le_of_ble_eq_true rfl)) dX1_cut_30 ⟨Nat.le_of_ble_eq_true rfl, Nat.le_of_ble_eq_true rfl⟩) hS (fun E ce q9 H locs hX hz hk hS hq9 hv9 hc9 => vx_out (fun x hx => (hnt x hx).elim) hlocks hq9 hv9 hc9 (fun t ht _ => ⟨by rw [ht]; exact ⟨hX.1.trans (congrArg xExn e9).symm, (by rw [e9]; decide), z, hR.grow hX.2⟩, hS.F ht⟩) hS.2.2 (Nat.le_of_ble_eq_true rfl) (Nat.le_of_ble_eq_true rfl))
      · refine lv_iconst (v := 1) hx hb dX1_cut_25 (by decide) ?_
        refine lv_goto (tgt := 30) hx hb dX1_cut_26 (by decide) ?_
        refine xc_P0 (va_runS (As := [.int 1]) (rest := []) F (xX1_want_ok g1 (A := A) true rfl) (va_cwS 1 hts (lw_S q761 q762 q56 q763) rfl rfl rfl hdS_X1_want ⟨Nat.le_of_ble_eq_true rfl, Nat.le_of_ble_eq_true rfl⟩) (xpre hWK hS trivial) rfl rfl hl.1 rfl (lv_room (Nat.le_of_ble_eq_true rfl)) dX1_cut_30 ⟨Nat.le_of_ble_eq_true rfl, Nat.le_of_ble_eq_true rfl⟩) ?_
        refine lv_aload hx hb dX1_cut_33 (lv_at hl 0 rfl) ?_
        refine g_X1_150 F hWK g hK (xw_23 hR (xi_nI (n := (S.1 2 0)) (by omega) (by omega)).lt) (v := .int (S.2.1 16 ej 0)) rfl dX1_cut_35 ?_
        refine lv_bipush (v := 98) hx hb dX1_cut_38 (by decide) ?_
        refine lv_icmp_ne (tgt := 56) hx hb dX1_cut_40 (by decide) (fun c_40 => ?_) (fun c_40 => ?_)
        · refine lv_iconst (v := 0) hx hb dX1_cut_56 (by decide) ?_
          have e9 : (xCut S (nI ej) material length).1 = 2 := by simp [xCut, c_2, c_11, c_22, c_40, nI_clamp (show ej < 2 ^ 31 by omega)]
          exact xc_T (vx_runS (As := [.int 0]) (rest := []) F (xX1_ready_no g1 (A := A) false rfl) (va_cwS 1 hts (lw_S q769 q770 q56 q771) rfl rfl rfl hdS_X1_ready ⟨Nat.le_of_ble_eq_true rfl, Nat.le_of_ble_eq_true rfl⟩) (xpre hWK hS trivial) rfl rfl hl.1 rfl (lv_room (Nat.le_of_ble_eq_true rfl)) dX1_cut_57 ⟨Nat.le_of_ble_eq_true rfl, Nat.le_of_ble_eq_true rfl⟩) hS (fun E ce q9 H locs hX hz hk hS hq9 hv9 hc9 => vx_out (fun x hx => (hnt x hx).elim) hlocks hq9 hv9 hc9 (fun t ht _ => ⟨by rw [ht]; exact ⟨hX.1.trans (congrArg xExn e9).symm, (by rw [e9]; decide), z, hR.grow hX.2⟩, hS.F ht⟩) hS.2.2 (Nat.le_of_ble_eq_true rfl) (Nat.le_of_ble_eq_true rfl))
        · refine lv_aload hx hb dX1_cut_43 (lv_at hl 0 rfl) ?_
          refine g_X1_320 F hWK g hK (xw_23 hR (xi_nI (n := (S.1 2 0)) (by omega) (by omega)).lt) (v := .int (nI (S.1 6 ej))) rfl dX1_cut_45 ?_
          refine lv_iconst (v := 5) hx hb dX1_cut_48 (by decide) ?_
          refine xn_ge (tgt := 56) (S.1 6 ej) 5 rfl (by decide) (by omega) (by omega) hx hb dX1_cut_49 (by decide) (fun c_49 => ?_) (fun c_49 => ?_)
          · have n_49 := Nat.not_lt.mpr c_49
            refine lv_iconst (v := 0) hx hb dX1_cut_56 (by decide) ?_
            have e9 : (xCut S (nI ej) material length).1 = 2 := by simp [xCut, c_2, c_11, c_22, c_40, c_49, n_49, nI_clamp (show ej < 2 ^ 31 by omega)]
            exact xc_T (vx_runS (As := [.int 0]) (rest := []) F (xX1_ready_no g1 (A := A) false rfl) (va_cwS 1 hts (lw_S q769 q770 q56 q771) rfl rfl rfl hdS_X1_ready ⟨Nat.le_of_ble_eq_true rfl, Nat.le_of_ble_eq_true rfl⟩) (xpre hWK hS trivial) rfl rfl hl.1 rfl (lv_room (Nat.le_of_ble_eq_true rfl)) dX1_cut_57 ⟨Nat.le_of_ble_eq_true rfl, Nat.le_of_ble_eq_true rfl⟩) hS (fun E ce q9 H locs hX hz hk hS hq9 hv9 hc9 => vx_out (fun x hx => (hnt x hx).elim) hlocks hq9 hv9 hc9 (fun t ht _ => ⟨by rw [ht]; exact ⟨hX.1.trans (congrArg xExn e9).symm, (by rw [e9]; decide), z, hR.grow hX.2⟩, hS.F ht⟩) hS.2.2 (Nat.le_of_ble_eq_true rfl) (Nat.le_of_ble_eq_true rfl))
          · have n_49 := Nat.not_le.mpr c_49
            refine lv_iconst (v := 1) hx hb dX1_cut_52 (by decide) ?_
            refine lv_goto (tgt := 57) hx hb dX1_cut_53 (by decide) ?_
            refine xc_P0 (va_runS (As := [.int 1]) (rest := []) F (xX1_ready_ok g1 (A := A) true rfl) (va_cwS 1 hts (lw_S q769 q770 q56 q771) rfl rfl rfl hdS_X1_ready ⟨Nat.le_of_ble_eq_true rfl, Nat.le_of_ble_eq_true rfl⟩) (xpre hWK hS trivial) rfl rfl hl.1 rfl (lv_room (Nat.le_of_ble_eq_true rfl)) dX1_cut_57 ⟨Nat.le_of_ble_eq_true rfl, Nat.le_of_ble_eq_true rfl⟩) ?_
            refine lv_iconst (v := (-1)) hx hb dX1_cut_60 (by decide) ?_
            refine lv_istore (lv' := [(5, .int (-1)), (4, .ref (ad (23, ej))), (0, .ref (ad (0, 0))), (1, .int (nI ej)), (2, .int material), (3, .int length)]) hx hb dX1_cut_61 hl (by decide) rfl (fun ls hl => ?_)
            refine lv_iconst (v := 0) hx hb dX1_cut_63 (by decide) ?_
            refine lv_istore (lv' := [(6, .int 0), (5, .int (-1)), (4, .ref (ad (23, ej))), (0, .ref (ad (0, 0))), (1, .int (nI ej)), (2, .int material), (3, .int length)]) hx hb dX1_cut_64 hl (by decide) rfl (fun ls hl => ?_)
            have L66 : ∀ (n : Nat) (b : Nat) (best : Int32), S.1 3 0 - b < n → (b ≤ S.1 3 0) → (best = -1 ∨ vp_in best b) → (best = xBest S material length b) → ∀ (ls : Array Slot), lv_has ls 8 [(6, .int (nI b)), (5, .int best), (4, .ref (ad (23, ej))), (0, .ref (ad (0, 0))), (1, .int (nI ej)), (2, .int material), (3, .int length)] → W p l e (headSpec (ws_ yX1_cut cX1_cut 8 (some .int)) ({ frames := 8, cells := 1, slots := 6, locals := 122 } : Room)).room s m ([.ref (ad (0, 0)), .int (nI ej), .int material, .int length] : List Value).toArray below meth c s.heap [] 0 0 (vx_MQ below (xQc (some (.int ((xCut S (nI ej) material length).2.1))) (fun _ H => (xCut S (nI ej) material length).1 = 0 ∧ ∃ ad9 z9, xRX G A (xCut S (nI ej) material length).2.2 ad9 z9 H ∧ ad9 (0, 0) = ad (0, 0)) A) (xXc (fun E _ H => E = xExn (xCut S (nI ej) material length).1 ∧ ¬ (xCut S (nI ej) material length).1 = 0 ∧ ∃ z9, xRX G A S ad z9 H) A) ([.ref (ad (0, 0)), .int (nI ej), .int material, .int length] : List Value).toArray s 1 6 A) (F0 m 66 ls []) := by
              intro n66
              induction n66 with
              | zero =>
                intro b best hn66
                exact absurd hn66 (Nat.not_lt_zero _)
              | succ n66 ih66 =>
                intro b best hn66 hb3 ob eb ls hl
                refine lv_iload hx hb dX1_cut_66 (lv_at hl 0 rfl) ?_
                refine lv_aload_n hx hb dX1_cut_68 rfl (lv_at hl 3 rfl) ?_
                refine g_X1_39 F hK (xw_0 hR) (v := .ref (ad (6, 0))) rfl dX1_cut_69 ?_
                refine xc_P (va_runV (As := []) (rest := [.int (nI b)]) F (xJ2_size_26 g1 (A := A) (S := S) (ad := ad) (z := z) ) (cwV 0 hts (lw_V q510 q511 q512 q60 q513) rfl rfl rfl hdV_J2_size ⟨Nat.le_of_ble_eq_true rfl, Nat.le_of_ble_eq_true rfl⟩) (xpreV (xrecv hK (xw_6 hR) rfl) hWK hS hR) rfl rfl hl.1 rfl (lv_room (Nat.le_of_ble_eq_true rfl)) dX1_cut_72 ⟨Nat.le_of_ble_eq_true rfl, Nat.le_of_ble_eq_true rfl⟩) ?_
                refine xn_ge (tgt := 151) b (S.1 3 0) rfl rfl (by omega) (by omega) hx hb dX1_cut_75 (by decide) (fun c_75 => ?_) (fun c_75 => ?_)
                · have n_75 := Nat.not_lt.mpr c_75
                  refine lv_iload hx hb dX1_cut_151 (lv_at hl 1 rfl) ?_
                  refine lv_iconst (v := (-1)) hx hb dX1_cut_153 (by decide) ?_
                  refine lv_icmp_ne (tgt := 165) hx hb dX1_cut_154 (by decide) (fun c_154 => ?_) (fun c_154 => ?_)
                  · refine lv_aload_n hx hb dX1_cut_165 rfl (lv_at hl 3 rfl) ?_
                    refine g_X1_39 F hK (xw_0 hR) (v := .ref (ad (6, 0))) rfl dX1_cut_166 ?_
                    refine lv_iload hx hb dX1_cut_169 (lv_at hl 1 rfl) ?_
                    refine xc_P (va_runV (As := [.int best]) (rest := []) F (xJ2_get_26 g1 (A := A) (S := S) (ad := ad) (z := z) (xi.up (xi_of (ob.resolve_left c_154)) (by omega)) (by first | assumption | omega)) (cwV 1 hts (lw_V q486 q487 q488 q60 q489) rfl rfl rfl hdV_J2_get ⟨Nat.le_of_ble_eq_true rfl, Nat.le_of_ble_eq_true rfl⟩) (xpreV (xrecv hK (xw_6 hR) rfl) hWK hS hR) rfl rfl hl.1 rfl (lv_room (Nat.le_of_ble_eq_true rfl)) dX1_cut_171 ⟨Nat.le_of_ble_eq_true rfl, Nat.le_of_ble_eq_true rfl⟩) ?_
                    refine x_castO F hK rfl (xw_26 hR (xi.up (xi_of (ob.resolve_left c_154)) (by omega)).lt) (hts _ q721) dX1_cut_174 ?_
                    refine lv_dup hx hb dX1_cut_177 rfl ?_
                    refine g_X1_326 F hWK g hK (xw_26 hR (xi.up (xi_of (ob.resolve_left c_154)) (by omega)).lt) (v := .int (S.2.1 22 best.toNatClampNeg 0)) rfl dX1_cut_178 ?_
                    refine lv_iload_n hx hb dX1_cut_181 rfl (lv_at hl 6 rfl) ?_
                    refine lv_iconst (v := 3) hx hb dX1_cut_182 (by decide) ?_
                    refine lv_iadd hx hb dX1_cut_183 ?_
                    refine lv_isub hx hb dX1_cut_184 ?_
                    refine p_X1_326 F hWK g hK hS (xw_26 hR (xi.up (xi_of (ob.resolve_left c_154)) (by omega)).lt) (xa_26 hR (xi.up (xi_of (ob.resolve_left c_154)) (by omega)).lt) (v := .int ((S.2.1 22 best.toNatClampNeg 0) - (length + 3))) rfl rfl (Nat.le_of_ble_eq_true rfl) dX1_cut_185 (fun H locs hat hof hS => ?_)
                    have hR := xs_26_2 hR (xi.up (xi_of (ob.resolve_left c_154)) (by omega)).lt hof hat
                    refine lv_aload hx hb dX1_cut_188 (lv_at hl 2 rfl) ?_
                    refine g_X1_329 F hWK g hK (xw_23 hR (xi_nI (n := (S.1 2 0)) (by omega) (by omega)).lt) (v := .ref (ad (24, ej))) rfl dX1_cut_190 ?_
                    refine lv_aload hx hb dX1_cut_193 (lv_at hl 2 rfl) ?_
                    refine g_X1_320 F hWK g hK (xw_23 hR (xi_nI (n := (S.1 2 0)) (by omega) (by omega)).lt) (v := .int (nI (S.1 6 ej))) rfl dX1_cut_195 ?_
                    refine lv_iload hx hb dX1_cut_198 (lv_at hl 1 rfl) ?_
                    refine x_iast hx hb hK hS (xw_24 hR (xi_nI (n := (S.1 2 0)) (by omega) (by omega)).lt) (xa_24 hR (xi_nI (n := (S.1 2 0)) (by omega) (by omega)).lt) (xi_nI (n := 5) (by omega) (by omega)) dX1_cut_200 (fun H locs hat hof hS => ?_)
                    have hR := xs_24_a hR (xi_nI (n := (S.1 2 0)) (by omega) (by omega)).lt hof hat
                    refine lv_aload hx hb dX1_cut_201 (lv_at hl 2 rfl) ?_
                    refine g_X1_332 F hWK g hK (xw_23 hR (xi_nI (n := (S.1 2 0)) (by omega) (by omega)).lt) (v := .ref (ad (25, ej))) rfl dX1_cut_203 ?_
                    refine lv_aload hx hb dX1_cut_206 (lv_at hl 2 rfl) ?_
                    refine g_X1_320 F hWK g hK (xw_23 hR (xi_nI (n := (S.1 2 0)) (by omega) (by omega)).lt) (v := .int (nI (S.1 6 ej))) rfl dX1_cut_208 ?_
                    refine lv_iload_n hx hb dX1_cut_211 rfl (lv_at hl 6 rfl) ?_
                    refine x_iast hx hb hK hS (xw_25 hR (xi_nI (n := (S.1 2 0)) (by omega) (by omega)).lt) (xa_25 hR (xi_nI (n := (S.1 2 0)) (by omega) (by omega)).lt) (xi_nI (n := 5) (by omega) (by omega)) dX1_cut_212 (fun H locs hat hof hS => ?_)
                    have hR := xs_25_a hR (xi_nI (n := (S.1 2 0)) (by omega) (by omega)).lt hof hat
                    refine lv_aload hx hb dX1_cut_213 (lv_at hl 2 rfl) ?_
                    refine lv_dup hx hb dX1_cut_215 rfl ?_
                    refine g_X1_320 F hWK g hK (xw_23 hR (xi_nI (n := (S.1 2 0)) (by omega) (by omega)).lt) (v := .int (nI (S.1 6 ej))) rfl dX1_cut_216 ?_
                    refine lv_iconst (v := 1) hx hb dX1_cut_219 (by decide) ?_
                    refine lv_iadd hx hb dX1_cut_220 ?_
                    refine x_topi (nI_1 _) ?_
                    refine p_X1_320 F hWK g hK hS (xw_23 hR (xi_nI (n := (S.1 2 0)) (by omega) (by omega)).lt) (xa_23 hR (xi_nI (n := (S.1 2 0)) (by omega) (by omega)).lt) (v := .int (nI (S.1 6 ej + 1))) rfl rfl (Nat.le_of_ble_eq_true rfl) dX1_cut_221 (fun H locs hat hof hS => ?_)
                    have hR := xs_23_8 hR (xi_nI (n := (S.1 2 0)) (by omega) (by omega)).lt hof hat
                    refine lv_iload hx hb dX1_cut_224 (lv_at hl 1 rfl) ?_
                    have hk9 : b = S.1 3 0 := (by omega)
                    subst hk9
                    have e9 : xCut S (nI ej) material length = (0, best, (sN (sF (sF (sF S 22 best.toNatClampNeg 0 ((S.2.1 22 best.toNatClampNeg 0) - (length + 3))) 18 ej (S.1 6 ej) best) 19 ej (S.1 6 ej) length) 6 ej (S.1 6 ej + 1))) := by simp [xCut, c_2, c_11, c_22, c_40, c_49, c_75, c_154, n_49, n_75, ← eb, nI_clamp (show ej < 2 ^ 31 by omega)]
                    exact vx_ret (xr_Ci hx hb hr hlocks ((congrArg (fun q => q.2.1) e9).symm) (⟨congrArg Prod.fst e9, ad, z, by rw [show (xCut S (nI ej) material length).2.2 = (sN (sF (sF (sF S 22 best.toNatClampNeg 0 ((S.2.1 22 best.toNatClampNeg 0) - (length + 3))) 18 ej (S.1 6 ej) best) 19 ej (S.1 6 ej) length) 6 ej (S.1 6 ej + 1)) from congrArg (fun q => q.2.2) e9]; exact hR, rfl⟩) hS (by first | omega | decide) (by first | omega | decide) dX1_cut_226)
                  · have hk9 : b = S.1 3 0 := (by omega)
                    subst hk9
                    have e9 : (xCut S (nI ej) material length).1 = 5 := by simp [xCut, c_2, c_11, c_22, c_40, c_49, c_75, c_154, n_49, n_75, ← eb, nI_clamp (show ej < 2 ^ 31 by omega)]
                    exact x_throw5 g1 hWK F hS hl.1 dX1_cut_157 dX1_cut_160 dX1_cut_161 dX1_cut_164 hnt hlocks (Nat.le_of_ble_eq_true rfl) (Nat.le_of_ble_eq_true rfl) (Nat.le_of_ble_eq_true rfl) (Nat.le_of_ble_eq_true rfl) (fun t9 _ hz9 hg9 => ⟨⟨(⟨rfl, hz9, hg9⟩ : xExn 5 = xExn 5 ∧ xGrow s.heap t9.heap).1.trans (congrArg xExn e9).symm, (by rw [e9]; decide), z, hR.grow (⟨rfl, hz9, hg9⟩ : xExn 5 = xExn 5 ∧ xGrow s.heap t9.heap).2⟩, (xGrow.S (⟨hz9, hg9⟩ : xGrow s.heap t9.heap) hS).F rfl⟩) (Nat.le_of_ble_eq_true rfl) (Nat.le_of_ble_eq_true rfl)
                · have n_75 := Nat.not_le.mpr c_75
                  refine lv_aload_n hx hb dX1_cut_78 rfl (lv_at hl 3 rfl) ?_
                  refine g_X1_39 F hK (xw_0 hR) (v := .ref (ad (6, 0))) rfl dX1_cut_79 ?_
                  refine lv_iload hx hb dX1_cut_82 (lv_at hl 0 rfl) ?_
                  refine xc_P (va_runV (As := [.int (nI b)]) (rest := []) F (xJ2_get_26 g1 (A := A) (S := S) (ad := ad) (z := z) (xi_nI (n := (S.1 3 0)) (by omega) (by omega)) (by first | assumption | omega)) (cwV 1 hts (lw_V q486 q487 q488 q60 q489) rfl rfl rfl hdV_J2_get ⟨Nat.le_of_ble_eq_true rfl, Nat.le_of_ble_eq_true rfl⟩) (xpreV (xrecv hK (xw_6 hR) rfl) hWK hS hR) rfl rfl hl.1 rfl (lv_room (Nat.le_of_ble_eq_true rfl)) dX1_cut_84 ⟨Nat.le_of_ble_eq_true rfl, Nat.le_of_ble_eq_true rfl⟩) ?_
                  refine x_castO F hK rfl (xw_26 hR (xi_nI (n := (S.1 3 0)) (by omega) (by omega)).lt) (hts _ q721) dX1_cut_87 ?_
                  refine lv_astore (lv' := [(7, .ref (ad (26, b))), (6, .int (nI b)), (5, .int best), (4, .ref (ad (23, ej))), (0, .ref (ad (0, 0))), (1, .int (nI ej)), (2, .int material), (3, .int length)]) hx hb dX1_cut_90 hl (by decide) rfl (fun ls hl => ?_)
                  refine lv_aload hx hb dX1_cut_92 (lv_at hl 0 rfl) ?_
                  refine g_X1_323 F hWK g hK (xw_26 hR (xi_nI (n := (S.1 3 0)) (by omega) (by omega)).lt) (v := .int (S.2.1 20 b 0)) rfl dX1_cut_94 ?_
                  refine lv_iload_n hx hb dX1_cut_97 rfl (lv_at hl 6 rfl) ?_
                  refine lv_icmp_ne (tgt := 145) hx hb dX1_cut_98 (by decide) (fun c_98 => ?_) (fun c_98 => ?_)
                  · refine lv_iinc (v := nI (b + 1)) (lv' := [(6, .int (nI (b + 1))), (7, .ref (ad (26, b))), (5, .int best), (4, .ref (ad (23, ej))), (0, .ref (ad (0, 0))), (1, .int (nI ej)), (2, .int material), (3, .int length)]) hx hb dX1_cut_145 hl (k := 1) rfl (nI_1 _) (by decide) rfl (fun ls hl => ?_)
                    refine lv_goto (tgt := 66) hx hb dX1_cut_148 (by decide) ?_
                    exact ih66 (b + 1) best (by omega) (by omega) (ob.imp id (fun q => vp_up q (by omega))) (by simp [xBest, ← eb, c_11, c_22, c_40, c_49, c_98, n_49]) ls (lv_sub hl [0, 2, 3, 4, 5, 6, 7] rfl)
                  · refine lv_aload hx hb dX1_cut_101 (lv_at hl 0 rfl) ?_
                    refine g_X1_326 F hWK g hK (xw_26 hR (xi_nI (n := (S.1 3 0)) (by omega) (by omega)).lt) (v := .int (S.2.1 22 b 0)) rfl dX1_cut_103 ?_
                    refine lv_iload_n hx hb dX1_cut_106 rfl (lv_at hl 7 rfl) ?_
                    refine lv_iconst (v := 3) hx hb dX1_cut_107 (by decide) ?_
                    refine lv_iadd hx hb dX1_cut_108 ?_
                    refine lv_icmp_lt (tgt := 145) hx hb dX1_cut_109 (by decide) (fun c_109 => ?_) (fun c_109 => ?_)
                    · have n_109 := Int32.not_le.mpr c_109
                      refine lv_iinc (v := nI (b + 1)) (lv' := [(6, .int (nI (b + 1))), (7, .ref (ad (26, b))), (5, .int best), (4, .ref (ad (23, ej))), (0, .ref (ad (0, 0))), (1, .int (nI ej)), (2, .int material), (3, .int length)]) hx hb dX1_cut_145 hl (k := 1) rfl (nI_1 _) (by decide) rfl (fun ls hl => ?_)
                      refine lv_goto (tgt := 66) hx hb dX1_cut_148 (by decide) ?_
                      exact ih66 (b + 1) best (by omega) (by omega) (ob.imp id (fun q => vp_up q (by omega))) (by simp [xBest, ← eb, c_11, c_22, c_40, c_49, c_98, c_109, n_49, n_109]) ls (lv_sub hl [0, 2, 3, 4, 5, 6, 7] rfl)
                    · have n_109 := Int32.not_lt.mp c_109
                      refine lv_iload hx hb dX1_cut_112 (lv_at hl 2 rfl) ?_
                      refine lv_iconst (v := (-1)) hx hb dX1_cut_114 (by decide) ?_
                      refine lv_icmp_eq (tgt := 141) hx hb dX1_cut_115 (by decide) (fun c_115 => ?_) (fun c_115 => ?_)
                      · refine lv_iload hx hb dX1_cut_141 (lv_at hl 1 rfl) ?_
                        refine lv_istore (lv' := [(5, .int (nI b)), (7, .ref (ad (26, b))), (6, .int (nI b)), (4, .ref (ad (23, ej))), (0, .ref (ad (0, 0))), (1, .int (nI ej)), (2, .int material), (3, .int length)]) hx hb dX1_cut_143 hl (by decide) rfl (fun ls hl => ?_)
                        refine lv_iinc (v := nI (b + 1)) (lv' := [(6, .int (nI (b + 1))), (5, .int (nI b)), (7, .ref (ad (26, b))), (4, .ref (ad (23, ej))), (0, .ref (ad (0, 0))), (1, .int (nI ej)), (2, .int material), (3, .int length)]) hx hb dX1_cut_145 hl (k := 2) rfl (nI_1 _) (by decide) rfl (fun ls hl => ?_)
                        refine lv_goto (tgt := 66) hx hb dX1_cut_148 (by decide) ?_
                        exact ih66 (b + 1) (nI b) (by omega) (by omega) (Or.inr (vp_in_nI (by omega) (by omega))) (by simp [xBest, ← eb, c_11, c_22, c_40, c_49, c_98, c_109, c_115, n_49, n_109]) ls (lv_sub hl [0, 1, 3, 4, 5, 6, 7] rfl)
                      · refine lv_aload hx hb dX1_cut_118 (lv_at hl 0 rfl) ?_
                        refine g_X1_326 F hWK g hK (xw_26 hR (xi_nI (n := (S.1 3 0)) (by omega) (by omega)).lt) (v := .int (S.2.1 22 b 0)) rfl dX1_cut_120 ?_
                        refine lv_aload_n hx hb dX1_cut_123 rfl (lv_at hl 4 rfl) ?_
                        refine g_X1_39 F hK (xw_0 hR) (v := .ref (ad (6, 0))) rfl dX1_cut_124 ?_
                        refine lv_iload hx hb dX1_cut_127 (lv_at hl 2 rfl) ?_
                        refine xc_P (va_runV (As := [.int best]) (rest := [.int (S.2.1 22 b 0)]) F (xJ2_get_26 g1 (A := A) (S := S) (ad := ad) (z := z) (xi.up (xi_of (ob.resolve_left c_115)) (by omega)) (by first | assumption | omega)) (cwV 1 hts (lw_V q486 q487 q488 q60 q489) rfl rfl rfl hdV_J2_get ⟨Nat.le_of_ble_eq_true rfl, Nat.le_of_ble_eq_true rfl⟩) (xpreV (xrecv hK (xw_6 hR) rfl) hWK hS hR) rfl rfl hl.1 rfl (lv_room (Nat.le_of_ble_eq_true rfl)) dX1_cut_129 ⟨Nat.le_of_ble_eq_true rfl, Nat.le_of_ble_eq_true rfl⟩) ?_
                        refine x_castO F hK rfl (xw_26 hR (xi.up (xi_of (ob.resolve_left c_115)) (by omega)).lt) (hts _ q721) dX1_cut_132 ?_
                        refine g_X1_326 F hWK g hK (xw_26 hR (xi.up (xi_of (ob.resolve_left c_115)) (by omega)).lt) (v := .int (S.2.1 22 best.toNatClampNeg 0)) rfl dX1_cut_135 ?_
                        refine lv_icmp_ge (tgt := 145) hx hb dX1_cut_138 (by decide) (fun c_138 => ?_) (fun c_138 => ?_)
                        · have n_138 := Int32.not_lt.mpr c_138
                          refine lv_iinc (v := nI (b + 1)) (lv' := [(6, .int (nI (b + 1))), (7, .ref (ad (26, b))), (5, .int best), (4, .ref (ad (23, ej))), (0, .ref (ad (0, 0))), (1, .int (nI ej)), (2, .int material), (3, .int length)]) hx hb dX1_cut_145 hl (k := 1) rfl (nI_1 _) (by decide) rfl (fun ls hl => ?_)
                          refine lv_goto (tgt := 66) hx hb dX1_cut_148 (by decide) ?_
                          exact ih66 (b + 1) best (by omega) (by omega) (ob.imp id (fun q => vp_up q (by omega))) (by simp [xBest, ← eb, c_11, c_22, c_40, c_49, c_98, c_109, c_115, c_138, n_49, n_109, n_138]) ls (lv_sub hl [0, 2, 3, 4, 5, 6, 7] rfl)
                        · have n_138 := Int32.not_le.mp c_138
                          refine lv_iload hx hb dX1_cut_141 (lv_at hl 1 rfl) ?_
                          refine lv_istore (lv' := [(5, .int (nI b)), (7, .ref (ad (26, b))), (6, .int (nI b)), (4, .ref (ad (23, ej))), (0, .ref (ad (0, 0))), (1, .int (nI ej)), (2, .int material), (3, .int length)]) hx hb dX1_cut_143 hl (by decide) rfl (fun ls hl => ?_)
                          refine lv_iinc (v := nI (b + 1)) (lv' := [(6, .int (nI (b + 1))), (5, .int (nI b)), (7, .ref (ad (26, b))), (4, .ref (ad (23, ej))), (0, .ref (ad (0, 0))), (1, .int (nI ej)), (2, .int material), (3, .int length)]) hx hb dX1_cut_145 hl (k := 2) rfl (nI_1 _) (by decide) rfl (fun ls hl => ?_)
                          refine lv_goto (tgt := 66) hx hb dX1_cut_148 (by decide) ?_
                          exact ih66 (b + 1) (nI b) (by omega) (by omega) (Or.inr (vp_in_nI (by omega) (by omega))) (by simp [xBest, ← eb, c_11, c_22, c_40, c_49, c_98, c_109, c_115, c_138, n_49, n_109, n_138]) ls (lv_sub hl [0, 1, 3, 4, 5, 6, 7] rfl)
            exact L66 (S.1 3 0 + 1) 0 (-1) (by omega) (by omega) (Or.inl rfl) rfl ls (lv_sub hl [0, 1, 2, 3, 4, 5, 6] rfl)
  · have e9 : (xCut S entry material length).1 = 3 := by simp [xCut, c_2]
    exact xc_T (vx_runV (As := [.int entry]) (rest := []) F (xX1_entryAt_no g1 (A := A) (S := S) (ad := ad) (z := z) entry hW c_2) (cwV 1 hts (lw_V q1121 q1123 qs25 q56 q1124) rfl rfl rfl hdV_X1_entryAt ⟨Nat.le_of_ble_eq_true rfl, Nat.le_of_ble_eq_true rfl⟩) (xpreV (xrecv hK (xw_0 hR) rfl) hWK hS hR) rfl rfl hl.1 rfl (lv_room (Nat.le_of_ble_eq_true rfl)) dX1_cut_2 ⟨Nat.le_of_ble_eq_true rfl, Nat.le_of_ble_eq_true rfl⟩) hS (fun E ce q9 H locs hX hz hk hS hq9 hv9 hc9 => vx_out (fun x hx => (hnt x hx).elim) hlocks hq9 hv9 hc9 (fun t ht _ => ⟨by rw [ht]; exact ⟨hX.1.trans (congrArg xExn e9).symm, (by rw [e9]; decide), z, hR.grow hX.2⟩, hS.F ht⟩) hS.2.2 (Nat.le_of_ble_eq_true rfl) (Nat.le_of_ble_eq_true rfl))

