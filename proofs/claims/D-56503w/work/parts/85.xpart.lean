/-! contracts (printed by gen/mx12.py) -/
set_option maxRecDepth 100000
set_option maxHeartbeats 4000000 in
theorem xX10_init {l : Launch} {G : xG} {s0 : State} {b0 : Nat} (g1 : xG1 l G s0 b0) {A : Nat → Prop} {S : xS} {ad : Nat × Nat → Nat} {z : xZ} (q : Nat) (member mach cost : Int32) (hW : xW S) : Met l yX10_init (ws_ yX10_init cX10_init 8 none) ({ frames := 3, cells := 0, slots := 0, locals := 64 } : Room) (xP s0 A [.ref q, .ref (ad (0, 0)), .int member, .int mach, .int cost] (fun H => xRX G A S ad z H ∧ xat G q (xO 9 [.int 0, .int 0, .int 0, .int 0, .int 0, .null]) H ∧ A q ∧ xFree G S ad z q)) (xQc none (fun H0 H1 => xat G q (xO 9 [.int (xMin S mach member), .int 0, .int 0, .int mach, .int cost, .ref (ad (0, 0))]) H1 ∧ xOG q 0 H0 H1) A) 0 0 A := by
  refine Met.ofW (cc := cX10_init) (maxL := 8) (ret := none) (by decide) rfl ?_
  intro p e s m args below meth c s₁ B hml hv
  obtain ⟨rfl, hWK, hR⟩ := hv
  have g := g1.1
  have hx := B.exec
  have hb := B.bytes
  have hr := B.returns
  have hts := atoms_spec (ws := ws_ yX10_init cX10_init 8 none) B.pre
  have hts : ∀ w ∈ lw_all, w.before _ s = true := fun w h => hts w (List.mem_cons_of_mem _ h)
  have hown : s.vm.findClass "Lendlathe$1Part" = some m.cls := findClass_of_methodNamed B.named
  have hlocks := B.notSynchronized
  have hK := hWK.K g
  have F : CallFix p m c cX10_init 8 s _ lw_all "Lendlathe$1Part" := ⟨hx, hb, hml, hown, hts⟩
  have hS : va_S A s.heap s.heap [] := va_S.rf
  have hl := lv_entry ([.ref q, .ref (ad (0, 0)), .int member, .int mach, .int cost]) (n := 8) (Nat.le_of_ble_eq_true rfl)
  rw [lg_entry_eq]
  generalize (lg_sl ([.ref q, .ref (ad (0, 0)), .int member, .int mach, .int cost]) ++ List.replicate (8 - (lg_sl ([.ref q, .ref (ad (0, 0)), .int member, .int mach, .int cost])).length) Slot.unset).toArray = ls at hl ⊢
  have hl : lv_has ls 8 [(0, .ref q), (1, .ref (ad (0, 0))), (2, .int member), (3, .int mach), (4, .int cost)] := hl
  obtain ⟨hR, hO_q, hA_q, hfr_q⟩ := hR
  have hn0 := hW.1.1
  have hn1 := hW.1.2.1
  have hn2 := hW.1.2.2.1
  have hn3 := hW.1.2.2.2.1
  have hn4 := hW.1.2.2.2.2
  have hini : meth.name = "<init>" := (name_of_methodNamed B.named B.method).1
  have hX : xOG q 0 s.heap s.heap := xOG.rf
  refine lv_aload_n hx hb dX10_init_0 rfl (lv_at hl 0 rfl) ?_
  refine lv_aload_n hx hb dX10_init_1 rfl (lv_at hl 1 rfl) ?_
  refine p_X10_3 F hini hK hS hO_q (hA_q) (v := .ref (ad (0, 0))) rfl rfl (Nat.le_of_ble_eq_true rfl) dX10_init_2 (fun H locs hat hof hS => ?_)
  have hO_q : xat G q (xO 9 [.int 0, .int 0, .int 0, .int 0, .int 0, .ref (ad (0, 0))]) H := hat
  have hR := hR.off hfr_q hof
  have hX := hX.put hof
  refine lv_aload_n hx hb dX10_init_5 rfl (lv_at hl 0 rfl) ?_
  refine lv_iload_n hx hb dX10_init_6 rfl (lv_at hl 3 rfl) ?_
  refine p_X10_9 F hini hK hS hO_q (hA_q) (v := .int mach) rfl rfl (Nat.le_of_ble_eq_true rfl) dX10_init_7 (fun H locs hat hof hS => ?_)
  have hO_q : xat G q (xO 9 [.int 0, .int 0, .int 0, .int mach, .int 0, .ref (ad (0, 0))]) H := hat
  have hR := hR.off hfr_q hof
  have hX := hX.put hof
  refine lv_aload_n hx hb dX10_init_10 rfl (lv_at hl 0 rfl) ?_
  refine lv_iload hx hb dX10_init_11 (lv_at hl 4 rfl) ?_
  refine p_X10_13 F hini hK hS hO_q (hA_q) (v := .int cost) rfl rfl (Nat.le_of_ble_eq_true rfl) dX10_init_13 (fun H locs hat hof hS => ?_)
  have hO_q : xat G q (xO 9 [.int 0, .int 0, .int 0, .int mach, .int cost, .ref (ad (0, 0))]) H := hat
  have hR := hR.off hfr_q hof
  have hX := hX.put hof
  refine lv_aload_n hx hb dX10_init_16 rfl (lv_at hl 0 rfl) ?_
  refine W.objInit hx hb hown (hts _ q1362) (hts _ q98) (hts _ q99) rfl (by rw [hml]; exact hl.1) rfl dX10_init_17 (Nat.le_of_ble_eq_true rfl) (Nat.le_of_ble_eq_true rfl) ?_
  refine lv_iconst (v := 0) hx hb dX10_init_20 (by decide) ?_
  refine lv_istore (lv' := [(5, .int 0), (0, .ref q), (1, .ref (ad (0, 0))), (2, .int member), (3, .int mach), (4, .int cost)]) hx hb dX10_init_21 hl (by decide) rfl (fun ls hl => ?_)
  refine lv_iconst (v := 0) hx hb dX10_init_23 (by decide) ?_
  refine lv_istore (lv' := [(6, .int 0), (5, .int 0), (0, .ref q), (1, .ref (ad (0, 0))), (2, .int member), (3, .int mach), (4, .int cost)]) hx hb dX10_init_24 hl (by decide) rfl (fun ls hl => ?_)
  have L26 : ∀ (n : Nat) (k : Nat) (acc : Int32), S.1 2 0 - k < n → (k ≤ S.1 2 0) → (acc = sumI k (xMinF S mach member)) → ∀ (ls : Array Slot), lv_has ls 8 [(6, .int (nI k)), (5, .int acc), (0, .ref q), (1, .ref (ad (0, 0))), (2, .int member)] → W p l e (headSpec (ws_ yX10_init cX10_init 8 none) ({ frames := 3, cells := 0, slots := 0, locals := 64 } : Room)).room s m ([.ref q, .ref (ad (0, 0)), .int member, .int mach, .int cost] : List Value).toArray below meth c H locs 0 0 (MQ below (xQc none (fun H0 H1 => xat G q (xO 9 [.int (xMin S mach member), .int 0, .int 0, .int mach, .int cost, .ref (ad (0, 0))]) H1 ∧ xOG q 0 H0 H1) A) ([.ref q, .ref (ad (0, 0)), .int member, .int mach, .int cost] : List Value).toArray s 0 0 A) (F0 m 26 ls []) := by
    intro n26
    induction n26 with
    | zero =>
      intro k acc hn26
      exact absurd hn26 (Nat.not_lt_zero _)
    | succ n26 ih26 =>
      intro k acc hn26 hkn ea ls hl
      refine lv_iload hx hb dX10_init_26 (lv_at hl 0 rfl) ?_
      refine lv_aload_n hx hb dX10_init_28 rfl (lv_at hl 3 rfl) ?_
      refine g_X10_22 F hWK g hK (xw_0 hR) (v := .ref (ad (5, 0))) rfl dX10_init_29 ?_
      refine xc_P (va_runV (As := []) (rest := [.int (nI k)]) F (xJ2_size_23 g1 (A := A) (S := S) (ad := ad) (z := z) ) (cwV 0 hts (lw_V q1363 q511 q512 q60 q513) rfl rfl rfl hdV_J2_size ⟨Nat.le_of_ble_eq_true rfl, Nat.le_of_ble_eq_true rfl⟩) (xpreV (xrecv hK (xw_5 hR) rfl) hWK hS hR) rfl rfl hl.1 rfl (lv_room (Nat.le_of_ble_eq_true rfl)) dX10_init_32 ⟨Nat.le_of_ble_eq_true rfl, Nat.le_of_ble_eq_true rfl⟩) ?_
      refine xn_ge (tgt := 114) k (S.1 2 0) rfl rfl (by omega) (by omega) hx hb dX10_init_35 (by decide) (fun c_35 => ?_) (fun c_35 => ?_)
      · have n_35 := Nat.not_lt.mpr c_35
        refine lv_aload_n hx hb dX10_init_114 rfl (lv_at hl 2 rfl) ?_
        refine lv_iload hx hb dX10_init_115 (lv_at hl 1 rfl) ?_
        refine p_X10_55 F hini hK hS hO_q (hA_q) (v := .int acc) rfl rfl (Nat.le_of_ble_eq_true rfl) dX10_init_117 (fun H locs hat hof hS => ?_)
        have hO_q : xat G q (xO 9 [.int acc, .int 0, .int 0, .int mach, .int cost, .ref (ad (0, 0))]) H := hat
        have hR := hR.off hfr_q hof
        have hX := hX.put hof
        have hk9 : k = S.1 2 0 := (by omega)
        subst hk9
        rw [ea] at hO_q
        exact xr_Cv hx hb hr hlocks (⟨hO_q, hX⟩) hS (by first | omega | decide) (by first | omega | decide) dX10_init_120
      · have n_35 := Nat.not_le.mpr c_35
        refine lv_aload_n hx hb dX10_init_38 rfl (lv_at hl 3 rfl) ?_
        refine g_X10_22 F hWK g hK (xw_0 hR) (v := .ref (ad (5, 0))) rfl dX10_init_39 ?_
        refine lv_iload hx hb dX10_init_42 (lv_at hl 0 rfl) ?_
        refine xc_P (va_runV (As := [.int (nI k)]) (rest := []) F (xJ2_get_23 g1 (A := A) (S := S) (ad := ad) (z := z) (xi_nI (n := (S.1 2 0)) (by omega) (by omega)) (by first | assumption | omega)) (cwV 1 hts (lw_V q1364 q487 q488 q60 q489) rfl rfl rfl hdV_J2_get ⟨Nat.le_of_ble_eq_true rfl, Nat.le_of_ble_eq_true rfl⟩) (xpreV (xrecv hK (xw_5 hR) rfl) hWK hS hR) rfl rfl hl.1 rfl (lv_room (Nat.le_of_ble_eq_true rfl)) dX10_init_44 ⟨Nat.le_of_ble_eq_true rfl, Nat.le_of_ble_eq_true rfl⟩) ?_
        refine x_castO F hK rfl (xw_23 hR (xi_nI (n := (S.1 2 0)) (by omega) (by omega)).lt) (hts _ q1365) dX10_init_47 ?_
        refine lv_astore (lv' := [(7, .ref (ad (23, k))), (6, .int (nI k)), (5, .int acc), (0, .ref q), (1, .ref (ad (0, 0))), (2, .int member)]) hx hb dX10_init_50 hl (by decide) rfl (fun ls hl => ?_)
        refine lv_aload hx hb dX10_init_52 (lv_at hl 0 rfl) ?_
        refine g_X10_38 F hK (xw_23 hR (xi_nI (n := (S.1 2 0)) (by omega) (by omega)).lt) (v := .int (S.2.1 11 k 0)) rfl dX10_init_54 ?_
        refine lv_aload_n hx hb dX10_init_57 rfl (lv_at hl 3 rfl) ?_
        refine g_X10_9 F hK hO_q (v := .int mach) rfl dX10_init_58 ?_
        refine lv_icmp_ne (tgt := 108) hx hb dX10_init_61 (by decide) (fun c_61 => ?_) (fun c_61 => ?_)
        · refine lv_iinc (v := nI (k + 1)) (lv' := [(6, .int (nI (k + 1))), (7, .ref (ad (23, k))), (5, .int acc), (0, .ref q), (1, .ref (ad (0, 0))), (2, .int member)]) hx hb dX10_init_108 hl (k := 1) rfl (nI_1 _) (by decide) rfl (fun ls hl => ?_)
          refine lv_goto (tgt := 26) hx hb dX10_init_111 (by decide) ?_
          exact ih26 (k + 1) acc (by omega) (by omega) (by rw [ea]; simp [sumI, xMinF, c_61]) ls (lv_sub hl [0, 2, 3, 4, 5] rfl)
        · refine lv_aload hx hb dX10_init_64 (lv_at hl 0 rfl) ?_
          refine g_X10_41 F hK (xw_23 hR (xi_nI (n := (S.1 2 0)) (by omega) (by omega)).lt) (v := .int (S.2.1 10 k 0)) rfl dX10_init_66 ?_
          refine lv_iload_n hx hb dX10_init_69 rfl (lv_at hl 5 rfl) ?_
          refine lv_icmp_ne (tgt := 108) hx hb dX10_init_70 (by decide) (fun c_70 => ?_) (fun c_70 => ?_)
          · refine lv_iinc (v := nI (k + 1)) (lv' := [(6, .int (nI (k + 1))), (7, .ref (ad (23, k))), (5, .int acc), (0, .ref q), (1, .ref (ad (0, 0))), (2, .int member)]) hx hb dX10_init_108 hl (k := 1) rfl (nI_1 _) (by decide) rfl (fun ls hl => ?_)
            refine lv_goto (tgt := 26) hx hb dX10_init_111 (by decide) ?_
            exact ih26 (k + 1) acc (by omega) (by omega) (by rw [ea]; simp [sumI, xMinF, c_61, c_70]) ls (lv_sub hl [0, 2, 3, 4, 5] rfl)
          · refine lv_aload hx hb dX10_init_73 (lv_at hl 0 rfl) ?_
            refine g_X10_44 F hWK g hK (xw_23 hR (xi_nI (n := (S.1 2 0)) (by omega) (by omega)).lt) (v := .int (S.2.1 16 k 0)) rfl dX10_init_75 ?_
            refine lv_bipush (v := 100) hx hb dX10_init_78 (by decide) ?_
            refine lv_icmp_ne (tgt := 108) hx hb dX10_init_80 (by decide) (fun c_80 => ?_) (fun c_80 => ?_)
            · refine lv_iinc (v := nI (k + 1)) (lv' := [(6, .int (nI (k + 1))), (7, .ref (ad (23, k))), (5, .int acc), (0, .ref q), (1, .ref (ad (0, 0))), (2, .int member)]) hx hb dX10_init_108 hl (k := 1) rfl (nI_1 _) (by decide) rfl (fun ls hl => ?_)
              refine lv_goto (tgt := 26) hx hb dX10_init_111 (by decide) ?_
              exact ih26 (k + 1) acc (by omega) (by omega) (by rw [ea]; simp [sumI, xMinF, c_61, c_70, c_80]) ls (lv_sub hl [0, 2, 3, 4, 5] rfl)
            · refine lv_aload hx hb dX10_init_83 (lv_at hl 0 rfl) ?_
              refine g_X10_48 F hK (xw_23 hR (xi_nI (n := (S.1 2 0)) (by omega) (by omega)).lt) (v := .int (S.2.1 12 k 0)) rfl dX10_init_85 ?_
              refine lv_aload_n hx hb dX10_init_88 rfl (lv_at hl 4 rfl) ?_
              refine g_X10_51 F hWK g hK (xw_0 hR) (v := .int (S.2.1 7 0 0)) rfl dX10_init_89 ?_
              refine lv_bipush (v := 7) hx hb dX10_init_92 (by decide) ?_
              refine lv_isub hx hb dX10_init_94 ?_
              refine lv_icmp_lt (tgt := 108) hx hb dX10_init_95 (by decide) (fun c_95 => ?_) (fun c_95 => ?_)
              · have n_95 := Int32.not_le.mpr c_95
                refine lv_iinc (v := nI (k + 1)) (lv' := [(6, .int (nI (k + 1))), (7, .ref (ad (23, k))), (5, .int acc), (0, .ref q), (1, .ref (ad (0, 0))), (2, .int member)]) hx hb dX10_init_108 hl (k := 1) rfl (nI_1 _) (by decide) rfl (fun ls hl => ?_)
                refine lv_goto (tgt := 26) hx hb dX10_init_111 (by decide) ?_
                exact ih26 (k + 1) acc (by omega) (by omega) (by rw [ea]; simp [sumI, xMinF, c_61, c_70, c_80, c_95, n_95]) ls (lv_sub hl [0, 2, 3, 4, 5] rfl)
              · have n_95 := Int32.not_lt.mp c_95
                refine lv_iload hx hb dX10_init_98 (lv_at hl 2 rfl) ?_
                refine lv_aload hx hb dX10_init_100 (lv_at hl 0 rfl) ?_
                refine g_X10_52 F hK (xw_23 hR (xi_nI (n := (S.1 2 0)) (by omega) (by omega)).lt) (v := .int (S.2.1 14 k 0)) rfl dX10_init_102 ?_
                refine lv_iadd hx hb dX10_init_105 ?_
                refine lv_istore (lv' := [(5, .int (acc + (S.2.1 14 k 0))), (7, .ref (ad (23, k))), (6, .int (nI k)), (0, .ref q), (1, .ref (ad (0, 0))), (2, .int member)]) hx hb dX10_init_106 hl (by decide) rfl (fun ls hl => ?_)
                refine lv_iinc (v := nI (k + 1)) (lv' := [(6, .int (nI (k + 1))), (5, .int (acc + (S.2.1 14 k 0))), (7, .ref (ad (23, k))), (0, .ref q), (1, .ref (ad (0, 0))), (2, .int member)]) hx hb dX10_init_108 hl (k := 2) rfl (nI_1 _) (by decide) rfl (fun ls hl => ?_)
                refine lv_goto (tgt := 26) hx hb dX10_init_111 (by decide) ?_
                exact ih26 (k + 1) (acc + (S.2.1 14 k 0)) (by omega) (by omega) (by rw [ea]; simp [sumI, xMinF, c_61, c_70, c_80, c_95, n_95]) ls (lv_sub hl [0, 1, 3, 4, 5] rfl)
  exact L26 (S.1 2 0 + 1) 0 0 (by omega) (by omega) rfl ls (lv_sub hl [0, 1, 2, 3, 4] rfl)

set_option maxHeartbeats 4000000 in
theorem xX10_bears {l : Launch} {G : xG} {s0 : State} {b0 : Nat} (g1 : xG1 l G s0 b0) {A : Nat → Prop} (q th : Nat) (mi sh re mach cost total : Int32) (hnz : ¬ total = 0) : Met l yX10_bears (ws_ yX10_bears cX10_bears 2 (some .int)) ({ frames := 0, cells := 0, slots := 0, locals := 0 } : Room) (xP s0 A [.ref q, .int total] (fun H => xat G q (xO 9 [.int mi, .int sh, .int re, .int mach, .int cost, .ref th]) H ∧ A q)) (xQc (some (.int (xSh cost total mi))) (fun H0 H1 => xat G q (xO 9 [.int mi, .int (xSh cost total mi), .int (xRe cost total mi), .int mach, .int cost, .ref th]) H1 ∧ xOG q 0 H0 H1) A) 0 0 A := by
  refine Met.ofW (cc := cX10_bears) (maxL := 2) (ret := (some .int)) (by decide) rfl ?_
  intro p e s m args below meth c s₁ B hml hv
  obtain ⟨rfl, hWK, hR⟩ := hv
  have g := g1.1
  have hx := B.exec
  have hb := B.bytes
  have hr := B.returns
  have hts := atoms_spec (ws := ws_ yX10_bears cX10_bears 2 (some .int)) B.pre
  have hts : ∀ w ∈ lw_all, w.before _ s = true := fun w h => hts w (List.mem_cons_of_mem _ h)
  have hown : s.vm.findClass "Lendlathe$1Part" = some m.cls := findClass_of_methodNamed B.named
  have hlocks := B.notSynchronized
  have hK := hWK.K g
  have F : CallFix p m c cX10_bears 2 s _ lw_all "Lendlathe$1Part" := ⟨hx, hb, hml, hown, hts⟩
  have hS : va_S A s.heap s.heap [] := va_S.rf
  have hl := lv_entry ([.ref q, .int total]) (n := 2) (Nat.le_of_ble_eq_true rfl)
  rw [lg_entry_eq]
  generalize (lg_sl ([.ref q, .int total]) ++ List.replicate (2 - (lg_sl ([.ref q, .int total])).length) Slot.unset).toArray = ls at hl ⊢
  have hl : lv_has ls 2 [(0, .ref q), (1, .int total)] := hl
  obtain ⟨hO_q, hA_q⟩ := hR
  have hX : xOG q 0 s.heap s.heap := xOG.rf
  refine lv_aload_n hx hb dX10_bears_0 rfl (lv_at hl 0 rfl) ?_
  refine lv_aload_n hx hb dX10_bears_1 rfl (lv_at hl 0 rfl) ?_
  refine g_X10_13 F hK hO_q (v := .int cost) rfl dX10_bears_2 ?_
  refine lv_aload_n hx hb dX10_bears_5 rfl (lv_at hl 0 rfl) ?_
  refine g_X10_55 F hK hO_q (v := .int mi) rfl dX10_bears_6 ?_
  refine lv_imul hx hb dX10_bears_9 ?_
  refine lv_iload_n hx hb dX10_bears_10 rfl (lv_at hl 1 rfl) ?_
  refine lv_idiv hx hb dX10_bears_11 (by assumption)  ?_
  refine p_X10_56 F hK hS hO_q (hA_q) (v := .int ((cost * mi) / total)) rfl rfl (Nat.le_of_ble_eq_true rfl) dX10_bears_12 (fun H locs hat hof hS => ?_)
  have hO_q : xat G q (xO 9 [.int mi, .int ((cost * mi) / total), .int re, .int mach, .int cost, .ref th]) H := hat
  have hX := hX.put hof
  refine lv_aload_n hx hb dX10_bears_15 rfl (lv_at hl 0 rfl) ?_
  refine lv_aload_n hx hb dX10_bears_16 rfl (lv_at hl 0 rfl) ?_
  refine g_X10_13 F hK hO_q (v := .int cost) rfl dX10_bears_17 ?_
  refine lv_aload_n hx hb dX10_bears_20 rfl (lv_at hl 0 rfl) ?_
  refine g_X10_55 F hK hO_q (v := .int mi) rfl dX10_bears_21 ?_
  refine lv_imul hx hb dX10_bears_24 ?_
  refine lv_iload_n hx hb dX10_bears_25 rfl (lv_at hl 1 rfl) ?_
  refine lv_irem hx hb dX10_bears_26 (by assumption)  ?_
  refine p_X10_59 F hK hS hO_q (hA_q) (v := .int ((cost * mi) - (cost * mi) / total * total)) rfl rfl (Nat.le_of_ble_eq_true rfl) dX10_bears_27 (fun H locs hat hof hS => ?_)
  have hO_q : xat G q (xO 9 [.int mi, .int ((cost * mi) / total), .int ((cost * mi) - (cost * mi) / total * total), .int mach, .int cost, .ref th]) H := hat
  have hX := hX.put hof
  refine lv_aload_n hx hb dX10_bears_30 rfl (lv_at hl 0 rfl) ?_
  refine g_X10_56 F hK hO_q (v := .int ((cost * mi) / total)) rfl dX10_bears_31 ?_
  exact xr_Ci hx hb hr hlocks (rfl) (⟨hO_q, hX⟩) hS (by first | omega | decide) (by first | omega | decide) dX10_bears_34

set_option maxHeartbeats 4000000 in
theorem xX1_breakDown {l : Launch} {G : xG} {s0 : State} {b0 : Nat} (g1 : xG1 l G s0 b0) {A : Nat → Prop} {S : xS} {ad : Nat × Nat → Nat} {z : xZ} (machine cost : Int32) (hW : xW S) : vx_Met l yX1_breakDown (ws_ yX1_breakDown cX1_breakDown 11 (some .int)) ({ frames := 7, cells := 11, slots := 70, locals := 101 } : Room) (xP s0 A [.ref (ad (0, 0)), .int machine, .int cost] (fun H => xRX G A S ad z H)) (xQc (some (.int ((xBreak S machine cost).2.1))) (fun _ H => (xBreak S machine cost).1 = 0 ∧ ∃ ad9 z9, xRX G A (xBreak S machine cost).2.2 ad9 z9 H ∧ ad9 (0, 0) = ad (0, 0)) A) (xXc (fun E _ H => E = xExn (xBreak S machine cost).1 ∧ ¬ (xBreak S machine cost).1 = 0 ∧ ∃ z9, xRX G A S ad z9 H) A) 11 70 A := by
  refine vx_ofW (cc := cX1_breakDown) (maxL := 11) (ret := (some .int)) (by decide) rfl ?_
  intro p e s m args below meth c s₁ B hml hnt hv
  obtain ⟨rfl, hWK, hR⟩ := hv
  have g := g1.1
  have hx := B.exec
  have hb := B.bytes
  have hr := B.returns
  have hts := atoms_spec (ws := ws_ yX1_breakDown cX1_breakDown 11 (some .int)) B.pre
  have hts : ∀ w ∈ lw_all, w.before _ s = true := fun w h => hts w (List.mem_cons_of_mem _ h)
  have hown : s.vm.findClass "Lendlathe" = some m.cls := findClass_of_methodNamed B.named
  have hlocks := B.notSynchronized
  have hK := hWK.K g
  have F : CallFix p m c cX1_breakDown 11 s _ lw_all "Lendlathe" := ⟨hx, hb, hml, hown, hts⟩
  have hS : va_S A s.heap s.heap [] := va_S.rf
  have hl := lv_entry ([.ref (ad (0, 0)), .int machine, .int cost]) (n := 11) (Nat.le_of_ble_eq_true rfl)
  rw [lg_entry_eq]
  generalize (lg_sl ([.ref (ad (0, 0)), .int machine, .int cost]) ++ List.replicate (11 - (lg_sl ([.ref (ad (0, 0)), .int machine, .int cost])).length) Slot.unset).toArray = ls at hl ⊢
  have hl : lv_has ls 11 [(0, .ref (ad (0, 0))), (1, .int machine), (2, .int cost)] := hl
  have hn0 := hW.1.1
  have hn1 := hW.1.2.1
  have hn2 := hW.1.2.2.1
  have hn3 := hW.1.2.2.2.1
  have hn4 := hW.1.2.2.2.2
  refine lv_aload_n hx hb dX1_breakDown_0 rfl (lv_at hl 0 rfl) ?_
  refine lv_iload_n hx hb dX1_breakDown_1 rfl (lv_at hl 1 rfl) ?_
  refine xc_P (va_runV (As := [.int machine]) (rest := []) F (xX1_isMachine g1 (A := A) (S := S) (ad := ad) (z := z) machine) (cwV 1 hts (lw_V q1003 q1005 qs22 q56 q1006) rfl rfl rfl hdV_X1_isMachine ⟨Nat.le_of_ble_eq_true rfl, Nat.le_of_ble_eq_true rfl⟩) (xpreV (xrecv hK (xw_0 hR) rfl) hWK hS hR) rfl rfl hl.1 rfl (lv_room (Nat.le_of_ble_eq_true rfl)) dX1_breakDown_2 ⟨Nat.le_of_ble_eq_true rfl, Nat.le_of_ble_eq_true rfl⟩) ?_
  rcases xbtf (inI machine 0 (nI (S.1 0 0) - 1)) with c_5 | c_5
  · refine xc_P0 (va_runS (As := [.int (bI (inI machine 0 (nI (S.1 0 0) - 1)))]) (rest := []) F (xX1_there_ok g1 (A := A) (inI machine 0 (nI (S.1 0 0) - 1)) c_5) (va_cwS 1 hts (lw_S q937 q938 q56 q939) rfl rfl rfl hdS_X1_there ⟨Nat.le_of_ble_eq_true rfl, Nat.le_of_ble_eq_true rfl⟩) (xpre hWK hS trivial) rfl rfl hl.1 rfl (lv_room (Nat.le_of_ble_eq_true rfl)) dX1_breakDown_5 ⟨Nat.le_of_ble_eq_true rfl, Nat.le_of_ble_eq_true rfl⟩) ?_
    refine lv_iload_n hx hb dX1_breakDown_8 rfl (lv_at hl 2 rfl) ?_
    refine lv_iconst (v := 1) hx hb dX1_breakDown_9 (by decide) ?_
    refine lv_ldcw (v := 100000) hx hb hown (hts _ q1355) dX1_breakDown_10 ?_
    refine xc_P (va_runS (As := [.int cost, .int 1, .int 100000]) (rest := []) F (xX1_in g1 (A := A) cost 1 100000) (va_cwS 3 hts (lw_S q758 q759 q56 q760) rfl rfl rfl hdS_X1_in ⟨Nat.le_of_ble_eq_true rfl, Nat.le_of_ble_eq_true rfl⟩) (xpre hWK hS trivial) rfl rfl hl.1 rfl (lv_room (Nat.le_of_ble_eq_true rfl)) dX1_breakDown_13 ⟨Nat.le_of_ble_eq_true rfl, Nat.le_of_ble_eq_true rfl⟩) ?_
    rcases xbtf (inI cost 1 100000) with c_16 | c_16
    · refine xc_P0 (va_runS (As := [.int (bI (inI cost 1 100000))]) (rest := []) F (xX1_want_ok g1 (A := A) (inI cost 1 100000) c_16) (va_cwS 1 hts (lw_S q761 q762 q56 q763) rfl rfl rfl hdS_X1_want ⟨Nat.le_of_ble_eq_true rfl, Nat.le_of_ble_eq_true rfl⟩) (xpre hWK hS trivial) rfl rfl hl.1 rfl (lv_room (Nat.le_of_ble_eq_true rfl)) dX1_breakDown_16 ⟨Nat.le_of_ble_eq_true rfl, Nat.le_of_ble_eq_true rfl⟩) ?_
      obtain ⟨mj, hmj, rfl⟩ := inI_of' (n := S.1 0 0) (by first | rfl | decide) (by first | decide | omega) c_5
      refine lv_aload_n hx hb dX1_breakDown_19 rfl (lv_at hl 0 rfl) ?_
      refine g_X1_344 F hK (xw_0 hR) (v := .int (nI (S.1 4 0))) rfl dX1_breakDown_20 ?_
      refine lv_bipush (v := 20) hx hb dX1_breakDown_23 (by decide) ?_
      refine xn_ge (tgt := 32) (S.1 4 0) 20 rfl (by decide) (by omega) (by omega) hx hb dX1_breakDown_25 (by decide) (fun c_25 => ?_) (fun c_25 => ?_)
      · have n_25 := Nat.not_lt.mpr c_25
        refine lv_iconst (v := 0) hx hb dX1_breakDown_32 (by decide) ?_
        have e9 : (xBreak S (nI mj) cost).1 = 2 := by simp [xBreak, c_5, c_16, c_25, n_25, nI_clamp (show mj < 2 ^ 31 by omega)]
        exact xc_T (vx_runS (As := [.int 0]) (rest := []) F (xX1_ready_no g1 (A := A) false rfl) (va_cwS 1 hts (lw_S q769 q770 q56 q771) rfl rfl rfl hdS_X1_ready ⟨Nat.le_of_ble_eq_true rfl, Nat.le_of_ble_eq_true rfl⟩) (xpre hWK hS trivial) rfl rfl hl.1 rfl (lv_room (Nat.le_of_ble_eq_true rfl)) dX1_breakDown_33 ⟨Nat.le_of_ble_eq_true rfl, Nat.le_of_ble_eq_true rfl⟩) hS (fun E ce q9 H locs hX hz hk hS hq9 hv9 hc9 => vx_out (fun x hx => (hnt x hx).elim) hlocks hq9 hv9 hc9 (fun t ht _ => ⟨by rw [ht]; exact ⟨hX.1.trans (congrArg xExn e9).symm, (by rw [e9]; decide), z, hR.grow hX.2⟩, hS.F ht⟩) hS.2.2 (Nat.le_of_ble_eq_true rfl) (Nat.le_of_ble_eq_true rfl))
      · have n_25 := Nat.not_le.mpr c_25
        refine lv_iconst (v := 1) hx hb dX1_breakDown_28 (by decide) ?_
        refine lv_goto (tgt := 33) hx hb dX1_breakDown_29 (by decide) ?_
        refine xc_P0 (va_runS (As := [.int 1]) (rest := []) F (xX1_ready_ok g1 (A := A) true rfl) (va_cwS 1 hts (lw_S q769 q770 q56 q771) rfl rfl rfl hdS_X1_ready ⟨Nat.le_of_ble_eq_true rfl, Nat.le_of_ble_eq_true rfl⟩) (xpre hWK hS trivial) rfl rfl hl.1 rfl (lv_room (Nat.le_of_ble_eq_true rfl)) dX1_breakDown_33 ⟨Nat.le_of_ble_eq_true rfl, Nat.le_of_ble_eq_true rfl⟩) ?_
        refine lv_aload_n hx hb dX1_breakDown_36 rfl (lv_at hl 0 rfl) ?_
        refine g_X1_33 F hK (xw_0 hR) (v := .ref (ad (4, 0))) rfl dX1_breakDown_37 ?_
        refine xc_P (va_runV (As := []) (rest := []) F (xJ2_size_21 g1 (A := A) (S := S) (ad := ad) (z := z) ) (cwV 0 hts (lw_V q510 q511 q512 q60 q513) rfl rfl rfl hdV_J2_size ⟨Nat.le_of_ble_eq_true rfl, Nat.le_of_ble_eq_true rfl⟩) (xpreV (xrecv hK (xw_4 hR) rfl) hWK hS hR) rfl rfl hl.1 rfl (lv_room (Nat.le_of_ble_eq_true rfl)) dX1_breakDown_40 ⟨Nat.le_of_ble_eq_true rfl, Nat.le_of_ble_eq_true rfl⟩) ?_
        refine x_newq F hK (C := "Lendlathe$1Part") (t := 9) rfl (hts _ q1356) (xnO hWK g q1357) (n := S.1 1 0) (nI_pos (by omega)) (nI_clamp (by omega)) (by omega) (by simp only [headSpec]; omega) (by simp only [headSpec]; omega) dX1_breakDown_43 (fun H1 hat hz hg => ?_)
        have hfq := hR.fresh
        have hA9 : A (Array.size s.heap) := hWK.2.2.2.1 _ hS.1
        have hR := hR.grow hg
        have hS := hg.S hS
        clear hz hg
        generalize Array.size s.heap = q at hat hA9 hfq ⊢
        generalize H1 = H at hat hR hS ⊢
        have hq_P : xPs G A S ad z q (fun _ => 0) (S.1 1 0) 0 (fun _ => 0) (fun _ => 0) (fun _ => 0) (nI mj) cost H := ⟨⟨hat.arrTo (fun k _ => (if_neg (Nat.not_lt_zero k)).symm), hA9, hfq⟩, fun k hk => absurd hk (Nat.not_lt_zero _), fun i j hi => absurd hi (Nat.not_lt_zero _)⟩
        clear hat hA9 hfq
        refine W.widen (k := 1) (n := 10) (by omega) (by omega) ?_
        refine lv_astore_n (lv' := [(3, .ref q), (0, .ref (ad (0, 0))), (1, .int (nI mj)), (2, .int cost)]) hx hb dX1_breakDown_46 rfl hl (by decide) rfl (fun ls hl => ?_)
        refine lv_iconst (v := 0) hx hb dX1_breakDown_47 (by decide) ?_
        refine lv_istore (lv' := [(4, .int 0), (3, .ref q), (0, .ref (ad (0, 0))), (1, .int (nI mj)), (2, .int cost)]) hx hb dX1_breakDown_48 hl (by decide) rfl (fun ls hl => ?_)
        refine lv_iconst (v := 0) hx hb dX1_breakDown_50 (by decide) ?_
        refine lv_istore (lv' := [(5, .int 0), (4, .int 0), (3, .ref q), (0, .ref (ad (0, 0))), (1, .int (nI mj)), (2, .int cost)]) hx hb dX1_breakDown_51 hl (by decide) rfl (fun ls hl => ?_)
        have L53 : ∀ (n : Nat) (j : Nat) (tot : Int32) (pa : Nat → Nat) (mi : Nat → Int32) (sh : Nat → Int32) (re : Nat → Int32), S.1 1 0 - j < n → (j ≤ (S.1 1 0)) → (tot = xTot S (nI mj) j) → (∀ k, k < j → mi k = xMin S (nI mj) (nI k)) → ∀ (H : Heap) (locs : List Loc), xRX G A S ad z H → xPs G A S ad z q pa (S.1 1 0) j mi sh re (nI mj) cost H → va_S A s.heap H locs → ∀ (ls : Array Slot), lv_has ls 11 [(5, .int (nI j)), (4, .int tot), (3, .ref q), (0, .ref (ad (0, 0))), (1, .int (nI mj)), (2, .int cost)] → W p l e (headSpec (ws_ yX1_breakDown cX1_breakDown 11 (some .int)) ({ frames := 7, cells := 11, slots := 70, locals := 101 } : Room)).room s m ([.ref (ad (0, 0)), .int (nI mj), .int cost] : List Value).toArray below meth c H locs (1 + j) (10 + 6 * j) (vx_MQ below (xQc (some (.int ((xBreak S (nI mj) cost).2.1))) (fun _ H => (xBreak S (nI mj) cost).1 = 0 ∧ ∃ ad9 z9, xRX G A (xBreak S (nI mj) cost).2.2 ad9 z9 H ∧ ad9 (0, 0) = ad (0, 0)) A) (xXc (fun E _ H => E = xExn (xBreak S (nI mj) cost).1 ∧ ¬ (xBreak S (nI mj) cost).1 = 0 ∧ ∃ z9, xRX G A S ad z9 H) A) ([.ref (ad (0, 0)), .int (nI mj), .int cost] : List Value).toArray s 11 70 A) (F0 m 53 ls []) := by
          intro n53
          induction n53 with
          | zero =>
            intro j tot pa mi sh re hn53
            exact absurd hn53 (Nat.not_lt_zero _)
          | succ n53 ih53 =>
            intro j tot pa mi sh re hn53 hj et em H locs hR hq_P hS ls hl
            refine lv_iload hx hb dX1_breakDown_53 (lv_at hl 0 rfl) ?_
            refine lv_aload_n hx hb dX1_breakDown_55 rfl (lv_at hl 2 rfl) ?_
            refine x_alen hx hb hK hq_P.arr rfl (v := nI (S.1 1 0)) rfl dX1_breakDown_56 ?_
            refine xn_ge (tgt := 94) j (S.1 1 0) rfl rfl (by omega) (by omega) hx hb dX1_breakDown_57 (by decide) (fun c_57 => ?_) (fun c_57 => ?_)
            · have n_57 := Nat.not_lt.mpr c_57
              have hj9 : j = (S.1 1 0) := (by omega)
              subst hj9
              refine lv_iload hx hb dX1_breakDown_94 (lv_at hl 1 rfl) ?_
              refine lv_if_le (tgt := 293) hx hb dX1_breakDown_96 (by decide) (fun c_96 => ?_) (fun c_96 => ?_)
              · have n_96 := Int32.not_lt.mpr c_96
                refine lv_aload_n hx hb dX1_breakDown_293 rfl (lv_at hl 3 rfl) ?_
                refine lv_dup hx hb dX1_breakDown_294 rfl ?_
                refine g_X1_344 F hK (xw_0 hR) (v := .int (nI (S.1 4 0))) rfl dX1_breakDown_295 ?_
                refine lv_iconst (v := 1) hx hb dX1_breakDown_298 (by decide) ?_
                refine lv_iadd hx hb dX1_breakDown_299 ?_
                refine x_topi (nI_1 _) ?_
                refine p_X1_344 F hK hS (xw_0 hR) (xa_0 hR) (v := .int (nI (S.1 4 0 + 1))) rfl rfl (Nat.le_of_ble_eq_true rfl) dX1_breakDown_300 (fun H locs hat hof hS => ?_)
                have hR := xs_0_12 hR hof hat
                have hq_P := hq_P.world 0 0 rfl (by first | omega | exact Nat.zero_lt_one | exact (by first | exact Nat.zero_lt_one | decide | omega)) rfl hof
                refine lv_iload hx hb dX1_breakDown_303 (lv_at hl 1 rfl) ?_
                have hB : xBreakS S (nI mj) cost = S := if_pos (by rw [← et]; exact c_96)
                have e9 : xBreak S (nI mj) cost = (0, tot, (sN S 4 0 (S.1 4 0 + 1))) := by simp [xBreak, c_5, c_16, c_25, c_57, c_96, n_25, n_57, n_96, hB, ← et, nI_clamp (show mj < 2 ^ 31 by omega)]
                exact vx_ret (xr_Ci hx hb hr hlocks ((congrArg (fun q => q.2.1) e9).symm) (⟨congrArg Prod.fst e9, ad, z, by rw [show (xBreak S (nI mj) cost).2.2 = (sN S 4 0 (S.1 4 0 + 1)) from congrArg (fun q => q.2.2) e9]; exact hR, rfl⟩) hS (by first | omega | decide) (by first | omega | decide) dX1_breakDown_305)
              · have n_96 := Int32.not_le.mp c_96
                refine lv_iload_n hx hb dX1_breakDown_99 rfl (lv_at hl 5 rfl) ?_
                refine lv_istore (lv' := [(5, .int cost), (4, .int tot), (3, .ref q), (0, .ref (ad (0, 0))), (1, .int (nI mj)), (2, .int cost)]) hx hb dX1_breakDown_100 hl (by decide) rfl (fun ls hl => ?_)
                refine lv_aload_n hx hb dX1_breakDown_102 rfl (lv_at hl 2 rfl) ?_
                refine lv_astore (lv' := [(6, .ref q), (5, .int cost), (4, .int tot), (3, .ref q), (0, .ref (ad (0, 0))), (1, .int (nI mj)), (2, .int cost)]) hx hb dX1_breakDown_103 hl (by decide) rfl (fun ls hl => ?_)
                refine lv_aload hx hb dX1_breakDown_105 (lv_at hl 0 rfl) ?_
                refine x_alen hx hb hK hq_P.arr rfl (v := nI (S.1 1 0)) rfl dX1_breakDown_107 ?_
                refine lv_istore (lv' := [(7, .int (nI (S.1 1 0))), (6, .ref q), (5, .int cost), (4, .int tot), (3, .ref q), (0, .ref (ad (0, 0))), (1, .int (nI mj)), (2, .int cost)]) hx hb dX1_breakDown_108 hl (by decide) rfl (fun ls hl => ?_)
                refine lv_iconst (v := 0) hx hb dX1_breakDown_110 (by decide) ?_
                refine lv_istore (lv' := [(8, .int 0), (7, .int (nI (S.1 1 0))), (6, .ref q), (5, .int cost), (4, .int tot), (3, .ref q), (0, .ref (ad (0, 0))), (1, .int (nI mj)), (2, .int cost)]) hx hb dX1_breakDown_111 hl (by decide) rfl (fun ls hl => ?_)
                have L113 : ∀ (n : Nat) (i : Nat) (lf : Int32) (sh1 : Nat → Int32) (re1 : Nat → Int32), S.1 1 0 - i < n → (i ≤ (S.1 1 0)) → (lf = xLeft cost tot mi i) → (∀ k, k < i → sh1 k = xSh cost tot (mi k)) → (∀ k, k < i → re1 k = xRe cost tot (mi k)) → ∀ (H : Heap) (locs : List Loc), xRX G A S ad z H → xPs G A S ad z q pa (S.1 1 0) (S.1 1 0) mi sh1 re1 (nI mj) cost H → va_S A s.heap H locs → ∀ (ls : Array Slot), lv_has ls 11 [(8, .int (nI i)), (7, .int (nI (S.1 1 0))), (6, .ref q), (5, .int lf), (4, .int tot), (3, .ref q), (0, .ref (ad (0, 0))), (1, .int (nI mj)), (2, .int cost)] → W p l e (headSpec (ws_ yX1_breakDown cX1_breakDown 11 (some .int)) ({ frames := 7, cells := 11, slots := 70, locals := 101 } : Room)).room s m ([.ref (ad (0, 0)), .int (nI mj), .int cost] : List Value).toArray below meth c H locs (1 + S.1 1 0) (10 + 6 * S.1 1 0) (vx_MQ below (xQc (some (.int ((xBreak S (nI mj) cost).2.1))) (fun _ H => (xBreak S (nI mj) cost).1 = 0 ∧ ∃ ad9 z9, xRX G A (xBreak S (nI mj) cost).2.2 ad9 z9 H ∧ ad9 (0, 0) = ad (0, 0)) A) (xXc (fun E _ H => E = xExn (xBreak S (nI mj) cost).1 ∧ ¬ (xBreak S (nI mj) cost).1 = 0 ∧ ∃ z9, xRX G A S ad z9 H) A) ([.ref (ad (0, 0)), .int (nI mj), .int cost] : List Value).toArray s 11 70 A) (F0 m 113 ls []) := by
                  intro n113
                  induction n113 with
                  | zero =>
                    intro i lf sh1 re1 hn113
                    exact absurd hn113 (Nat.not_lt_zero _)
                  | succ n113 ih113 =>
                    intro i lf sh1 re1 hn113 hi elf esh ere H locs hR hq_P hS ls hl
                    have hnz : ¬ tot = 0 := fun q9 => c_96 (by rw [q9]; decide)
                    refine lv_iload hx hb dX1_breakDown_113 (lv_at hl 0 rfl) ?_
                    refine lv_iload hx hb dX1_breakDown_115 (lv_at hl 1 rfl) ?_
                    refine xn_ge (tgt := 145) i (S.1 1 0) rfl rfl (by omega) (by omega) hx hb dX1_breakDown_117 (by decide) (fun c_117 => ?_) (fun c_117 => ?_)
                    · have n_117 := Nat.not_lt.mpr c_117
                      have L145 : ∀ (n : Nat) (r : Nat) (xr : Int32) (sh2 : Nat → Int32) (re2 : Nat → Int32), r < n → (xr.toNatClampNeg = r) → (∀ k, k < (S.1 1 0) → xDist (S.1 1 0) r sh2 re2 k = (xDist (S.1 1 0) (xLeft cost (xTot S (nI mj) (S.1 1 0)) (fun j => xMin S (nI mj) (nI j)) (S.1 1 0)).toNatClampNeg (fun j => xSh cost (xTot S (nI mj) (S.1 1 0)) (xMin S (nI mj) (nI j))) (fun j => xRe cost (xTot S (nI mj) (S.1 1 0)) (xMin S (nI mj) (nI j)))) k) → ∀ (H : Heap) (locs : List Loc), xRX G A S ad z H → xPs G A S ad z q pa (S.1 1 0) (S.1 1 0) mi sh2 re2 (nI mj) cost H → va_S A s.heap H locs → ∀ (ls : Array Slot), lv_has ls 11 [(5, .int xr), (4, .int tot), (3, .ref q), (0, .ref (ad (0, 0))), (1, .int (nI mj)), (2, .int cost)] → W p l e (headSpec (ws_ yX1_breakDown cX1_breakDown 11 (some .int)) ({ frames := 7, cells := 11, slots := 70, locals := 101 } : Room)).room s m ([.ref (ad (0, 0)), .int (nI mj), .int cost] : List Value).toArray below meth c H locs (1 + S.1 1 0) (10 + 6 * S.1 1 0) (vx_MQ below (xQc (some (.int ((xBreak S (nI mj) cost).2.1))) (fun _ H => (xBreak S (nI mj) cost).1 = 0 ∧ ∃ ad9 z9, xRX G A (xBreak S (nI mj) cost).2.2 ad9 z9 H ∧ ad9 (0, 0) = ad (0, 0)) A) (xXc (fun E _ H => E = xExn (xBreak S (nI mj) cost).1 ∧ ¬ (xBreak S (nI mj) cost).1 = 0 ∧ ∃ z9, xRX G A S ad z9 H) A) ([.ref (ad (0, 0)), .int (nI mj), .int cost] : List Value).toArray s 11 70 A) (F0 m 145 ls []) := by
                        intro n145
                        induction n145 with
                        | zero =>
                          intro r xr sh2 re2 hn145
                          exact absurd hn145 (Nat.not_lt_zero _)
                        | succ n145 ih145 =>
                          intro r xr sh2 re2 hn145 hx9 esd H locs hR hq_P hS ls hl
                          have hN0 : 0 < (S.1 1 0) := (by rcases Nat.eq_zero_or_pos (S.1 1 0) with e9 | e9; (· exfalso; apply c_96; rw [et, e9]; exact (by decide : (0 : Int32) ≤ 0)); (· exact e9))
                          refine lv_iload hx hb dX1_breakDown_145 (lv_at hl 0 rfl) ?_
                          refine lv_if_le (tgt := 231) hx hb dX1_breakDown_147 (by decide) (fun c_147 => ?_) (fun c_147 => ?_)
                          · have n_147 := Int32.not_lt.mpr c_147
                            have hr0 : r = 0 := neg_nat hx9 c_147
                            subst hr0
                            have esd : ∀ k, k < (S.1 1 0) → sh2 k = (xDist (S.1 1 0) (xLeft cost (xTot S (nI mj) (S.1 1 0)) (fun j => xMin S (nI mj) (nI j)) (S.1 1 0)).toNatClampNeg (fun j => xSh cost (xTot S (nI mj) (S.1 1 0)) (xMin S (nI mj) (nI j))) (fun j => xRe cost (xTot S (nI mj) (S.1 1 0)) (xMin S (nI mj) (nI j)))) k := esd
                            refine lv_iconst (v := 0) hx hb dX1_breakDown_231 (by decide) ?_
                            refine lv_istore (lv' := [(6, .int 0), (5, .int xr), (4, .int tot), (3, .ref q), (0, .ref (ad (0, 0))), (1, .int (nI mj)), (2, .int cost)]) hx hb dX1_breakDown_232 hl (by decide) rfl (fun ls hl => ?_)
                            have L234 : ∀ (n : Nat) (i3 : Nat) (S2 : xS), S.1 1 0 - i3 < n → (i3 ≤ (S.1 1 0)) → (S2.1 = S.1) → (xW S2) → (S2 = xPayN S (S.1 4 0) (xDist (S.1 1 0) (xLeft cost (xTot S (nI mj) (S.1 1 0)) (fun j => xMin S (nI mj) (nI j)) (S.1 1 0)).toNatClampNeg (fun j => xSh cost (xTot S (nI mj) (S.1 1 0)) (xMin S (nI mj) (nI j))) (fun j => xRe cost (xTot S (nI mj) (S.1 1 0)) (xMin S (nI mj) (nI j)))) i3) → ∀ (H : Heap) (locs : List Loc), xRX G A S2 ad z H → xPs G A S ad z q pa (S.1 1 0) (S.1 1 0) mi sh2 re2 (nI mj) cost H → va_S A s.heap H locs → ∀ (ls : Array Slot), lv_has ls 11 [(6, .int (nI i3)), (5, .int xr), (4, .int tot), (3, .ref q), (0, .ref (ad (0, 0))), (1, .int (nI mj)), (2, .int cost)] → W p l e (headSpec (ws_ yX1_breakDown cX1_breakDown 11 (some .int)) ({ frames := 7, cells := 11, slots := 70, locals := 101 } : Room)).room s m ([.ref (ad (0, 0)), .int (nI mj), .int cost] : List Value).toArray below meth c H locs (1 + S.1 1 0) (10 + 6 * S.1 1 0) (vx_MQ below (xQc (some (.int ((xBreak S (nI mj) cost).2.1))) (fun _ H => (xBreak S (nI mj) cost).1 = 0 ∧ ∃ ad9 z9, xRX G A (xBreak S (nI mj) cost).2.2 ad9 z9 H ∧ ad9 (0, 0) = ad (0, 0)) A) (xXc (fun E _ H => E = xExn (xBreak S (nI mj) cost).1 ∧ ¬ (xBreak S (nI mj) cost).1 = 0 ∧ ∃ z9, xRX G A S ad z9 H) A) ([.ref (ad (0, 0)), .int (nI mj), .int cost] : List Value).toArray s 11 70 A) (F0 m 234 ls []) := by
                              intro n234
                              induction n234 with
                              | zero =>
                                intro i3 S2 hn234
                                exact absurd hn234 (Nat.not_lt_zero _)
                              | succ n234 ih234 =>
                                intro i3 S2 hn234 hi3n hN hWs eP H locs hR hq_P hS ls hl
                                have hN4 : S2.1 4 0 = S.1 4 0 := (by rw [hN])
                                have hN1 : S2.1 1 0 = S.1 1 0 := (by rw [hN])
                                have hs1 := hWs.1.2.1
                                refine lv_iload hx hb dX1_breakDown_234 (lv_at hl 0 rfl) ?_
                                refine lv_aload_n hx hb dX1_breakDown_236 rfl (lv_at hl 3 rfl) ?_
                                refine x_alen hx hb hK hq_P.arr rfl (v := nI (S.1 1 0)) rfl dX1_breakDown_237 ?_
                                refine xn_ge (tgt := 293) i3 (S.1 1 0) rfl rfl (by omega) (by omega) hx hb dX1_breakDown_238 (by decide) (fun c_238 => ?_) (fun c_238 => ?_)
                                · have n_238 := Nat.not_lt.mpr c_238
                                  refine lv_aload_n hx hb dX1_breakDown_293 rfl (lv_at hl 4 rfl) ?_
                                  refine lv_dup hx hb dX1_breakDown_294 rfl ?_
                                  refine g_X1_344 F hK (xw_0 hR) (v := .int (nI (S2.1 4 0))) rfl dX1_breakDown_295 ?_
                                  refine lv_iconst (v := 1) hx hb dX1_breakDown_298 (by decide) ?_
                                  refine lv_iadd hx hb dX1_breakDown_299 ?_
                                  refine x_topi (nI_1 _) ?_
                                  refine p_X1_344 F hK hS (xw_0 hR) (xa_0 hR) (v := .int (nI (S2.1 4 0 + 1))) rfl rfl (Nat.le_of_ble_eq_true rfl) dX1_breakDown_300 (fun H locs hat hof hS => ?_)
                                  have hR := xs_0_12 hR hof hat
                                  have hq_P := hq_P.world 0 0 rfl (by first | omega | exact Nat.zero_lt_one | exact (by first | exact Nat.zero_lt_one | decide | omega)) rfl hof
                                  refine lv_iload hx hb dX1_breakDown_303 (lv_at hl 2 rfl) ?_
                                  have hB : xBreakS S (nI mj) cost = S2 := by unfold xBreakS; rw [if_neg (by rw [← et]; exact c_96), eP]; have hi9 : i3 = (S.1 1 0) := (by omega); rw [hi9]
                                  have e9 : xBreak S (nI mj) cost = (0, tot, (sN S2 4 0 (S2.1 4 0 + 1))) := by simp [xBreak, c_5, c_16, c_25, c_57, c_96, c_117, c_147, c_238, n_25, n_57, n_96, n_117, n_147, n_238, hB, ← et, hN4, nI_clamp (show mj < 2 ^ 31 by omega)]
                                  exact vx_ret (xr_Ci hx hb hr hlocks ((congrArg (fun q => q.2.1) e9).symm) (⟨congrArg Prod.fst e9, ad, z, by rw [show (xBreak S (nI mj) cost).2.2 = (sN S2 4 0 (S2.1 4 0 + 1)) from congrArg (fun q => q.2.2) e9]; exact hR, rfl⟩) hS (by first | omega | decide) (by first | omega | decide) dX1_breakDown_305)
                                · have n_238 := Nat.not_le.mpr c_238
                                  have hi3 : i3 < S2.1 1 0 := (by omega)
                                  refine lv_aload_n hx hb dX1_breakDown_241 rfl (lv_at hl 4 rfl) ?_
                                  refine g_X1_71 F hK (xw_0 hR) (v := .ref (ad (13, 0))) rfl dX1_breakDown_242 ?_
                                  refine lv_aload_n hx hb dX1_breakDown_245 rfl (lv_at hl 4 rfl) ?_
                                  refine g_X1_344 F hK (xw_0 hR) (v := .int (nI (S2.1 4 0))) rfl dX1_breakDown_246 ?_
                                  refine x_aald hx hb hK (xw_13 hR) rfl rfl (v := .ref (ad (14, S2.1 4 0))) (xi_nI (n := 20) (by first | omega | assumption) (by first | omega | (show S.1 1 0 < 2 ^ 31; omega) | (show S2.1 1 0 < 2 ^ 31; omega))) (rfl) dX1_breakDown_249 ?_
                                  refine lv_iload hx hb dX1_breakDown_250 (lv_at hl 0 rfl) ?_
                                  refine lv_aload_n hx hb dX1_breakDown_252 rfl (lv_at hl 3 rfl) ?_
                                  refine lv_iload hx hb dX1_breakDown_253 (lv_at hl 0 rfl) ?_
                                  refine x_aald hx hb hK hq_P.arr rfl rfl (v := .ref (pa i3)) (xi_nI (n := (S.1 1 0)) (by omega) (by omega)) (if_pos (by omega)) dX1_breakDown_255 ?_
                                  refine g_X1_359 F hWK g hK (hq_P.at (by omega)) (v := .int (sh2 i3)) rfl dX1_breakDown_256 ?_
                                  refine x_iast hx hb hK hS (xw_14 hR (by first | omega | assumption)) (xa_14 hR (by first | omega | assumption)) (xi_nI (n := 10) (by first | omega | assumption) (by first | omega | (show S.1 1 0 < 2 ^ 31; omega) | (show S2.1 1 0 < 2 ^ 31; omega))) dX1_breakDown_259 (fun H locs hat hof hS => ?_)
                                  have hR := xs_14_a hR (by first | omega | assumption) hof hat
                                  have hq_P := hq_P.world 14 (S2.1 4 0) rfl (by first | omega | exact Nat.zero_lt_one | exact (by first | omega | assumption)) rfl hof
                                  refine lv_aload_n hx hb dX1_breakDown_260 rfl (lv_at hl 4 rfl) ?_
                                  refine g_X1_33 F hK (xw_0 hR) (v := .ref (ad (4, 0))) rfl dX1_breakDown_261 ?_
                                  refine lv_iload hx hb dX1_breakDown_264 (lv_at hl 0 rfl) ?_
                                  refine xc_P (va_runV (As := [.int (nI i3)]) (rest := []) F (xJ2_get_21 g1 (A := A) (S := (sF S2 25 (S2.1 4 0) i3 (sh2 i3))) (ad := ad) (z := z) (xi_nI (n := ((sF S2 25 (S2.1 4 0) i3 (sh2 i3)).1 1 0)) (by first | omega | assumption) (by first | omega | (show S.1 1 0 < 2 ^ 31; omega) | (show S2.1 1 0 < 2 ^ 31; omega))) (by first | assumption | omega)) (cwV 1 hts (lw_V q486 q487 q488 q60 q489) rfl rfl rfl hdV_J2_get ⟨Nat.le_of_ble_eq_true rfl, Nat.le_of_ble_eq_true rfl⟩) (xpreV (xrecv hK (xw_4 hR) rfl) hWK hS hR) rfl rfl hl.1 rfl (lv_room (Nat.le_of_ble_eq_true rfl)) dX1_breakDown_266 ⟨by simp only [headSpec]; omega, by simp only [headSpec]; omega⟩) ?_
                                  refine x_castO F hK rfl (xw_21 hR (xi_nI (n := ((sF S2 25 (S2.1 4 0) i3 (sh2 i3)).1 1 0)) (by first | omega | assumption) (by first | omega | (show S.1 1 0 < 2 ^ 31; omega) | (show S2.1 1 0 < 2 ^ 31; omega))).lt) (hts _ q500) dX1_breakDown_269 ?_
                                  refine lv_dup hx hb dX1_breakDown_272 rfl ?_
                                  refine g_X1_362 F hWK g hK (xw_21 hR (xi_nI (n := ((sF S2 25 (S2.1 4 0) i3 (sh2 i3)).1 1 0)) (by first | omega | assumption) (by first | omega | (show S.1 1 0 < 2 ^ 31; omega) | (show S2.1 1 0 < 2 ^ 31; omega))).lt) (v := .int (S2.2.1 4 i3 0)) rfl dX1_breakDown_273 ?_
                                  refine lv_aload_n hx hb dX1_breakDown_276 rfl (lv_at hl 3 rfl) ?_
                                  refine lv_iload hx hb dX1_breakDown_277 (lv_at hl 0 rfl) ?_
                                  refine x_aald hx hb hK hq_P.arr rfl rfl (v := .ref (pa i3)) (xi_nI (n := (S.1 1 0)) (by omega) (by omega)) (if_pos (by omega)) dX1_breakDown_279 ?_
                                  refine g_X1_359 F hWK g hK (hq_P.at (by omega)) (v := .int (sh2 i3)) rfl dX1_breakDown_280 ?_
                                  refine lv_iadd hx hb dX1_breakDown_283 ?_
                                  refine p_X1_362 F hWK g hK hS (xw_21 hR (xi_nI (n := ((sF S2 25 (S2.1 4 0) i3 (sh2 i3)).1 1 0)) (by first | omega | assumption) (by first | omega | (show S.1 1 0 < 2 ^ 31; omega) | (show S2.1 1 0 < 2 ^ 31; omega))).lt) (xa_21 hR (xi_nI (n := ((sF S2 25 (S2.1 4 0) i3 (sh2 i3)).1 1 0)) (by first | omega | assumption) (by first | omega | (show S.1 1 0 < 2 ^ 31; omega) | (show S2.1 1 0 < 2 ^ 31; omega))).lt) (v := .int ((S2.2.1 4 i3 0) + (sh2 i3))) rfl rfl (Nat.le_of_ble_eq_true rfl) dX1_breakDown_284 (fun H locs hat hof hS => ?_)
                                  have hR := xs_21_1 hR (xi_nI (n := ((sF S2 25 (S2.1 4 0) i3 (sh2 i3)).1 1 0)) (by first | omega | assumption) (by first | omega | (show S.1 1 0 < 2 ^ 31; omega) | (show S2.1 1 0 < 2 ^ 31; omega))).lt hof hat
                                  have hq_P := hq_P.world 21 i3 rfl (by first | omega | exact Nat.zero_lt_one | exact (xi_nI (n := ((sF S2 25 (S2.1 4 0) i3 (sh2 i3)).1 1 0)) (by first | omega | assumption) (by first | omega | (show S.1 1 0 < 2 ^ 31; omega) | (show S2.1 1 0 < 2 ^ 31; omega))).lt) rfl hof
                                  refine lv_iinc (v := nI (i3 + 1)) (lv' := [(6, .int (nI (i3 + 1))), (5, .int xr), (4, .int tot), (3, .ref q), (0, .ref (ad (0, 0))), (1, .int (nI mj)), (2, .int cost)]) hx hb dX1_breakDown_287 hl (k := 0) rfl (nI_1 _) (by decide) rfl (fun ls hl => ?_)
                                  refine lv_goto (tgt := 234) hx hb dX1_breakDown_290 (by decide) ?_
                                  exact ih234 (i3 + 1) (sF (sF S2 25 (S2.1 4 0) i3 (sh2 i3)) 4 i3 0 ((S2.2.1 4 i3 0) + (sh2 i3))) (by omega) (by omega) hN (xW_F (xW_F hWs 25 _ _ _ (by decide)) 4 _ _ _ (by decide)) (by show _ = sF (sF (xPayN S (S.1 4 0) (xDist (S.1 1 0) (xLeft cost (xTot S (nI mj) (S.1 1 0)) (fun j => xMin S (nI mj) (nI j)) (S.1 1 0)).toNatClampNeg (fun j => xSh cost (xTot S (nI mj) (S.1 1 0)) (xMin S (nI mj) (nI j))) (fun j => xRe cost (xTot S (nI mj) (S.1 1 0)) (xMin S (nI mj) (nI j)))) i3) 25 (S.1 4 0) i3 ((xDist (S.1 1 0) (xLeft cost (xTot S (nI mj) (S.1 1 0)) (fun j => xMin S (nI mj) (nI j)) (S.1 1 0)).toNatClampNeg (fun j => xSh cost (xTot S (nI mj) (S.1 1 0)) (xMin S (nI mj) (nI j))) (fun j => xRe cost (xTot S (nI mj) (S.1 1 0)) (xMin S (nI mj) (nI j)))) i3)) 4 i3 0 ((xPayN S (S.1 4 0) (xDist (S.1 1 0) (xLeft cost (xTot S (nI mj) (S.1 1 0)) (fun j => xMin S (nI mj) (nI j)) (S.1 1 0)).toNatClampNeg (fun j => xSh cost (xTot S (nI mj) (S.1 1 0)) (xMin S (nI mj) (nI j))) (fun j => xRe cost (xTot S (nI mj) (S.1 1 0)) (xMin S (nI mj) (nI j)))) i3).2.1 4 i3 0 + (xDist (S.1 1 0) (xLeft cost (xTot S (nI mj) (S.1 1 0)) (fun j => xMin S (nI mj) (nI j)) (S.1 1 0)).toNatClampNeg (fun j => xSh cost (xTot S (nI mj) (S.1 1 0)) (xMin S (nI mj) (nI j))) (fun j => xRe cost (xTot S (nI mj) (S.1 1 0)) (xMin S (nI mj) (nI j)))) i3); rw [← eP, ← esd i3 (by omega), hN4]) _ _ hR hq_P hS ls (lv_sub hl [0, 1, 2, 3, 4, 5, 6] rfl)
                            exact L234 (S.1 1 0 + 1) 0 S (by omega) (Nat.zero_le _) rfl hW rfl _ _ hR hq_P hS ls (lv_sub hl [0, 1, 2, 3, 4, 5, 6] rfl)
                          · have n_147 := Int32.not_le.mp c_147
                            obtain ⟨r9, hr9, rfl, rfl⟩ := pos_nat hx9 c_147
                            refine lv_aload_n hx hb dX1_breakDown_150 rfl (lv_at hl 2 rfl) ?_
                            refine lv_iconst (v := 0) hx hb dX1_breakDown_151 (by decide) ?_
                            refine x_aald hx hb hK hq_P.arr rfl rfl (v := .ref (pa 0)) (⟨fun q9 => by rcases q9 with q9 | q9; (· exact absurd q9 (by decide)); (· have q8 : S.1 1 0 ≤ 0 := q9; omega), rfl⟩ : xi 0 0 (S.1 1 0)) (if_pos (by omega)) dX1_breakDown_152 ?_
                            refine lv_astore (lv' := [(6, .ref (pa 0)), (5, .int (nI (r9 + 1))), (4, .int tot), (3, .ref q), (0, .ref (ad (0, 0))), (1, .int (nI mj)), (2, .int cost)]) hx hb dX1_breakDown_153 hl (by decide) rfl (fun ls hl => ?_)
                            refine lv_aload_n hx hb dX1_breakDown_155 rfl (lv_at hl 3 rfl) ?_
                            refine lv_astore (lv' := [(7, .ref q), (6, .ref (pa 0)), (5, .int (nI (r9 + 1))), (4, .int tot), (3, .ref q), (0, .ref (ad (0, 0))), (1, .int (nI mj)), (2, .int cost)]) hx hb dX1_breakDown_156 hl (by decide) rfl (fun ls hl => ?_)
                            refine lv_aload hx hb dX1_breakDown_158 (lv_at hl 0 rfl) ?_
                            refine x_alen hx hb hK hq_P.arr rfl (v := nI (S.1 1 0)) rfl dX1_breakDown_160 ?_
                            refine lv_istore (lv' := [(8, .int (nI (S.1 1 0))), (7, .ref q), (6, .ref (pa 0)), (5, .int (nI (r9 + 1))), (4, .int tot), (3, .ref q), (0, .ref (ad (0, 0))), (1, .int (nI mj)), (2, .int cost)]) hx hb dX1_breakDown_161 hl (by decide) rfl (fun ls hl => ?_)
                            refine lv_iconst (v := 0) hx hb dX1_breakDown_163 (by decide) ?_
                            refine lv_istore (lv' := [(9, .int 0), (8, .int (nI (S.1 1 0))), (7, .ref q), (6, .ref (pa 0)), (5, .int (nI (r9 + 1))), (4, .int tot), (3, .ref q), (0, .ref (ad (0, 0))), (1, .int (nI mj)), (2, .int cost)]) hx hb dX1_breakDown_164 hl (by decide) rfl (fun ls hl => ?_)
                            have L166 : ∀ (n : Nat) (i2 : Nat) (bs : Nat), S.1 1 0 - i2 < n → (i2 ≤ (S.1 1 0)) → (bs < (S.1 1 0)) → (bs = xTopN re2 i2) → ∀ (ls : Array Slot), lv_has ls 11 [(9, .int (nI i2)), (8, .int (nI (S.1 1 0))), (7, .ref q), (6, .ref (pa bs)), (5, .int (nI (r9 + 1))), (4, .int tot), (3, .ref q), (0, .ref (ad (0, 0))), (1, .int (nI mj)), (2, .int cost)] → W p l e (headSpec (ws_ yX1_breakDown cX1_breakDown 11 (some .int)) ({ frames := 7, cells := 11, slots := 70, locals := 101 } : Room)).room s m ([.ref (ad (0, 0)), .int (nI mj), .int cost] : List Value).toArray below meth c H locs (1 + S.1 1 0) (10 + 6 * S.1 1 0) (vx_MQ below (xQc (some (.int ((xBreak S (nI mj) cost).2.1))) (fun _ H => (xBreak S (nI mj) cost).1 = 0 ∧ ∃ ad9 z9, xRX G A (xBreak S (nI mj) cost).2.2 ad9 z9 H ∧ ad9 (0, 0) = ad (0, 0)) A) (xXc (fun E _ H => E = xExn (xBreak S (nI mj) cost).1 ∧ ¬ (xBreak S (nI mj) cost).1 = 0 ∧ ∃ z9, xRX G A S ad z9 H) A) ([.ref (ad (0, 0)), .int (nI mj), .int cost] : List Value).toArray s 11 70 A) (F0 m 166 ls []) := by
                              intro n166
                              induction n166 with
                              | zero =>
                                intro i2 bs hn166
                                exact absurd hn166 (Nat.not_lt_zero _)
                              | succ n166 ih166 =>
                                intro i2 bs hn166 hi2 hbs eb ls hl
                                refine lv_iload hx hb dX1_breakDown_166 (lv_at hl 0 rfl) ?_
                                refine lv_iload hx hb dX1_breakDown_168 (lv_at hl 1 rfl) ?_
                                refine xn_ge (tgt := 208) i2 (S.1 1 0) rfl rfl (by omega) (by omega) hx hb dX1_breakDown_170 (by decide) (fun c_170 => ?_) (fun c_170 => ?_)
                                · have n_170 := Nat.not_lt.mpr c_170
                                  have hi29 : i2 = (S.1 1 0) := (by omega)
                                  have ebN : bs = xTopN re2 (S.1 1 0) := (by rw [← hi29]; exact eb)
                                  refine lv_aload hx hb dX1_breakDown_208 (lv_at hl 3 rfl) ?_
                                  refine lv_dup hx hb dX1_breakDown_210 rfl ?_
                                  refine g_X1_359 F hWK g hK (hq_P.at (by omega)) (v := .int (sh2 bs)) rfl dX1_breakDown_211 ?_
                                  refine lv_iconst (v := 1) hx hb dX1_breakDown_214 (by decide) ?_
                                  refine lv_iadd hx hb dX1_breakDown_215 ?_
                                  refine p_X1_359 F hWK g hK hS (hq_P.at (by omega)) (hq_P.inA (by omega)) (v := .int ((sh2 bs) + 1)) rfl rfl (Nat.le_of_ble_eq_true rfl) dX1_breakDown_216 (fun H locs hat hof hS => ?_)
                                  have hR := hR.off (hq_P.fr (by omega)) hof
                                  have hq_P := hq_P.setSh (by omega) hat hof
                                  clear hat hof
                                  refine lv_aload hx hb dX1_breakDown_219 (lv_at hl 3 rfl) ?_
                                  refine lv_iconst (v := (-1)) hx hb dX1_breakDown_221 (by decide) ?_
                                  refine p_X1_356 F hWK g hK hS (hq_P.at (by omega)) (hq_P.inA (by omega)) (v := .int (-1)) rfl rfl (Nat.le_of_ble_eq_true rfl) dX1_breakDown_222 (fun H locs hat hof hS => ?_)
                                  have hR := hR.off (hq_P.fr (by omega)) hof
                                  have hq_P := hq_P.setRe (by omega) hat hof
                                  clear hat hof
                                  refine lv_iinc (v := nI r9) (lv' := [(5, .int (nI r9)), (9, .int (nI i2)), (8, .int (nI (S.1 1 0))), (7, .ref q), (6, .ref (pa bs)), (4, .int tot), (3, .ref q), (0, .ref (ad (0, 0))), (1, .int (nI mj)), (2, .int cost)]) hx hb dX1_breakDown_225 hl (k := 4) rfl (pk_m1 _) (by decide) rfl (fun ls hl => ?_)
                                  refine lv_goto (tgt := 145) hx hb dX1_breakDown_228 (by decide) ?_
                                  exact ih145 r9 (nI r9) _ _ (by omega) (nI_clamp (by omega)) (by intro k hk; rw [ebN]; exact esd k hk) _ _ hR hq_P hS ls (lv_sub hl [0, 5, 6, 7, 8, 9] rfl)
                                · have n_170 := Nat.not_le.mpr c_170
                                  refine lv_aload hx hb dX1_breakDown_173 (lv_at hl 2 rfl) ?_
                                  refine lv_iload hx hb dX1_breakDown_175 (lv_at hl 0 rfl) ?_
                                  refine x_aald hx hb hK hq_P.arr rfl rfl (v := .ref (pa i2)) (xi_nI (n := (S.1 1 0)) (by omega) (by omega)) (if_pos (by omega)) dX1_breakDown_177 ?_
                                  refine lv_astore (lv' := [(10, .ref (pa i2)), (9, .int (nI i2)), (8, .int (nI (S.1 1 0))), (7, .ref q), (6, .ref (pa bs)), (5, .int (nI (r9 + 1))), (4, .int tot), (3, .ref q), (0, .ref (ad (0, 0))), (1, .int (nI mj)), (2, .int cost)]) hx hb dX1_breakDown_178 hl (by decide) rfl (fun ls hl => ?_)
                                  refine lv_aload hx hb dX1_breakDown_180 (lv_at hl 0 rfl) ?_
                                  refine g_X1_356 F hWK g hK (hq_P.at (by omega)) (v := .int (re2 i2)) rfl dX1_breakDown_182 ?_
                                  refine lv_aload hx hb dX1_breakDown_185 (lv_at hl 4 rfl) ?_
                                  refine g_X1_356 F hWK g hK (hq_P.at (by omega)) (v := .int (re2 bs)) rfl dX1_breakDown_187 ?_
                                  refine lv_icmp_le (tgt := 198) hx hb dX1_breakDown_190 (by decide) (fun c_190 => ?_) (fun c_190 => ?_)
                                  · have n_190 := Int32.not_lt.mpr c_190
                                    refine lv_aload hx hb dX1_breakDown_198 (lv_at hl 4 rfl) ?_
                                    refine lv_astore (lv' := [(6, .ref (pa bs)), (10, .ref (pa i2)), (9, .int (nI i2)), (8, .int (nI (S.1 1 0))), (7, .ref q), (5, .int (nI (r9 + 1))), (4, .int tot), (3, .ref q), (0, .ref (ad (0, 0))), (1, .int (nI mj)), (2, .int cost)]) hx hb dX1_breakDown_200 hl (by decide) rfl (fun ls hl => ?_)
                                    refine lv_iinc (v := nI (i2 + 1)) (lv' := [(9, .int (nI (i2 + 1))), (6, .ref (pa bs)), (10, .ref (pa i2)), (8, .int (nI (S.1 1 0))), (7, .ref q), (5, .int (nI (r9 + 1))), (4, .int tot), (3, .ref q), (0, .ref (ad (0, 0))), (1, .int (nI mj)), (2, .int cost)]) hx hb dX1_breakDown_202 hl (k := 2) rfl (nI_1 _) (by decide) rfl (fun ls hl => ?_)
                                    refine lv_goto (tgt := 166) hx hb dX1_breakDown_205 (by decide) ?_
                                    exact ih166 (i2 + 1) bs (by omega) (by omega) (by omega) (by rw [xTopN, ← eb]; simp [c_190, n_190]) ls (lv_sub hl [0, 3, 4, 1, 5, 6, 7, 8, 9, 10] rfl)
                                  · have n_190 := Int32.not_le.mp c_190
                                    refine lv_aload hx hb dX1_breakDown_193 (lv_at hl 0 rfl) ?_
                                    refine lv_goto (tgt := 200) hx hb dX1_breakDown_195 (by decide) ?_
                                    refine lv_astore (lv' := [(6, .ref (pa i2)), (10, .ref (pa i2)), (9, .int (nI i2)), (8, .int (nI (S.1 1 0))), (7, .ref q), (5, .int (nI (r9 + 1))), (4, .int tot), (3, .ref q), (0, .ref (ad (0, 0))), (1, .int (nI mj)), (2, .int cost)]) hx hb dX1_breakDown_200 hl (by decide) rfl (fun ls hl => ?_)
                                    refine lv_iinc (v := nI (i2 + 1)) (lv' := [(9, .int (nI (i2 + 1))), (6, .ref (pa i2)), (10, .ref (pa i2)), (8, .int (nI (S.1 1 0))), (7, .ref q), (5, .int (nI (r9 + 1))), (4, .int tot), (3, .ref q), (0, .ref (ad (0, 0))), (1, .int (nI mj)), (2, .int cost)]) hx hb dX1_breakDown_202 hl (k := 2) rfl (nI_1 _) (by decide) rfl (fun ls hl => ?_)
                                    refine lv_goto (tgt := 166) hx hb dX1_breakDown_205 (by decide) ?_
                                    exact ih166 (i2 + 1) i2 (by omega) (by omega) (by omega) (by rw [xTopN, ← eb]; simp [c_190, n_190]) ls (lv_sub hl [0, 3, 4, 1, 5, 6, 7, 8, 9, 10] rfl)
                            exact L166 (S.1 1 0 + 1) 0 0 (by omega) (Nat.zero_le _) hN0 rfl ls (lv_sub hl [0, 1, 2, 3, 4, 5, 6, 7, 8, 9] rfl)
                      have hN0 : 0 < (S.1 1 0) := (by rcases Nat.eq_zero_or_pos (S.1 1 0) with e9 | e9; (· exfalso; apply c_96; rw [et, e9]; exact (by decide : (0 : Int32) ≤ 0)); (· exact e9))
                      have hi9 : i = (S.1 1 0) := (by omega)
                      subst hi9
                      have elf2 : lf = (xLeft cost (xTot S (nI mj) (S.1 1 0)) (fun j => xMin S (nI mj) (nI j)) (S.1 1 0)) := (by rw [elf, et]; exact xLeft_c em (Nat.le_refl _))
                      exact L145 (lf.toNatClampNeg + 1) lf.toNatClampNeg lf sh1 re1 (by omega) rfl (fun k hk => by rw [elf2]; exact xDist_c hN0 _ (fun k hk => by rw [esh k hk, em k hk, et]) (fun k hk => by rw [ere k hk, em k hk, et]) k hk) _ _ hR hq_P hS ls (lv_sub hl [3, 4, 5, 6, 7, 8] rfl)
                    · have n_117 := Nat.not_le.mpr c_117
                      refine lv_aload hx hb dX1_breakDown_120 (lv_at hl 2 rfl) ?_
                      refine lv_iload hx hb dX1_breakDown_122 (lv_at hl 0 rfl) ?_
                      refine x_aald hx hb hK hq_P.arr rfl rfl (v := .ref (pa i)) (xi_nI (n := (S.1 1 0)) (by omega) (by omega)) (if_pos (by omega)) dX1_breakDown_124 ?_
                      refine lv_astore (lv' := [(9, .ref (pa i)), (8, .int (nI i)), (7, .int (nI (S.1 1 0))), (6, .ref q), (5, .int lf), (4, .int tot), (3, .ref q), (0, .ref (ad (0, 0))), (1, .int (nI mj)), (2, .int cost)]) hx hb dX1_breakDown_125 hl (by decide) rfl (fun ls hl => ?_)
                      refine lv_iload hx hb dX1_breakDown_127 (lv_at hl 4 rfl) ?_
                      refine lv_aload hx hb dX1_breakDown_129 (lv_at hl 0 rfl) ?_
                      refine lv_iload hx hb dX1_breakDown_131 (lv_at hl 5 rfl) ?_
                      have hiN : i < (S.1 1 0) := by omega
                      refine xc_C (va_runV (As := [.int tot]) (rest := [.int lf]) F (xX10_bears g1 (A := A) (pa i) (ad (0, 0)) (mi i) (sh1 i) (re1 i) (nI mj) cost tot hnz) (cwV 1 hts (lw_V q1388 q1389 q1390 q91 q1391) rfl rfl rfl hdV_X10_bears ⟨Nat.le_of_ble_eq_true rfl, Nat.le_of_ble_eq_true rfl⟩) (xpreV (xrecv hK (hq_P.at hiN) rfl) hWK hS ⟨hq_P.at hiN, hq_P.inA hiN⟩) rfl rfl hl.1 rfl (lv_room (Nat.le_of_ble_eq_true rfl)) dX1_breakDown_133 ⟨by simp only [headSpec]; omega, by simp only [headSpec]; omega⟩) hS (fun H locs hR1 hz hk hS => ?_)
                      obtain ⟨hat, h9⟩ := hR1
                      have hR := hR.og (hq_P.fr hiN) h9
                      have hq_P := hq_P.set (mi1 := mi) (sh1 := upd sh1 i (xSh cost tot (mi i))) (re1 := upd re1 i (xRe cost tot (mi i))) hiN h9.off (by simpa [upd] using hat) (fun j hj => ⟨rfl, by simp [upd, hj], by simp [upd, hj]⟩)
                      clear hat h9 hz hk
                      refine lv_isub hx hb dX1_breakDown_136 ?_
                      refine lv_istore (lv' := [(5, .int (lf - (xSh cost tot (mi i)))), (9, .ref (pa i)), (8, .int (nI i)), (7, .int (nI (S.1 1 0))), (6, .ref q), (4, .int tot), (3, .ref q), (0, .ref (ad (0, 0))), (1, .int (nI mj)), (2, .int cost)]) hx hb dX1_breakDown_137 hl (by decide) rfl (fun ls hl => ?_)
                      refine lv_iinc (v := nI (i + 1)) (lv' := [(8, .int (nI (i + 1))), (5, .int (lf - (xSh cost tot (mi i)))), (9, .ref (pa i)), (7, .int (nI (S.1 1 0))), (6, .ref q), (4, .int tot), (3, .ref q), (0, .ref (ad (0, 0))), (1, .int (nI mj)), (2, .int cost)]) hx hb dX1_breakDown_139 hl (k := 2) rfl (nI_1 _) (by decide) rfl (fun ls hl => ?_)
                      refine lv_goto (tgt := 113) hx hb dX1_breakDown_142 (by decide) ?_
                      exact ih113 (i + 1) (lf - (xSh cost tot (mi i))) _ _ (by omega) (by omega) (by rw [elf]; rfl) (fun k hk => by unfold upd; split; (· next e9 => rw [e9]); (· exact esh k (by omega))) (fun k hk => by unfold upd; split; (· next e9 => rw [e9]); (· exact ere k (by omega))) _ _ hR hq_P hS ls (lv_sub hl [0, 3, 4, 1, 5, 6, 7, 8, 9] rfl)
                have hnz : ¬ tot = 0 := fun q9 => c_96 (by rw [q9]; decide)
                exact L113 (S.1 1 0 + 1) 0 cost sh re (by omega) (Nat.zero_le _) rfl (fun k hk => absurd hk (Nat.not_lt_zero _)) (fun k hk => absurd hk (Nat.not_lt_zero _)) _ _ hR hq_P hS ls (lv_sub hl [0, 1, 2, 3, 4, 5, 6, 7, 8] rfl)
            · have n_57 := Nat.not_le.mpr c_57
              refine lv_aload_n hx hb dX1_breakDown_60 rfl (lv_at hl 2 rfl) ?_
              refine lv_iload hx hb dX1_breakDown_61 (lv_at hl 0 rfl) ?_
              refine x_new (ci := 9) F hK in_X10 tyX10 tyX10_ok rfl (hts _ q1356) (hts _ q1358) (hts _ q91) df10 (by simp only [headSpec]; omega) (by simp only [headSpec]; omega) dX1_breakDown_63 (fun H1 hO hz hg => ?_)
              have hfx := hR.fresh
              have hA9 : A (Array.size H) := hWK.2.2.2.1 _ hS.1
              have hR := hR.grow hg
              have hnq : Array.size H ≠ q := Nat.ne_of_gt hq_P.arr.lt
              have hnp : ∀ k, k < j → pa k ≠ Array.size H := fun k hk => Nat.ne_of_lt (hq_P.at hk).lt
              have hq_P := hq_P.kept (hg.2 _ hq_P.arr.lt) (fun k hk => hg.2 _ (hq_P.at hk).lt)
              have hS := hg.S hS
              clear hz hg
              generalize Array.size H = x at hO hA9 hfx hnq hnp ⊢
              generalize H1 = H at hO hR hq_P hS ⊢
              refine lv_dup hx hb dX1_breakDown_66 rfl ?_
              refine lv_aload_n hx hb dX1_breakDown_67 rfl (lv_at hl 3 rfl) ?_
              refine lv_iload hx hb dX1_breakDown_68 (lv_at hl 0 rfl) ?_
              refine lv_iload_n hx hb dX1_breakDown_70 rfl (lv_at hl 4 rfl) ?_
              refine lv_iload_n hx hb dX1_breakDown_71 rfl (lv_at hl 5 rfl) ?_
              refine xc_C0 (va_runI (As := [.ref (ad (0, 0)), .int (nI j), .int (nI mj), .int cost]) (rest := [.ref x, .int (nI j), .ref q]) F (xX10_init g1 (A := A) (S := S) (ad := ad) (z := z) x (nI j) (nI mj) cost hW) (xcI 4 hts q1359 q1360 q91 q1361 rfl (by decide +kernel) ⟨Nat.le_of_ble_eq_true rfl, Nat.le_of_ble_eq_true rfl⟩) (xpre hWK hS ⟨hR, hO, hA9, hfx⟩) rfl rfl hl.1 rfl (lv_room (Nat.le_of_ble_eq_true rfl)) dX1_breakDown_72 ⟨by simp only [headSpec]; omega, by simp only [headSpec]; omega⟩) hS (fun H locs hR1 hz hk hS => ?_)
              obtain ⟨hO, h9⟩ := hR1
              have hR := hR.og hfx h9
              have hq_P := hq_P.kept (h9.2 _ hq_P.arr.lt hnq.symm) (fun k hk => h9.2 _ (hq_P.at hk).lt (hnp k hk))
              clear h9 hz hk
              refine x_aastO hx hb hK hS hq_P.arr hq_P.1.2.1 (ci := 9) rfl rfl (xi_nI (n := (S.1 1 0)) (by omega) (by omega)) hO dX1_breakDown_75 (fun H locs hat hof hS => ?_)
              have hR := hR.off hq_P.1.2.2 hof
              have hO := hof.at hO hnq
              have hq_P := hq_P.more hA9 hfx hnq hnp hO hat (fun k hk => hof.2 _ (hq_P.2.1 k hk).2.2.2)
              clear hat hof
              refine lv_iload hx hb dX1_breakDown_76 (lv_at hl 1 rfl) ?_
              refine lv_aload_n hx hb dX1_breakDown_78 rfl (lv_at hl 2 rfl) ?_
              refine lv_iload hx hb dX1_breakDown_79 (lv_at hl 0 rfl) ?_
              refine x_aald hx hb hK hq_P.arr rfl rfl (v := .ref x) (xi_nI (n := (S.1 1 0)) (by omega) (by omega)) (by simp) dX1_breakDown_81 ?_
              refine g_X1_352 F hWK g hK hO (v := .int (xMin S (nI mj) (nI j))) rfl dX1_breakDown_82 ?_
              refine lv_iadd hx hb dX1_breakDown_85 ?_
              refine lv_istore (lv' := [(4, .int (tot + (xMin S (nI mj) (nI j)))), (5, .int (nI j)), (3, .ref q), (0, .ref (ad (0, 0))), (1, .int (nI mj)), (2, .int cost)]) hx hb dX1_breakDown_86 hl (by decide) rfl (fun ls hl => ?_)
              refine lv_iinc (v := nI (j + 1)) (lv' := [(5, .int (nI (j + 1))), (4, .int (tot + (xMin S (nI mj) (nI j)))), (3, .ref q), (0, .ref (ad (0, 0))), (1, .int (nI mj)), (2, .int cost)]) hx hb dX1_breakDown_88 hl (k := 1) rfl (nI_1 _) (by decide) rfl (fun ls hl => ?_)
              refine lv_goto (tgt := 53) hx hb dX1_breakDown_91 (by decide) ?_
              refine W.widen (k := 1 + (j + 1)) (n := 10 + 6 * (j + 1)) (by omega) (by omega) ?_
              exact ih53 (j + 1) (tot + (xMin S (nI mj) (nI j))) _ _ _ _ (by omega) (by omega) (by rw [et]; rfl) (fun k hk => by unfold upd; split; (· next e9 => rw [e9]); (· exact em k (by omega))) _ _ hR hq_P hS ls (lv_sub hl [0, 1, 2, 3, 4, 5] rfl)
        exact L53 (S.1 1 0 + 1) 0 0 (fun _ => 0) (fun _ => 0) (fun _ => 0) (fun _ => 0) (by omega) (by omega) rfl (fun k hk => absurd hk (Nat.not_lt_zero _)) _ _ hR hq_P hS ls (lv_sub hl [0, 1, 2, 3, 4, 5] rfl)
    · have e9 : (xBreak S machine cost).1 = 1 := by simp [xBreak, c_5, c_16]
      exact xc_T (vx_runS (As := [.int (bI (inI cost 1 100000))]) (rest := []) F (xX1_want_no g1 (A := A) (inI cost 1 100000) c_16) (va_cwS 1 hts (lw_S q761 q762 q56 q763) rfl rfl rfl hdS_X1_want ⟨Nat.le_of_ble_eq_true rfl, Nat.le_of_ble_eq_true rfl⟩) (xpre hWK hS trivial) rfl rfl hl.1 rfl (lv_room (Nat.le_of_ble_eq_true rfl)) dX1_breakDown_16 ⟨Nat.le_of_ble_eq_true rfl, Nat.le_of_ble_eq_true rfl⟩) hS (fun E ce q9 H locs hX hz hk hS hq9 hv9 hc9 => vx_out (fun x hx => (hnt x hx).elim) hlocks hq9 hv9 hc9 (fun t ht _ => ⟨by rw [ht]; exact ⟨hX.1.trans (congrArg xExn e9).symm, (by rw [e9]; decide), z, hR.grow hX.2⟩, hS.F ht⟩) hS.2.2 (Nat.le_of_ble_eq_true rfl) (Nat.le_of_ble_eq_true rfl))
  · have e9 : (xBreak S machine cost).1 = 4 := by simp [xBreak, c_5]
    exact xc_T (vx_runS (As := [.int (bI (inI machine 0 (nI (S.1 0 0) - 1)))]) (rest := []) F (xX1_there_no g1 (A := A) (inI machine 0 (nI (S.1 0 0) - 1)) c_5) (va_cwS 1 hts (lw_S q937 q938 q56 q939) rfl rfl rfl hdS_X1_there ⟨Nat.le_of_ble_eq_true rfl, Nat.le_of_ble_eq_true rfl⟩) (xpre hWK hS trivial) rfl rfl hl.1 rfl (lv_room (Nat.le_of_ble_eq_true rfl)) dX1_breakDown_5 ⟨Nat.le_of_ble_eq_true rfl, Nat.le_of_ble_eq_true rfl⟩) hS (fun E ce q9 H locs hX hz hk hS hq9 hv9 hc9 => vx_out (fun x hx => (hnt x hx).elim) hlocks hq9 hv9 hc9 (fun t ht _ => ⟨by rw [ht]; exact ⟨hX.1.trans (congrArg xExn e9).symm, (by rw [e9]; decide), z, hR.grow hX.2⟩, hS.F ht⟩) hS.2.2 (Nat.le_of_ble_eq_true rfl) (Nat.le_of_ble_eq_true rfl))

