/-! contracts (printed by gen/mcon5.py) -/
set_option maxRecDepth 100000
set_option maxHeartbeats 4000000 in
theorem mX4_addNeed {l : Launch} {G : xG} {s0 : State} {b0 : Nat} (g : xG0 G s0 b0) {A : Nat → Prop} {S : xS} {ad : Nat × Nat → Nat} {z : xZ} (kind other : Int32) (hW : mWF S) (hA : ∃ rk, rkOK S.2.1 rk ∧ ∀ i, rk i < 4) : Met l yX4_addNeed (ws_ yX4_addNeed cX4_addNeed 6 (some .boolean)) ({ frames := 8, cells := 0, slots := 0, locals := 216 } : Room) (xP s0 A [.ref (ad (0, 0)), .int kind, .int other] (fun H => xRM G A S ad z H)) (xQc (some (.int (bI ((mAddNeed S kind other).1)))) (fun _ H => xRM G A (mAddNeed S kind other).2 ad z H) A) 0 0 A := by
  refine Met.ofW (cc := cX4_addNeed) (maxL := 6) (ret := (some .boolean)) (by decide) rfl ?_
  intro p e s m args below meth c s₁ B hml hv
  obtain ⟨rfl, hWK, hR⟩ := hv
  have hx := B.exec
  have hb := B.bytes
  have hr := B.returns
  have hts := atoms_spec (ws := ws_ yX4_addNeed cX4_addNeed 6 (some .boolean)) B.pre
  have hts : ∀ w ∈ lw_all, w.before _ s = true := fun w h => hts w (List.mem_cons_of_mem _ h)
  have hown : s.vm.findClass "LendlatheModel" = some m.cls := findClass_of_methodNamed B.named
  have hlocks := B.notSynchronized
  have hK := hWK.K g
  have F : CallFix p m c cX4_addNeed 6 s _ lw_all "LendlatheModel" := ⟨hx, hb, hml, hown, hts⟩
  have hS : va_S A s.heap s.heap [] := va_S.rf
  have hl := lv_entry ([.ref (ad (0, 0)), .int kind, .int other]) (n := 6) (Nat.le_of_ble_eq_true rfl)
  rw [lg_entry_eq]
  generalize (lg_sl ([.ref (ad (0, 0)), .int kind, .int other]) ++ List.replicate (6 - (lg_sl ([.ref (ad (0, 0)), .int kind, .int other])).length) Slot.unset).toArray = ls at hl ⊢
  have hl : lv_has ls 6 [(0, .ref (ad (0, 0))), (1, .int kind), (2, .int other)] := hl
  have hn0 := hW.1
  have hn1 := hW.2.1
  have hn2 := hW.2.2.1
  have hn3 := hW.2.2.2.1
  have hn4 := hW.2.2.2.2.1
  obtain ⟨rk, hrk, hr4⟩ := id hA
  refine lv_aload_n hx hb dX4_addNeed_0 rfl (lv_at hl 0 rfl) ?_
  refine lv_iload_n hx hb dX4_addNeed_1 rfl (lv_at hl 1 rfl) ?_
  refine xc_P (va_runS (As := [.int kind]) (rest := [.ref (ad (0, 0))]) F (mX4_isKind g (A := A) kind) (va_cwS 1 hts (lw_S q1555 q1556 q80 q1557) rfl rfl rfl hdS_X4_isKind ⟨Nat.le_of_ble_eq_true rfl, Nat.le_of_ble_eq_true rfl⟩) (xpre hWK hS trivial) rfl rfl hl.1 rfl (lv_room (Nat.le_of_ble_eq_true rfl)) dX4_addNeed_2 ⟨Nat.le_of_ble_eq_true rfl, Nat.le_of_ble_eq_true rfl⟩) ?_
  refine x_ifeq (tgt := 20) hx hb dX4_addNeed_5 (by decide) (fun c_5 => ?_) (fun c_5 => ?_)
  · refine lv_iconst (v := 1) hx hb dX4_addNeed_20 (by decide) ?_
    refine lv_goto (tgt := 38) hx hb dX4_addNeed_21 (by decide) ?_
    refine p_X4_87 F hK hS (mw_0 hR) (ma_0 hR) (v := .int 1) rfl rfl (Nat.le_of_ble_eq_true rfl) dX4_addNeed_38 (fun H locs hat hof hS => ?_)
    have hR := ms_0_29 hR hof hat
    refine lv_aload_n hx hb dX4_addNeed_41 rfl (lv_at hl 0 rfl) ?_
    refine g_X4_87 F hK (mw_0 hR) (v := .int 1) (by simp [fset, nset, lset]) dX4_addNeed_42 ?_
    refine lv_if_le (tgt := 50) hx hb dX4_addNeed_45 (by decide) (fun c_45 => (by first | exact absurd c_45 (by decide) | exact absurd (by decide) c_45)) (fun c_45 => ?_)
    refine lv_iconst (v := 0) hx hb dX4_addNeed_48 (by decide) ?_
    have e9 : mAddNeed S kind other = (false, (sF S 26 0 0 1)) := by simp [mAddNeed, c_5, thr]
    exact xr_Cz hx hb hr hlocks ((by rw [show (mAddNeed S kind other).1 = false from congrArg Prod.fst e9]; rfl)) (by show xRM G A (mAddNeed S kind other).2 ad z H; rw [show (mAddNeed S kind other).2 = (sF S 26 0 0 1) from congrArg Prod.snd e9]; exact hR) hS (by first | omega | decide) (by first | omega | decide) dX4_addNeed_49
  · refine lv_iload_n hx hb dX4_addNeed_8 rfl (lv_at hl 2 rfl) ?_
    refine xc_P (va_runS (As := [.int other]) (rest := [.ref (ad (0, 0))]) F (mX4_isKind g (A := A) other) (va_cwS 1 hts (lw_S q1555 q1556 q80 q1557) rfl rfl rfl hdS_X4_isKind ⟨Nat.le_of_ble_eq_true rfl, Nat.le_of_ble_eq_true rfl⟩) (xpre hWK hS trivial) rfl rfl hl.1 rfl (lv_room (Nat.le_of_ble_eq_true rfl)) dX4_addNeed_9 ⟨Nat.le_of_ble_eq_true rfl, Nat.le_of_ble_eq_true rfl⟩) ?_
    refine x_ifeq (tgt := 20) hx hb dX4_addNeed_12 (by decide) (fun c_12 => ?_) (fun c_12 => ?_)
    · refine lv_iconst (v := 1) hx hb dX4_addNeed_20 (by decide) ?_
      refine lv_goto (tgt := 38) hx hb dX4_addNeed_21 (by decide) ?_
      refine p_X4_87 F hK hS (mw_0 hR) (ma_0 hR) (v := .int 1) rfl rfl (Nat.le_of_ble_eq_true rfl) dX4_addNeed_38 (fun H locs hat hof hS => ?_)
      have hR := ms_0_29 hR hof hat
      refine lv_aload_n hx hb dX4_addNeed_41 rfl (lv_at hl 0 rfl) ?_
      refine g_X4_87 F hK (mw_0 hR) (v := .int 1) (by simp [fset, nset, lset]) dX4_addNeed_42 ?_
      refine lv_if_le (tgt := 50) hx hb dX4_addNeed_45 (by decide) (fun c_45 => (by first | exact absurd c_45 (by decide) | exact absurd (by decide) c_45)) (fun c_45 => ?_)
      refine lv_iconst (v := 0) hx hb dX4_addNeed_48 (by decide) ?_
      have e9 : mAddNeed S kind other = (false, (sF S 26 0 0 1)) := by simp [mAddNeed, c_5, c_12, thr]
      exact xr_Cz hx hb hr hlocks ((by rw [show (mAddNeed S kind other).1 = false from congrArg Prod.fst e9]; rfl)) (by show xRM G A (mAddNeed S kind other).2 ad z H; rw [show (mAddNeed S kind other).2 = (sF S 26 0 0 1) from congrArg Prod.snd e9]; exact hR) hS (by first | omega | decide) (by first | omega | decide) dX4_addNeed_49
    · refine lv_iload_n hx hb dX4_addNeed_15 rfl (lv_at hl 1 rfl) ?_
      refine lv_iload_n hx hb dX4_addNeed_16 rfl (lv_at hl 2 rfl) ?_
      refine lv_icmp_ne (tgt := 24) hx hb dX4_addNeed_17 (by decide) (fun c_17 => ?_) (fun c_17 => ?_)
      · obtain ⟨kj, hkj, rfl⟩ := inI_of' (n := 4) (by first | rfl | decide) (by first | decide | omega) c_5
        obtain ⟨oj, hoj, rfl⟩ := inI_of' (n := 4) (by first | rfl | decide) (by first | decide | omega) c_12
        refine lv_aload_n hx hb dX4_addNeed_24 rfl (lv_at hl 0 rfl) ?_
        refine lv_iload_n hx hb dX4_addNeed_25 rfl (lv_at hl 2 rfl) ?_
        refine lv_iload_n hx hb dX4_addNeed_26 rfl (lv_at hl 1 rfl) ?_
        refine xc_P (va_runV (As := [.int (nI oj), .int (nI kj)]) (rest := [.ref (ad (0, 0))]) F (mX4_reaches g (A := A) (S := S) (ad := ad) (z := z) hrk 4 oj kj (by first | assumption | omega) (by first | assumption | omega) (hr4 _)) (cwV 2 hts (lw_V q1577 q1579 qs31 q80 q1580) rfl rfl rfl hdV_X4_reaches ⟨Nat.le_of_ble_eq_true rfl, Nat.le_of_ble_eq_true rfl⟩) (xpreV (xrecv hK (mw_0 hR) rfl) hWK hS hR) rfl rfl hl.1 rfl (lv_room (Nat.le_of_ble_eq_true rfl)) dX4_addNeed_27 ⟨Nat.le_of_ble_eq_true rfl, Nat.le_of_ble_eq_true rfl⟩) ?_
        refine x_ifeq (tgt := 37) hx hb dX4_addNeed_30 (by decide) (fun c_30 => ?_) (fun c_30 => ?_)
        · refine lv_iconst (v := 0) hx hb dX4_addNeed_37 (by decide) ?_
          refine p_X4_87 F hK hS (mw_0 hR) (ma_0 hR) (v := .int 0) rfl rfl (Nat.le_of_ble_eq_true rfl) dX4_addNeed_38 (fun H locs hat hof hS => ?_)
          have hR := ms_0_29 hR hof hat
          refine lv_aload_n hx hb dX4_addNeed_41 rfl (lv_at hl 0 rfl) ?_
          refine g_X4_87 F hK (mw_0 hR) (v := .int 0) (by simp [fset, nset, lset]) dX4_addNeed_42 ?_
          refine lv_if_le (tgt := 50) hx hb dX4_addNeed_45 (by decide) (fun c_45 => ?_) (fun c_45 => (by first | exact absurd c_45 (by decide) | exact absurd (by decide) c_45))
          refine lv_aload_n hx hb dX4_addNeed_50 rfl (lv_at hl 0 rfl) ?_
          refine g_X4_27 F hK (mw_0 hR) (v := .ref (ad (6, 0))) rfl dX4_addNeed_51 ?_
          refine lv_iload_n hx hb dX4_addNeed_54 rfl (lv_at hl 1 rfl) ?_
          refine x_aald hx hb hK (mw_6 hR) rfl rfl (v := .ref (ad (7, kj))) (xi_nI (n := 4) (by omega) (by omega)) (rfl) dX4_addNeed_55 ?_
          refine lv_iload_n hx hb dX4_addNeed_56 rfl (lv_at hl 2 rfl) ?_
          refine x_zald hx hb hK (mw_7 hR (by omega)) (v := .int (S.2.1 5 kj oj)) (xi_nI (n := 4) (by omega) (by omega)) (rfl) dX4_addNeed_57 ?_
          refine lv_if_ne (tgt := 65) hx hb dX4_addNeed_58 (by decide) (fun c_58 => ?_) (fun c_58 => ?_)
          · refine lv_iconst (v := 0) hx hb dX4_addNeed_65 (by decide) ?_
            refine lv_istore_n (lv' := [(3, .int 0), (0, .ref (ad (0, 0))), (1, .int (nI kj)), (2, .int (nI oj))]) hx hb dX4_addNeed_66 rfl hl (by decide) rfl (fun ls hl => ?_)
            refine lv_aload_n hx hb dX4_addNeed_67 rfl (lv_at hl 1 rfl) ?_
            refine g_X4_27 F hK (mw_0 hR) (v := .ref (ad (6, 0))) rfl dX4_addNeed_68 ?_
            refine lv_iload_n hx hb dX4_addNeed_71 rfl (lv_at hl 2 rfl) ?_
            refine x_aald hx hb hK (mw_6 hR) rfl rfl (v := .ref (ad (7, kj))) (xi_nI (n := 4) (by omega) (by omega)) (rfl) dX4_addNeed_72 ?_
            refine lv_iload_n hx hb dX4_addNeed_73 rfl (lv_at hl 3 rfl) ?_
            refine lv_iconst (v := 1) hx hb dX4_addNeed_74 (by decide) ?_
            refine x_zast hx hb hK hS (mw_7 hR (by omega)) (ma_7 hR (by omega)) (xi_nI (n := 4) (by omega) (by omega)) rfl dX4_addNeed_75 (fun H locs hat hof hS => ?_)
            have hR := ms_7_a hR (by omega) hof hat
            refine lv_iconst (v := 0) hx hb dX4_addNeed_76 (by decide) ?_
            refine lv_istore (lv' := [(4, .int 0), (3, .int 0), (0, .ref (ad (0, 0))), (1, .int (nI kj)), (2, .int (nI oj))]) hx hb dX4_addNeed_77 hl (by decide) rfl (fun ls hl => ?_)
            have L79 : ∀ (n : Nat) (k : Nat) (S1 : xS), S.1 2 0 - k < n → (k ≤ S.1 2 0) → (mWF S1) → (∃ rk, rkOK S1.2.1 rk ∧ ∀ i, rk i < 4) → (S1.1 2 0 = S.1 2 0) → (S1 = mSweep (sF (sF S 26 0 0 0) 5 kj oj 1) k) → ∀ (H : Heap) (locs : List Loc), xRM G A S1 ad z H → va_S A s.heap H locs → ∀ (ls : Array Slot), lv_has ls 6 [(4, .int (nI k)), (3, .int 0), (0, .ref (ad (0, 0)))] → W p l e (headSpec (ws_ yX4_addNeed cX4_addNeed 6 (some .boolean)) ({ frames := 8, cells := 0, slots := 0, locals := 216 } : Room)).room s m ([.ref (ad (0, 0)), .int (nI kj), .int (nI oj)] : List Value).toArray below meth c H locs 0 0 (MQ below (xQc (some (.int (bI ((mAddNeed S (nI kj) (nI oj)).1)))) (fun _ H => xRM G A (mAddNeed S (nI kj) (nI oj)).2 ad z H) A) ([.ref (ad (0, 0)), .int (nI kj), .int (nI oj)] : List Value).toArray s 0 0 A) (F0 m 79 ls []) := by
              intro n79
              induction n79 with
              | zero =>
                intro k S1 hn79
                exact absurd hn79 (Nat.not_lt_zero _)
              | succ n79 ih79 =>
                intro k S1 hn79 hk0 hWs hA1 hN eS H locs hR hS ls hl
                have hn2s := hWs.2.2.1
                refine lv_iload hx hb dX4_addNeed_79 (lv_at hl 0 rfl) ?_
                refine lv_aload_n hx hb dX4_addNeed_81 rfl (lv_at hl 2 rfl) ?_
                refine g_X4_101 F hK (mw_0 hR) (v := .int (nI (S1.1 2 0))) rfl dX4_addNeed_82 ?_
                refine xn_ge (tgt := 177) k (S1.1 2 0) rfl rfl (by omega) (by omega) hx hb dX4_addNeed_85 (by decide) (fun c_85 => ?_) (fun c_85 => ?_)
                · refine lv_aload_n hx hb dX4_addNeed_177 rfl (lv_at hl 2 rfl) ?_
                  refine xc_C0 (va_runV (As := []) (rest := []) F (mX4_gives g (A := A) (S := S1) (ad := ad) (z := z) hWs hA1) (cwV 0 hts (lw_V q1589 q1591 qs34 q80 q1592) rfl rfl rfl hdV_X4_gives ⟨Nat.le_of_ble_eq_true rfl, Nat.le_of_ble_eq_true rfl⟩) (xpreV (xrecv hK (mw_0 hR) rfl) hWK hS hR) rfl rfl hl.1 rfl (lv_room (Nat.le_of_ble_eq_true rfl)) dX4_addNeed_178 ⟨Nat.le_of_ble_eq_true rfl, Nat.le_of_ble_eq_true rfl⟩) hS (fun H locs hR1 hz hk hS => ?_)
                  have hR := hR1
                  refine lv_iload_n hx hb dX4_addNeed_181 rfl (lv_at hl 1 rfl) ?_
                  have hk9 : k = S.1 2 0 := (by omega)
                  subst hk9
                  have e9 : mAddNeed S (nI kj) (nI oj) = (false, (mGives S1)) := by simp [mAddNeed, c_5, c_12, c_17, c_30, c_58, c_85, eS, thr, nI_clamp (show kj < 2 ^ 31 by omega), nI_clamp (show oj < 2 ^ 31 by omega)]
                  exact xr_Cz hx hb hr hlocks ((by rw [show (mAddNeed S (nI kj) (nI oj)).1 = false from congrArg Prod.fst e9]; rfl)) (by show xRM G A (mAddNeed S (nI kj) (nI oj)).2 ad z H; rw [show (mAddNeed S (nI kj) (nI oj)).2 = (mGives S1) from congrArg Prod.snd e9]; exact hR) hS (by first | omega | decide) (by first | omega | decide) dX4_addNeed_182
                · refine lv_aload_n hx hb dX4_addNeed_88 rfl (lv_at hl 2 rfl) ?_
                  refine g_X4_49 F hK (mw_0 hR) (v := .ref (ad (14, 0))) rfl dX4_addNeed_89 ?_
                  refine lv_iload hx hb dX4_addNeed_92 (lv_at hl 0 rfl) ?_
                  refine x_cald hx hb hK (mw_14 hR) (v := .int (S1.2.1 16 k 0)) (xi_nI (n := 150) (by omega) (by omega)) (rfl) dX4_addNeed_94 ?_
                  refine lv_bipush (v := 119) hx hb dX4_addNeed_95 (by decide) ?_
                  refine lv_icmp_eq (tgt := 112) hx hb dX4_addNeed_97 (by decide) (fun c_97 => ?_) (fun c_97 => ?_)
                  · refine lv_aload_n hx hb dX4_addNeed_112 rfl (lv_at hl 2 rfl) ?_
                    refine lv_aload_n hx hb dX4_addNeed_113 rfl (lv_at hl 2 rfl) ?_
                    refine g_X4_30 F hK (mw_0 hR) (v := .ref (ad (8, 0))) rfl dX4_addNeed_114 ?_
                    refine lv_iload hx hb dX4_addNeed_117 (lv_at hl 0 rfl) ?_
                    refine x_iald hx hb hK (mw_8 hR) (v := .int (S1.2.1 10 k 0)) (xi_nI (n := 150) (by omega) (by omega)) (rfl) dX4_addNeed_119 ?_
                    refine lv_aload_n hx hb dX4_addNeed_120 rfl (lv_at hl 2 rfl) ?_
                    refine g_X4_33 F hK (mw_0 hR) (v := .ref (ad (9, 0))) rfl dX4_addNeed_121 ?_
                    refine lv_iload hx hb dX4_addNeed_124 (lv_at hl 0 rfl) ?_
                    refine x_iald hx hb hK (mw_9 hR) (v := .int (S1.2.1 11 k 0)) (xi_nI (n := 150) (by omega) (by omega)) (rfl) dX4_addNeed_126 ?_
                    refine lv_aload_n hx hb dX4_addNeed_127 rfl (lv_at hl 2 rfl) ?_
                    refine g_X4_36 F hK (mw_0 hR) (v := .ref (ad (10, 0))) rfl dX4_addNeed_128 ?_
                    refine lv_iload hx hb dX4_addNeed_131 (lv_at hl 0 rfl) ?_
                    refine x_iald hx hb hK (mw_10 hR) (v := .int (S1.2.1 12 k 0)) (xi_nI (n := 150) (by omega) (by omega)) (rfl) dX4_addNeed_133 ?_
                    refine xc_P (va_runV (As := [.int (S1.2.1 10 k 0), .int (S1.2.1 11 k 0), .int (S1.2.1 12 k 0)]) (rest := []) F (mX4_liveFor g (A := A) (S := S1) (ad := ad) (z := z) (S1.2.1 12 k 0) (xi.up (xi_of (hWs.2.2.2.2.2.2.2.2.1 k)) (by omega)) (xi.up (xi_of (hWs.2.2.2.2.2.2.2.2.2.1 k)) (by omega)) hWs hA1) (cwV 3 hts (lw_V q1581 q1583 qs32 q80 q1584) rfl rfl rfl hdV_X4_liveFor ⟨Nat.le_of_ble_eq_true rfl, Nat.le_of_ble_eq_true rfl⟩) (xpreV (xrecv hK (mw_0 hR) rfl) hWK hS hR) rfl rfl hl.1 rfl (lv_room (Nat.le_of_ble_eq_true rfl)) dX4_addNeed_134 ⟨Nat.le_of_ble_eq_true rfl, Nat.le_of_ble_eq_true rfl⟩) ?_
                    refine x_ifne (tgt := 144) hx hb dX4_addNeed_137 (by decide) (fun c_137 => ?_) (fun c_137 => ?_)
                    · refine lv_iconst (v := 0) hx hb dX4_addNeed_144 (by decide) ?_
                      refine lv_istore (lv' := [(5, .int 0), (4, .int (nI k)), (3, .int 0), (0, .ref (ad (0, 0)))]) hx hb dX4_addNeed_145 hl (by decide) rfl (fun ls hl => ?_)
                      refine lv_aload_n hx hb dX4_addNeed_147 rfl (lv_at hl 3 rfl) ?_
                      refine g_X4_49 F hK (mw_0 hR) (v := .ref (ad (14, 0))) rfl dX4_addNeed_148 ?_
                      refine lv_iload hx hb dX4_addNeed_151 (lv_at hl 1 rfl) ?_
                      refine lv_iload hx hb dX4_addNeed_153 (lv_at hl 0 rfl) ?_
                      refine lv_if_eq (tgt := 163) hx hb dX4_addNeed_155 (by decide) (fun c_155 => ?_) (fun c_155 => (by first | exact absurd c_155 (by decide) | exact absurd (by decide) c_155))
                      refine lv_aload_n hx hb dX4_addNeed_163 rfl (lv_at hl 3 rfl) ?_
                      refine g_X4_49 F hK (mw_0 hR) (v := .ref (ad (14, 0))) rfl dX4_addNeed_164 ?_
                      refine lv_iload hx hb dX4_addNeed_167 (lv_at hl 1 rfl) ?_
                      refine x_cald hx hb hK (mw_14 hR) (v := .int (S1.2.1 16 k 0)) (xi_nI (n := 150) (by omega) (by omega)) (rfl) dX4_addNeed_169 ?_
                      refine x_cast hx hb hK hS (mw_14 hR) (ma_14 hR) (xi_nI (n := 150) (by omega) (by omega)) (hWs.2.2.2.2.2.2.2.2.2.2.2.2 k) dX4_addNeed_170 (fun H locs hat hof hS => ?_)
                      have hR := ms_14_a hR hof hat
                      refine lv_iinc (v := nI (k + 1)) (lv' := [(4, .int (nI (k + 1))), (5, .int 0), (3, .int 0), (0, .ref (ad (0, 0)))]) hx hb dX4_addNeed_171 hl (k := 1) rfl (nI_1 _) (by decide) rfl (fun ls hl => ?_)
                      refine lv_goto (tgt := 79) hx hb dX4_addNeed_174 (by decide) ?_
                      exact ih79 (k + 1) (sF S1 16 k 0 (S1.2.1 16 k 0)) (by omega) (by omega) (mWF_st hWs k (hWs.2.2.2.2.2.2.2.2.2.2.2.2 k)) hA1 hN (by simp only [mSweep, ← eS]; simp [c_5, c_12, c_17, c_30, c_58, c_97, c_137]) _ _ hR hS ls (lv_sub hl [0, 2, 3] rfl)
                    · refine lv_iconst (v := 1) hx hb dX4_addNeed_140 (by decide) ?_
                      refine lv_goto (tgt := 145) hx hb dX4_addNeed_141 (by decide) ?_
                      refine lv_istore (lv' := [(5, .int 1), (4, .int (nI k)), (3, .int 0), (0, .ref (ad (0, 0)))]) hx hb dX4_addNeed_145 hl (by decide) rfl (fun ls hl => ?_)
                      refine lv_aload_n hx hb dX4_addNeed_147 rfl (lv_at hl 3 rfl) ?_
                      refine g_X4_49 F hK (mw_0 hR) (v := .ref (ad (14, 0))) rfl dX4_addNeed_148 ?_
                      refine lv_iload hx hb dX4_addNeed_151 (lv_at hl 1 rfl) ?_
                      refine lv_iload hx hb dX4_addNeed_153 (lv_at hl 0 rfl) ?_
                      refine lv_if_eq (tgt := 163) hx hb dX4_addNeed_155 (by decide) (fun c_155 => (by first | exact absurd c_155 (by decide) | exact absurd (by decide) c_155)) (fun c_155 => ?_)
                      refine lv_bipush (v := 99) hx hb dX4_addNeed_158 (by decide) ?_
                      refine lv_goto (tgt := 170) hx hb dX4_addNeed_160 (by decide) ?_
                      refine x_cast hx hb hK hS (mw_14 hR) (ma_14 hR) (xi_nI (n := 150) (by omega) (by omega)) rfl dX4_addNeed_170 (fun H locs hat hof hS => ?_)
                      have hR := ms_14_a hR hof hat
                      refine lv_iinc (v := nI (k + 1)) (lv' := [(4, .int (nI (k + 1))), (5, .int 1), (3, .int 0), (0, .ref (ad (0, 0)))]) hx hb dX4_addNeed_171 hl (k := 1) rfl (nI_1 _) (by decide) rfl (fun ls hl => ?_)
                      refine lv_goto (tgt := 79) hx hb dX4_addNeed_174 (by decide) ?_
                      exact ih79 (k + 1) (sF S1 16 k 0 99) (by omega) (by omega) (mWF_st hWs k rfl) hA1 hN (by simp only [mSweep, ← eS]; simp [c_5, c_12, c_17, c_30, c_58, c_97, c_137]) _ _ hR hS ls (lv_sub hl [0, 2, 3] rfl)
                  · refine lv_aload_n hx hb dX4_addNeed_100 rfl (lv_at hl 2 rfl) ?_
                    refine g_X4_49 F hK (mw_0 hR) (v := .ref (ad (14, 0))) rfl dX4_addNeed_101 ?_
                    refine lv_iload hx hb dX4_addNeed_104 (lv_at hl 0 rfl) ?_
                    refine x_cald hx hb hK (mw_14 hR) (v := .int (S1.2.1 16 k 0)) (xi_nI (n := 150) (by omega) (by omega)) (rfl) dX4_addNeed_106 ?_
                    refine lv_bipush (v := 98) hx hb dX4_addNeed_107 (by decide) ?_
                    refine lv_icmp_ne (tgt := 144) hx hb dX4_addNeed_109 (by decide) (fun c_109 => ?_) (fun c_109 => ?_)
                    · refine lv_iconst (v := 0) hx hb dX4_addNeed_144 (by decide) ?_
                      refine lv_istore (lv' := [(5, .int 0), (4, .int (nI k)), (3, .int 0), (0, .ref (ad (0, 0)))]) hx hb dX4_addNeed_145 hl (by decide) rfl (fun ls hl => ?_)
                      refine lv_aload_n hx hb dX4_addNeed_147 rfl (lv_at hl 3 rfl) ?_
                      refine g_X4_49 F hK (mw_0 hR) (v := .ref (ad (14, 0))) rfl dX4_addNeed_148 ?_
                      refine lv_iload hx hb dX4_addNeed_151 (lv_at hl 1 rfl) ?_
                      refine lv_iload hx hb dX4_addNeed_153 (lv_at hl 0 rfl) ?_
                      refine lv_if_eq (tgt := 163) hx hb dX4_addNeed_155 (by decide) (fun c_155 => ?_) (fun c_155 => (by first | exact absurd c_155 (by decide) | exact absurd (by decide) c_155))
                      refine lv_aload_n hx hb dX4_addNeed_163 rfl (lv_at hl 3 rfl) ?_
                      refine g_X4_49 F hK (mw_0 hR) (v := .ref (ad (14, 0))) rfl dX4_addNeed_164 ?_
                      refine lv_iload hx hb dX4_addNeed_167 (lv_at hl 1 rfl) ?_
                      refine x_cald hx hb hK (mw_14 hR) (v := .int (S1.2.1 16 k 0)) (xi_nI (n := 150) (by omega) (by omega)) (rfl) dX4_addNeed_169 ?_
                      refine x_cast hx hb hK hS (mw_14 hR) (ma_14 hR) (xi_nI (n := 150) (by omega) (by omega)) (hWs.2.2.2.2.2.2.2.2.2.2.2.2 k) dX4_addNeed_170 (fun H locs hat hof hS => ?_)
                      have hR := ms_14_a hR hof hat
                      refine lv_iinc (v := nI (k + 1)) (lv' := [(4, .int (nI (k + 1))), (5, .int 0), (3, .int 0), (0, .ref (ad (0, 0)))]) hx hb dX4_addNeed_171 hl (k := 1) rfl (nI_1 _) (by decide) rfl (fun ls hl => ?_)
                      refine lv_goto (tgt := 79) hx hb dX4_addNeed_174 (by decide) ?_
                      exact ih79 (k + 1) (sF S1 16 k 0 (S1.2.1 16 k 0)) (by omega) (by omega) (mWF_st hWs k (hWs.2.2.2.2.2.2.2.2.2.2.2.2 k)) hA1 hN (by simp only [mSweep, ← eS]; simp [c_5, c_12, c_17, c_30, c_58, c_97, c_109]) _ _ hR hS ls (lv_sub hl [0, 2, 3] rfl)
                    · refine lv_aload_n hx hb dX4_addNeed_112 rfl (lv_at hl 2 rfl) ?_
                      refine lv_aload_n hx hb dX4_addNeed_113 rfl (lv_at hl 2 rfl) ?_
                      refine g_X4_30 F hK (mw_0 hR) (v := .ref (ad (8, 0))) rfl dX4_addNeed_114 ?_
                      refine lv_iload hx hb dX4_addNeed_117 (lv_at hl 0 rfl) ?_
                      refine x_iald hx hb hK (mw_8 hR) (v := .int (S1.2.1 10 k 0)) (xi_nI (n := 150) (by omega) (by omega)) (rfl) dX4_addNeed_119 ?_
                      refine lv_aload_n hx hb dX4_addNeed_120 rfl (lv_at hl 2 rfl) ?_
                      refine g_X4_33 F hK (mw_0 hR) (v := .ref (ad (9, 0))) rfl dX4_addNeed_121 ?_
                      refine lv_iload hx hb dX4_addNeed_124 (lv_at hl 0 rfl) ?_
                      refine x_iald hx hb hK (mw_9 hR) (v := .int (S1.2.1 11 k 0)) (xi_nI (n := 150) (by omega) (by omega)) (rfl) dX4_addNeed_126 ?_
                      refine lv_aload_n hx hb dX4_addNeed_127 rfl (lv_at hl 2 rfl) ?_
                      refine g_X4_36 F hK (mw_0 hR) (v := .ref (ad (10, 0))) rfl dX4_addNeed_128 ?_
                      refine lv_iload hx hb dX4_addNeed_131 (lv_at hl 0 rfl) ?_
                      refine x_iald hx hb hK (mw_10 hR) (v := .int (S1.2.1 12 k 0)) (xi_nI (n := 150) (by omega) (by omega)) (rfl) dX4_addNeed_133 ?_
                      refine xc_P (va_runV (As := [.int (S1.2.1 10 k 0), .int (S1.2.1 11 k 0), .int (S1.2.1 12 k 0)]) (rest := []) F (mX4_liveFor g (A := A) (S := S1) (ad := ad) (z := z) (S1.2.1 12 k 0) (xi.up (xi_of (hWs.2.2.2.2.2.2.2.2.1 k)) (by omega)) (xi.up (xi_of (hWs.2.2.2.2.2.2.2.2.2.1 k)) (by omega)) hWs hA1) (cwV 3 hts (lw_V q1581 q1583 qs32 q80 q1584) rfl rfl rfl hdV_X4_liveFor ⟨Nat.le_of_ble_eq_true rfl, Nat.le_of_ble_eq_true rfl⟩) (xpreV (xrecv hK (mw_0 hR) rfl) hWK hS hR) rfl rfl hl.1 rfl (lv_room (Nat.le_of_ble_eq_true rfl)) dX4_addNeed_134 ⟨Nat.le_of_ble_eq_true rfl, Nat.le_of_ble_eq_true rfl⟩) ?_
                      refine x_ifne (tgt := 144) hx hb dX4_addNeed_137 (by decide) (fun c_137 => ?_) (fun c_137 => ?_)
                      · refine lv_iconst (v := 0) hx hb dX4_addNeed_144 (by decide) ?_
                        refine lv_istore (lv' := [(5, .int 0), (4, .int (nI k)), (3, .int 0), (0, .ref (ad (0, 0)))]) hx hb dX4_addNeed_145 hl (by decide) rfl (fun ls hl => ?_)
                        refine lv_aload_n hx hb dX4_addNeed_147 rfl (lv_at hl 3 rfl) ?_
                        refine g_X4_49 F hK (mw_0 hR) (v := .ref (ad (14, 0))) rfl dX4_addNeed_148 ?_
                        refine lv_iload hx hb dX4_addNeed_151 (lv_at hl 1 rfl) ?_
                        refine lv_iload hx hb dX4_addNeed_153 (lv_at hl 0 rfl) ?_
                        refine lv_if_eq (tgt := 163) hx hb dX4_addNeed_155 (by decide) (fun c_155 => ?_) (fun c_155 => (by first | exact absurd c_155 (by decide) | exact absurd (by decide) c_155))
                        refine lv_aload_n hx hb dX4_addNeed_163 rfl (lv_at hl 3 rfl) ?_
                        refine g_X4_49 F hK (mw_0 hR) (v := .ref (ad (14, 0))) rfl dX4_addNeed_164 ?_
                        refine lv_iload hx hb dX4_addNeed_167 (lv_at hl 1 rfl) ?_
                        refine x_cald hx hb hK (mw_14 hR) (v := .int (S1.2.1 16 k 0)) (xi_nI (n := 150) (by omega) (by omega)) (rfl) dX4_addNeed_169 ?_
                        refine x_cast hx hb hK hS (mw_14 hR) (ma_14 hR) (xi_nI (n := 150) (by omega) (by omega)) (hWs.2.2.2.2.2.2.2.2.2.2.2.2 k) dX4_addNeed_170 (fun H locs hat hof hS => ?_)
                        have hR := ms_14_a hR hof hat
                        refine lv_iinc (v := nI (k + 1)) (lv' := [(4, .int (nI (k + 1))), (5, .int 0), (3, .int 0), (0, .ref (ad (0, 0)))]) hx hb dX4_addNeed_171 hl (k := 1) rfl (nI_1 _) (by decide) rfl (fun ls hl => ?_)
                        refine lv_goto (tgt := 79) hx hb dX4_addNeed_174 (by decide) ?_
                        exact ih79 (k + 1) (sF S1 16 k 0 (S1.2.1 16 k 0)) (by omega) (by omega) (mWF_st hWs k (hWs.2.2.2.2.2.2.2.2.2.2.2.2 k)) hA1 hN (by simp only [mSweep, ← eS]; simp [c_5, c_12, c_17, c_30, c_58, c_97, c_109, c_137]) _ _ hR hS ls (lv_sub hl [0, 2, 3] rfl)
                      · refine lv_iconst (v := 1) hx hb dX4_addNeed_140 (by decide) ?_
                        refine lv_goto (tgt := 145) hx hb dX4_addNeed_141 (by decide) ?_
                        refine lv_istore (lv' := [(5, .int 1), (4, .int (nI k)), (3, .int 0), (0, .ref (ad (0, 0)))]) hx hb dX4_addNeed_145 hl (by decide) rfl (fun ls hl => ?_)
                        refine lv_aload_n hx hb dX4_addNeed_147 rfl (lv_at hl 3 rfl) ?_
                        refine g_X4_49 F hK (mw_0 hR) (v := .ref (ad (14, 0))) rfl dX4_addNeed_148 ?_
                        refine lv_iload hx hb dX4_addNeed_151 (lv_at hl 1 rfl) ?_
                        refine lv_iload hx hb dX4_addNeed_153 (lv_at hl 0 rfl) ?_
                        refine lv_if_eq (tgt := 163) hx hb dX4_addNeed_155 (by decide) (fun c_155 => (by first | exact absurd c_155 (by decide) | exact absurd (by decide) c_155)) (fun c_155 => ?_)
                        refine lv_bipush (v := 99) hx hb dX4_addNeed_158 (by decide) ?_
                        refine lv_goto (tgt := 170) hx hb dX4_addNeed_160 (by decide) ?_
                        refine x_cast hx hb hK hS (mw_14 hR) (ma_14 hR) (xi_nI (n := 150) (by omega) (by omega)) rfl dX4_addNeed_170 (fun H locs hat hof hS => ?_)
                        have hR := ms_14_a hR hof hat
                        refine lv_iinc (v := nI (k + 1)) (lv' := [(4, .int (nI (k + 1))), (5, .int 1), (3, .int 0), (0, .ref (ad (0, 0)))]) hx hb dX4_addNeed_171 hl (k := 1) rfl (nI_1 _) (by decide) rfl (fun ls hl => ?_)
                        refine lv_goto (tgt := 79) hx hb dX4_addNeed_174 (by decide) ?_
                        exact ih79 (k + 1) (sF S1 16 k 0 99) (by omega) (by omega) (mWF_st hWs k rfl) hA1 hN (by simp only [mSweep, ← eS]; simp [c_5, c_12, c_17, c_30, c_58, c_97, c_109, c_137]) _ _ hR hS ls (lv_sub hl [0, 2, 3] rfl)
            exact L79 (S.1 2 0 + 1) 0 (sF (sF S 26 0 0 0) 5 kj oj 1) (by omega) (Nat.zero_le _) hW (rk_add (S := sF S 26 0 0 0) hkj hoj hA c_30) rfl rfl _ _ hR hS ls (lv_sub hl [0, 1, 2] rfl)
          · refine lv_iconst (v := 1) hx hb dX4_addNeed_61 (by decide) ?_
            refine lv_goto (tgt := 66) hx hb dX4_addNeed_62 (by decide) ?_
            refine lv_istore_n (lv' := [(3, .int 1), (0, .ref (ad (0, 0))), (1, .int (nI kj)), (2, .int (nI oj))]) hx hb dX4_addNeed_66 rfl hl (by decide) rfl (fun ls hl => ?_)
            refine lv_aload_n hx hb dX4_addNeed_67 rfl (lv_at hl 1 rfl) ?_
            refine g_X4_27 F hK (mw_0 hR) (v := .ref (ad (6, 0))) rfl dX4_addNeed_68 ?_
            refine lv_iload_n hx hb dX4_addNeed_71 rfl (lv_at hl 2 rfl) ?_
            refine x_aald hx hb hK (mw_6 hR) rfl rfl (v := .ref (ad (7, kj))) (xi_nI (n := 4) (by omega) (by omega)) (rfl) dX4_addNeed_72 ?_
            refine lv_iload_n hx hb dX4_addNeed_73 rfl (lv_at hl 3 rfl) ?_
            refine lv_iconst (v := 1) hx hb dX4_addNeed_74 (by decide) ?_
            refine x_zast hx hb hK hS (mw_7 hR (by omega)) (ma_7 hR (by omega)) (xi_nI (n := 4) (by omega) (by omega)) rfl dX4_addNeed_75 (fun H locs hat hof hS => ?_)
            have hR := ms_7_a hR (by omega) hof hat
            refine lv_iconst (v := 0) hx hb dX4_addNeed_76 (by decide) ?_
            refine lv_istore (lv' := [(4, .int 0), (3, .int 1), (0, .ref (ad (0, 0))), (1, .int (nI kj)), (2, .int (nI oj))]) hx hb dX4_addNeed_77 hl (by decide) rfl (fun ls hl => ?_)
            have L79 : ∀ (n : Nat) (k : Nat) (S1 : xS), S.1 2 0 - k < n → (k ≤ S.1 2 0) → (mWF S1) → (∃ rk, rkOK S1.2.1 rk ∧ ∀ i, rk i < 4) → (S1.1 2 0 = S.1 2 0) → (S1 = mSweep (sF (sF S 26 0 0 0) 5 kj oj 1) k) → ∀ (H : Heap) (locs : List Loc), xRM G A S1 ad z H → va_S A s.heap H locs → ∀ (ls : Array Slot), lv_has ls 6 [(4, .int (nI k)), (3, .int 1), (0, .ref (ad (0, 0)))] → W p l e (headSpec (ws_ yX4_addNeed cX4_addNeed 6 (some .boolean)) ({ frames := 8, cells := 0, slots := 0, locals := 216 } : Room)).room s m ([.ref (ad (0, 0)), .int (nI kj), .int (nI oj)] : List Value).toArray below meth c H locs 0 0 (MQ below (xQc (some (.int (bI ((mAddNeed S (nI kj) (nI oj)).1)))) (fun _ H => xRM G A (mAddNeed S (nI kj) (nI oj)).2 ad z H) A) ([.ref (ad (0, 0)), .int (nI kj), .int (nI oj)] : List Value).toArray s 0 0 A) (F0 m 79 ls []) := by
              intro n79
              induction n79 with
              | zero =>
                intro k S1 hn79
                exact absurd hn79 (Nat.not_lt_zero _)
              | succ n79 ih79 =>
                intro k S1 hn79 hk0 hWs hA1 hN eS H locs hR hS ls hl
                have hn2s := hWs.2.2.1
                refine lv_iload hx hb dX4_addNeed_79 (lv_at hl 0 rfl) ?_
                refine lv_aload_n hx hb dX4_addNeed_81 rfl (lv_at hl 2 rfl) ?_
                refine g_X4_101 F hK (mw_0 hR) (v := .int (nI (S1.1 2 0))) rfl dX4_addNeed_82 ?_
                refine xn_ge (tgt := 177) k (S1.1 2 0) rfl rfl (by omega) (by omega) hx hb dX4_addNeed_85 (by decide) (fun c_85 => ?_) (fun c_85 => ?_)
                · refine lv_aload_n hx hb dX4_addNeed_177 rfl (lv_at hl 2 rfl) ?_
                  refine xc_C0 (va_runV (As := []) (rest := []) F (mX4_gives g (A := A) (S := S1) (ad := ad) (z := z) hWs hA1) (cwV 0 hts (lw_V q1589 q1591 qs34 q80 q1592) rfl rfl rfl hdV_X4_gives ⟨Nat.le_of_ble_eq_true rfl, Nat.le_of_ble_eq_true rfl⟩) (xpreV (xrecv hK (mw_0 hR) rfl) hWK hS hR) rfl rfl hl.1 rfl (lv_room (Nat.le_of_ble_eq_true rfl)) dX4_addNeed_178 ⟨Nat.le_of_ble_eq_true rfl, Nat.le_of_ble_eq_true rfl⟩) hS (fun H locs hR1 hz hk hS => ?_)
                  have hR := hR1
                  refine lv_iload_n hx hb dX4_addNeed_181 rfl (lv_at hl 1 rfl) ?_
                  have hk9 : k = S.1 2 0 := (by omega)
                  subst hk9
                  have e9 : mAddNeed S (nI kj) (nI oj) = (true, (mGives S1)) := by simp [mAddNeed, c_5, c_12, c_17, c_30, c_58, c_85, eS, thr, nI_clamp (show kj < 2 ^ 31 by omega), nI_clamp (show oj < 2 ^ 31 by omega)]
                  exact xr_Cz hx hb hr hlocks ((by rw [show (mAddNeed S (nI kj) (nI oj)).1 = true from congrArg Prod.fst e9]; rfl)) (by show xRM G A (mAddNeed S (nI kj) (nI oj)).2 ad z H; rw [show (mAddNeed S (nI kj) (nI oj)).2 = (mGives S1) from congrArg Prod.snd e9]; exact hR) hS (by first | omega | decide) (by first | omega | decide) dX4_addNeed_182
                · refine lv_aload_n hx hb dX4_addNeed_88 rfl (lv_at hl 2 rfl) ?_
                  refine g_X4_49 F hK (mw_0 hR) (v := .ref (ad (14, 0))) rfl dX4_addNeed_89 ?_
                  refine lv_iload hx hb dX4_addNeed_92 (lv_at hl 0 rfl) ?_
                  refine x_cald hx hb hK (mw_14 hR) (v := .int (S1.2.1 16 k 0)) (xi_nI (n := 150) (by omega) (by omega)) (rfl) dX4_addNeed_94 ?_
                  refine lv_bipush (v := 119) hx hb dX4_addNeed_95 (by decide) ?_
                  refine lv_icmp_eq (tgt := 112) hx hb dX4_addNeed_97 (by decide) (fun c_97 => ?_) (fun c_97 => ?_)
                  · refine lv_aload_n hx hb dX4_addNeed_112 rfl (lv_at hl 2 rfl) ?_
                    refine lv_aload_n hx hb dX4_addNeed_113 rfl (lv_at hl 2 rfl) ?_
                    refine g_X4_30 F hK (mw_0 hR) (v := .ref (ad (8, 0))) rfl dX4_addNeed_114 ?_
                    refine lv_iload hx hb dX4_addNeed_117 (lv_at hl 0 rfl) ?_
                    refine x_iald hx hb hK (mw_8 hR) (v := .int (S1.2.1 10 k 0)) (xi_nI (n := 150) (by omega) (by omega)) (rfl) dX4_addNeed_119 ?_
                    refine lv_aload_n hx hb dX4_addNeed_120 rfl (lv_at hl 2 rfl) ?_
                    refine g_X4_33 F hK (mw_0 hR) (v := .ref (ad (9, 0))) rfl dX4_addNeed_121 ?_
                    refine lv_iload hx hb dX4_addNeed_124 (lv_at hl 0 rfl) ?_
                    refine x_iald hx hb hK (mw_9 hR) (v := .int (S1.2.1 11 k 0)) (xi_nI (n := 150) (by omega) (by omega)) (rfl) dX4_addNeed_126 ?_
                    refine lv_aload_n hx hb dX4_addNeed_127 rfl (lv_at hl 2 rfl) ?_
                    refine g_X4_36 F hK (mw_0 hR) (v := .ref (ad (10, 0))) rfl dX4_addNeed_128 ?_
                    refine lv_iload hx hb dX4_addNeed_131 (lv_at hl 0 rfl) ?_
                    refine x_iald hx hb hK (mw_10 hR) (v := .int (S1.2.1 12 k 0)) (xi_nI (n := 150) (by omega) (by omega)) (rfl) dX4_addNeed_133 ?_
                    refine xc_P (va_runV (As := [.int (S1.2.1 10 k 0), .int (S1.2.1 11 k 0), .int (S1.2.1 12 k 0)]) (rest := []) F (mX4_liveFor g (A := A) (S := S1) (ad := ad) (z := z) (S1.2.1 12 k 0) (xi.up (xi_of (hWs.2.2.2.2.2.2.2.2.1 k)) (by omega)) (xi.up (xi_of (hWs.2.2.2.2.2.2.2.2.2.1 k)) (by omega)) hWs hA1) (cwV 3 hts (lw_V q1581 q1583 qs32 q80 q1584) rfl rfl rfl hdV_X4_liveFor ⟨Nat.le_of_ble_eq_true rfl, Nat.le_of_ble_eq_true rfl⟩) (xpreV (xrecv hK (mw_0 hR) rfl) hWK hS hR) rfl rfl hl.1 rfl (lv_room (Nat.le_of_ble_eq_true rfl)) dX4_addNeed_134 ⟨Nat.le_of_ble_eq_true rfl, Nat.le_of_ble_eq_true rfl⟩) ?_
                    refine x_ifne (tgt := 144) hx hb dX4_addNeed_137 (by decide) (fun c_137 => ?_) (fun c_137 => ?_)
                    · refine lv_iconst (v := 0) hx hb dX4_addNeed_144 (by decide) ?_
                      refine lv_istore (lv' := [(5, .int 0), (4, .int (nI k)), (3, .int 1), (0, .ref (ad (0, 0)))]) hx hb dX4_addNeed_145 hl (by decide) rfl (fun ls hl => ?_)
                      refine lv_aload_n hx hb dX4_addNeed_147 rfl (lv_at hl 3 rfl) ?_
                      refine g_X4_49 F hK (mw_0 hR) (v := .ref (ad (14, 0))) rfl dX4_addNeed_148 ?_
                      refine lv_iload hx hb dX4_addNeed_151 (lv_at hl 1 rfl) ?_
                      refine lv_iload hx hb dX4_addNeed_153 (lv_at hl 0 rfl) ?_
                      refine lv_if_eq (tgt := 163) hx hb dX4_addNeed_155 (by decide) (fun c_155 => ?_) (fun c_155 => (by first | exact absurd c_155 (by decide) | exact absurd (by decide) c_155))
                      refine lv_aload_n hx hb dX4_addNeed_163 rfl (lv_at hl 3 rfl) ?_
                      refine g_X4_49 F hK (mw_0 hR) (v := .ref (ad (14, 0))) rfl dX4_addNeed_164 ?_
                      refine lv_iload hx hb dX4_addNeed_167 (lv_at hl 1 rfl) ?_
                      refine x_cald hx hb hK (mw_14 hR) (v := .int (S1.2.1 16 k 0)) (xi_nI (n := 150) (by omega) (by omega)) (rfl) dX4_addNeed_169 ?_
                      refine x_cast hx hb hK hS (mw_14 hR) (ma_14 hR) (xi_nI (n := 150) (by omega) (by omega)) (hWs.2.2.2.2.2.2.2.2.2.2.2.2 k) dX4_addNeed_170 (fun H locs hat hof hS => ?_)
                      have hR := ms_14_a hR hof hat
                      refine lv_iinc (v := nI (k + 1)) (lv' := [(4, .int (nI (k + 1))), (5, .int 0), (3, .int 1), (0, .ref (ad (0, 0)))]) hx hb dX4_addNeed_171 hl (k := 1) rfl (nI_1 _) (by decide) rfl (fun ls hl => ?_)
                      refine lv_goto (tgt := 79) hx hb dX4_addNeed_174 (by decide) ?_
                      exact ih79 (k + 1) (sF S1 16 k 0 (S1.2.1 16 k 0)) (by omega) (by omega) (mWF_st hWs k (hWs.2.2.2.2.2.2.2.2.2.2.2.2 k)) hA1 hN (by simp only [mSweep, ← eS]; simp [c_5, c_12, c_17, c_30, c_58, c_97, c_137]) _ _ hR hS ls (lv_sub hl [0, 2, 3] rfl)
                    · refine lv_iconst (v := 1) hx hb dX4_addNeed_140 (by decide) ?_
                      refine lv_goto (tgt := 145) hx hb dX4_addNeed_141 (by decide) ?_
                      refine lv_istore (lv' := [(5, .int 1), (4, .int (nI k)), (3, .int 1), (0, .ref (ad (0, 0)))]) hx hb dX4_addNeed_145 hl (by decide) rfl (fun ls hl => ?_)
                      refine lv_aload_n hx hb dX4_addNeed_147 rfl (lv_at hl 3 rfl) ?_
                      refine g_X4_49 F hK (mw_0 hR) (v := .ref (ad (14, 0))) rfl dX4_addNeed_148 ?_
                      refine lv_iload hx hb dX4_addNeed_151 (lv_at hl 1 rfl) ?_
                      refine lv_iload hx hb dX4_addNeed_153 (lv_at hl 0 rfl) ?_
                      refine lv_if_eq (tgt := 163) hx hb dX4_addNeed_155 (by decide) (fun c_155 => (by first | exact absurd c_155 (by decide) | exact absurd (by decide) c_155)) (fun c_155 => ?_)
                      refine lv_bipush (v := 99) hx hb dX4_addNeed_158 (by decide) ?_
                      refine lv_goto (tgt := 170) hx hb dX4_addNeed_160 (by decide) ?_
                      refine x_cast hx hb hK hS (mw_14 hR) (ma_14 hR) (xi_nI (n := 150) (by omega) (by omega)) rfl dX4_addNeed_170 (fun H locs hat hof hS => ?_)
                      have hR := ms_14_a hR hof hat
                      refine lv_iinc (v := nI (k + 1)) (lv' := [(4, .int (nI (k + 1))), (5, .int 1), (3, .int 1), (0, .ref (ad (0, 0)))]) hx hb dX4_addNeed_171 hl (k := 1) rfl (nI_1 _) (by decide) rfl (fun ls hl => ?_)
                      refine lv_goto (tgt := 79) hx hb dX4_addNeed_174 (by decide) ?_
                      exact ih79 (k + 1) (sF S1 16 k 0 99) (by omega) (by omega) (mWF_st hWs k rfl) hA1 hN (by simp only [mSweep, ← eS]; simp [c_5, c_12, c_17, c_30, c_58, c_97, c_137]) _ _ hR hS ls (lv_sub hl [0, 2, 3] rfl)
                  · refine lv_aload_n hx hb dX4_addNeed_100 rfl (lv_at hl 2 rfl) ?_
                    refine g_X4_49 F hK (mw_0 hR) (v := .ref (ad (14, 0))) rfl dX4_addNeed_101 ?_
                    refine lv_iload hx hb dX4_addNeed_104 (lv_at hl 0 rfl) ?_
                    refine x_cald hx hb hK (mw_14 hR) (v := .int (S1.2.1 16 k 0)) (xi_nI (n := 150) (by omega) (by omega)) (rfl) dX4_addNeed_106 ?_
                    refine lv_bipush (v := 98) hx hb dX4_addNeed_107 (by decide) ?_
                    refine lv_icmp_ne (tgt := 144) hx hb dX4_addNeed_109 (by decide) (fun c_109 => ?_) (fun c_109 => ?_)
                    · refine lv_iconst (v := 0) hx hb dX4_addNeed_144 (by decide) ?_
                      refine lv_istore (lv' := [(5, .int 0), (4, .int (nI k)), (3, .int 1), (0, .ref (ad (0, 0)))]) hx hb dX4_addNeed_145 hl (by decide) rfl (fun ls hl => ?_)
                      refine lv_aload_n hx hb dX4_addNeed_147 rfl (lv_at hl 3 rfl) ?_
                      refine g_X4_49 F hK (mw_0 hR) (v := .ref (ad (14, 0))) rfl dX4_addNeed_148 ?_
                      refine lv_iload hx hb dX4_addNeed_151 (lv_at hl 1 rfl) ?_
                      refine lv_iload hx hb dX4_addNeed_153 (lv_at hl 0 rfl) ?_
                      refine lv_if_eq (tgt := 163) hx hb dX4_addNeed_155 (by decide) (fun c_155 => ?_) (fun c_155 => (by first | exact absurd c_155 (by decide) | exact absurd (by decide) c_155))
                      refine lv_aload_n hx hb dX4_addNeed_163 rfl (lv_at hl 3 rfl) ?_
                      refine g_X4_49 F hK (mw_0 hR) (v := .ref (ad (14, 0))) rfl dX4_addNeed_164 ?_
                      refine lv_iload hx hb dX4_addNeed_167 (lv_at hl 1 rfl) ?_
                      refine x_cald hx hb hK (mw_14 hR) (v := .int (S1.2.1 16 k 0)) (xi_nI (n := 150) (by omega) (by omega)) (rfl) dX4_addNeed_169 ?_
                      refine x_cast hx hb hK hS (mw_14 hR) (ma_14 hR) (xi_nI (n := 150) (by omega) (by omega)) (hWs.2.2.2.2.2.2.2.2.2.2.2.2 k) dX4_addNeed_170 (fun H locs hat hof hS => ?_)
                      have hR := ms_14_a hR hof hat
                      refine lv_iinc (v := nI (k + 1)) (lv' := [(4, .int (nI (k + 1))), (5, .int 0), (3, .int 1), (0, .ref (ad (0, 0)))]) hx hb dX4_addNeed_171 hl (k := 1) rfl (nI_1 _) (by decide) rfl (fun ls hl => ?_)
                      refine lv_goto (tgt := 79) hx hb dX4_addNeed_174 (by decide) ?_
                      exact ih79 (k + 1) (sF S1 16 k 0 (S1.2.1 16 k 0)) (by omega) (by omega) (mWF_st hWs k (hWs.2.2.2.2.2.2.2.2.2.2.2.2 k)) hA1 hN (by simp only [mSweep, ← eS]; simp [c_5, c_12, c_17, c_30, c_58, c_97, c_109]) _ _ hR hS ls (lv_sub hl [0, 2, 3] rfl)
                    · refine lv_aload_n hx hb dX4_addNeed_112 rfl (lv_at hl 2 rfl) ?_
                      refine lv_aload_n hx hb dX4_addNeed_113 rfl (lv_at hl 2 rfl) ?_
                      refine g_X4_30 F hK (mw_0 hR) (v := .ref (ad (8, 0))) rfl dX4_addNeed_114 ?_
                      refine lv_iload hx hb dX4_addNeed_117 (lv_at hl 0 rfl) ?_
                      refine x_iald hx hb hK (mw_8 hR) (v := .int (S1.2.1 10 k 0)) (xi_nI (n := 150) (by omega) (by omega)) (rfl) dX4_addNeed_119 ?_
                      refine lv_aload_n hx hb dX4_addNeed_120 rfl (lv_at hl 2 rfl) ?_
                      refine g_X4_33 F hK (mw_0 hR) (v := .ref (ad (9, 0))) rfl dX4_addNeed_121 ?_
                      refine lv_iload hx hb dX4_addNeed_124 (lv_at hl 0 rfl) ?_
                      refine x_iald hx hb hK (mw_9 hR) (v := .int (S1.2.1 11 k 0)) (xi_nI (n := 150) (by omega) (by omega)) (rfl) dX4_addNeed_126 ?_
                      refine lv_aload_n hx hb dX4_addNeed_127 rfl (lv_at hl 2 rfl) ?_
                      refine g_X4_36 F hK (mw_0 hR) (v := .ref (ad (10, 0))) rfl dX4_addNeed_128 ?_
                      refine lv_iload hx hb dX4_addNeed_131 (lv_at hl 0 rfl) ?_
                      refine x_iald hx hb hK (mw_10 hR) (v := .int (S1.2.1 12 k 0)) (xi_nI (n := 150) (by omega) (by omega)) (rfl) dX4_addNeed_133 ?_
                      refine xc_P (va_runV (As := [.int (S1.2.1 10 k 0), .int (S1.2.1 11 k 0), .int (S1.2.1 12 k 0)]) (rest := []) F (mX4_liveFor g (A := A) (S := S1) (ad := ad) (z := z) (S1.2.1 12 k 0) (xi.up (xi_of (hWs.2.2.2.2.2.2.2.2.1 k)) (by omega)) (xi.up (xi_of (hWs.2.2.2.2.2.2.2.2.2.1 k)) (by omega)) hWs hA1) (cwV 3 hts (lw_V q1581 q1583 qs32 q80 q1584) rfl rfl rfl hdV_X4_liveFor ⟨Nat.le_of_ble_eq_true rfl, Nat.le_of_ble_eq_true rfl⟩) (xpreV (xrecv hK (mw_0 hR) rfl) hWK hS hR) rfl rfl hl.1 rfl (lv_room (Nat.le_of_ble_eq_true rfl)) dX4_addNeed_134 ⟨Nat.le_of_ble_eq_true rfl, Nat.le_of_ble_eq_true rfl⟩) ?_
                      refine x_ifne (tgt := 144) hx hb dX4_addNeed_137 (by decide) (fun c_137 => ?_) (fun c_137 => ?_)
                      · refine lv_iconst (v := 0) hx hb dX4_addNeed_144 (by decide) ?_
                        refine lv_istore (lv' := [(5, .int 0), (4, .int (nI k)), (3, .int 1), (0, .ref (ad (0, 0)))]) hx hb dX4_addNeed_145 hl (by decide) rfl (fun ls hl => ?_)
                        refine lv_aload_n hx hb dX4_addNeed_147 rfl (lv_at hl 3 rfl) ?_
                        refine g_X4_49 F hK (mw_0 hR) (v := .ref (ad (14, 0))) rfl dX4_addNeed_148 ?_
                        refine lv_iload hx hb dX4_addNeed_151 (lv_at hl 1 rfl) ?_
                        refine lv_iload hx hb dX4_addNeed_153 (lv_at hl 0 rfl) ?_
                        refine lv_if_eq (tgt := 163) hx hb dX4_addNeed_155 (by decide) (fun c_155 => ?_) (fun c_155 => (by first | exact absurd c_155 (by decide) | exact absurd (by decide) c_155))
                        refine lv_aload_n hx hb dX4_addNeed_163 rfl (lv_at hl 3 rfl) ?_
                        refine g_X4_49 F hK (mw_0 hR) (v := .ref (ad (14, 0))) rfl dX4_addNeed_164 ?_
                        refine lv_iload hx hb dX4_addNeed_167 (lv_at hl 1 rfl) ?_
                        refine x_cald hx hb hK (mw_14 hR) (v := .int (S1.2.1 16 k 0)) (xi_nI (n := 150) (by omega) (by omega)) (rfl) dX4_addNeed_169 ?_
                        refine x_cast hx hb hK hS (mw_14 hR) (ma_14 hR) (xi_nI (n := 150) (by omega) (by omega)) (hWs.2.2.2.2.2.2.2.2.2.2.2.2 k) dX4_addNeed_170 (fun H locs hat hof hS => ?_)
                        have hR := ms_14_a hR hof hat
                        refine lv_iinc (v := nI (k + 1)) (lv' := [(4, .int (nI (k + 1))), (5, .int 0), (3, .int 1), (0, .ref (ad (0, 0)))]) hx hb dX4_addNeed_171 hl (k := 1) rfl (nI_1 _) (by decide) rfl (fun ls hl => ?_)
                        refine lv_goto (tgt := 79) hx hb dX4_addNeed_174 (by decide) ?_
                        exact ih79 (k + 1) (sF S1 16 k 0 (S1.2.1 16 k 0)) (by omega) (by omega) (mWF_st hWs k (hWs.2.2.2.2.2.2.2.2.2.2.2.2 k)) hA1 hN (by simp only [mSweep, ← eS]; simp [c_5, c_12, c_17, c_30, c_58, c_97, c_109, c_137]) _ _ hR hS ls (lv_sub hl [0, 2, 3] rfl)
                      · refine lv_iconst (v := 1) hx hb dX4_addNeed_140 (by decide) ?_
                        refine lv_goto (tgt := 145) hx hb dX4_addNeed_141 (by decide) ?_
                        refine lv_istore (lv' := [(5, .int 1), (4, .int (nI k)), (3, .int 1), (0, .ref (ad (0, 0)))]) hx hb dX4_addNeed_145 hl (by decide) rfl (fun ls hl => ?_)
                        refine lv_aload_n hx hb dX4_addNeed_147 rfl (lv_at hl 3 rfl) ?_
                        refine g_X4_49 F hK (mw_0 hR) (v := .ref (ad (14, 0))) rfl dX4_addNeed_148 ?_
                        refine lv_iload hx hb dX4_addNeed_151 (lv_at hl 1 rfl) ?_
                        refine lv_iload hx hb dX4_addNeed_153 (lv_at hl 0 rfl) ?_
                        refine lv_if_eq (tgt := 163) hx hb dX4_addNeed_155 (by decide) (fun c_155 => (by first | exact absurd c_155 (by decide) | exact absurd (by decide) c_155)) (fun c_155 => ?_)
                        refine lv_bipush (v := 99) hx hb dX4_addNeed_158 (by decide) ?_
                        refine lv_goto (tgt := 170) hx hb dX4_addNeed_160 (by decide) ?_
                        refine x_cast hx hb hK hS (mw_14 hR) (ma_14 hR) (xi_nI (n := 150) (by omega) (by omega)) rfl dX4_addNeed_170 (fun H locs hat hof hS => ?_)
                        have hR := ms_14_a hR hof hat
                        refine lv_iinc (v := nI (k + 1)) (lv' := [(4, .int (nI (k + 1))), (5, .int 1), (3, .int 1), (0, .ref (ad (0, 0)))]) hx hb dX4_addNeed_171 hl (k := 1) rfl (nI_1 _) (by decide) rfl (fun ls hl => ?_)
                        refine lv_goto (tgt := 79) hx hb dX4_addNeed_174 (by decide) ?_
                        exact ih79 (k + 1) (sF S1 16 k 0 99) (by omega) (by omega) (mWF_st hWs k rfl) hA1 hN (by simp only [mSweep, ← eS]; simp [c_5, c_12, c_17, c_30, c_58, c_97, c_109, c_137]) _ _ hR hS ls (lv_sub hl [0, 2, 3] rfl)
            exact L79 (S.1 2 0 + 1) 0 (sF (sF S 26 0 0 0) 5 kj oj 1) (by omega) (Nat.zero_le _) hW (rk_add (S := sF S 26 0 0 0) hkj hoj hA c_30) rfl rfl _ _ hR hS ls (lv_sub hl [0, 1, 2] rfl)
        · refine lv_iconst (v := 2) hx hb dX4_addNeed_33 (by decide) ?_
          refine lv_goto (tgt := 38) hx hb dX4_addNeed_34 (by decide) ?_
          refine p_X4_87 F hK hS (mw_0 hR) (ma_0 hR) (v := .int 2) rfl rfl (Nat.le_of_ble_eq_true rfl) dX4_addNeed_38 (fun H locs hat hof hS => ?_)
          have hR := ms_0_29 hR hof hat
          refine lv_aload_n hx hb dX4_addNeed_41 rfl (lv_at hl 0 rfl) ?_
          refine g_X4_87 F hK (mw_0 hR) (v := .int 2) (by simp [fset, nset, lset]) dX4_addNeed_42 ?_
          refine lv_if_le (tgt := 50) hx hb dX4_addNeed_45 (by decide) (fun c_45 => (by first | exact absurd c_45 (by decide) | exact absurd (by decide) c_45)) (fun c_45 => ?_)
          refine lv_iconst (v := 0) hx hb dX4_addNeed_48 (by decide) ?_
          have e9 : mAddNeed S (nI kj) (nI oj) = (false, (sF S 26 0 0 2)) := by simp [mAddNeed, c_5, c_12, c_17, c_30, thr, nI_clamp (show kj < 2 ^ 31 by omega), nI_clamp (show oj < 2 ^ 31 by omega)]
          exact xr_Cz hx hb hr hlocks ((by rw [show (mAddNeed S (nI kj) (nI oj)).1 = false from congrArg Prod.fst e9]; rfl)) (by show xRM G A (mAddNeed S (nI kj) (nI oj)).2 ad z H; rw [show (mAddNeed S (nI kj) (nI oj)).2 = (sF S 26 0 0 2) from congrArg Prod.snd e9]; exact hR) hS (by first | omega | decide) (by first | omega | decide) dX4_addNeed_49
      · refine lv_iconst (v := 1) hx hb dX4_addNeed_20 (by decide) ?_
        refine lv_goto (tgt := 38) hx hb dX4_addNeed_21 (by decide) ?_
        refine p_X4_87 F hK hS (mw_0 hR) (ma_0 hR) (v := .int 1) rfl rfl (Nat.le_of_ble_eq_true rfl) dX4_addNeed_38 (fun H locs hat hof hS => ?_)
        have hR := ms_0_29 hR hof hat
        refine lv_aload_n hx hb dX4_addNeed_41 rfl (lv_at hl 0 rfl) ?_
        refine g_X4_87 F hK (mw_0 hR) (v := .int 1) (by simp [fset, nset, lset]) dX4_addNeed_42 ?_
        refine lv_if_le (tgt := 50) hx hb dX4_addNeed_45 (by decide) (fun c_45 => (by first | exact absurd c_45 (by decide) | exact absurd (by decide) c_45)) (fun c_45 => ?_)
        refine lv_iconst (v := 0) hx hb dX4_addNeed_48 (by decide) ?_
        have e9 : mAddNeed S kind other = (false, (sF S 26 0 0 1)) := by simp [mAddNeed, c_5, c_12, c_17, thr]
        exact xr_Cz hx hb hr hlocks ((by rw [show (mAddNeed S kind other).1 = false from congrArg Prod.fst e9]; rfl)) (by show xRM G A (mAddNeed S kind other).2 ad z H; rw [show (mAddNeed S kind other).2 = (sF S 26 0 0 1) from congrArg Prod.snd e9]; exact hR) hS (by first | omega | decide) (by first | omega | decide) dX4_addNeed_49

set_option maxHeartbeats 4000000 in
theorem mX4_induct {l : Launch} {G : xG} {s0 : State} {b0 : Nat} (g : xG0 G s0 b0) {A : Nat → Prop} {S : xS} {ad : Nat × Nat → Nat} {z : xZ} (member kind : Int32) (hW : mWF S) (hA : ∃ rk, rkOK S.2.1 rk ∧ ∀ i, rk i < 4) : Met l yX4_induct (ws_ yX4_induct cX4_induct 4 (some .int)) ({ frames := 8, cells := 0, slots := 0, locals := 216 } : Room) (xP s0 A [.ref (ad (0, 0)), .int member, .int kind] (fun H => xRM G A S ad z H)) (xQc (some (.int ((mInduct S member kind).1))) (fun _ H => xRM G A (mInduct S member kind).2 ad z H) A) 0 0 A := by
  refine Met.ofW (cc := cX4_induct) (maxL := 4) (ret := (some .int)) (by decide) rfl ?_
  intro p e s m args below meth c s₁ B hml hv
  obtain ⟨rfl, hWK, hR⟩ := hv
  have hx := B.exec
  have hb := B.bytes
  have hr := B.returns
  have hts := atoms_spec (ws := ws_ yX4_induct cX4_induct 4 (some .int)) B.pre
  have hts : ∀ w ∈ lw_all, w.before _ s = true := fun w h => hts w (List.mem_cons_of_mem _ h)
  have hown : s.vm.findClass "LendlatheModel" = some m.cls := findClass_of_methodNamed B.named
  have hlocks := B.notSynchronized
  have hK := hWK.K g
  have F : CallFix p m c cX4_induct 4 s _ lw_all "LendlatheModel" := ⟨hx, hb, hml, hown, hts⟩
  have hS : va_S A s.heap s.heap [] := va_S.rf
  have hl := lv_entry ([.ref (ad (0, 0)), .int member, .int kind]) (n := 4) (Nat.le_of_ble_eq_true rfl)
  rw [lg_entry_eq]
  generalize (lg_sl ([.ref (ad (0, 0)), .int member, .int kind]) ++ List.replicate (4 - (lg_sl ([.ref (ad (0, 0)), .int member, .int kind])).length) Slot.unset).toArray = ls at hl ⊢
  have hl : lv_has ls 4 [(0, .ref (ad (0, 0))), (1, .int member), (2, .int kind)] := hl
  have hn0 := hW.1
  have hn1 := hW.2.1
  have hn2 := hW.2.2.1
  have hn3 := hW.2.2.2.1
  have hn4 := hW.2.2.2.2.1
  obtain ⟨rk, hrk, hr4⟩ := id hA
  refine lv_aload_n hx hb dX4_induct_0 rfl (lv_at hl 0 rfl) ?_
  refine lv_aload_n hx hb dX4_induct_1 rfl (lv_at hl 0 rfl) ?_
  refine lv_iload_n hx hb dX4_induct_2 rfl (lv_at hl 1 rfl) ?_
  refine xc_P (va_runV (As := [.int member]) (rest := [.ref (ad (0, 0))]) F (mX4_isMember g (A := A) (S := S) (ad := ad) (z := z) member) (cwV 1 hts (lw_V q1621 q1623 qs41 q80 q1624) rfl rfl rfl hdV_X4_isMember ⟨Nat.le_of_ble_eq_true rfl, Nat.le_of_ble_eq_true rfl⟩) (xpreV (xrecv hK (mw_0 hR) rfl) hWK hS hR) rfl rfl hl.1 rfl (lv_room (Nat.le_of_ble_eq_true rfl)) dX4_induct_3 ⟨Nat.le_of_ble_eq_true rfl, Nat.le_of_ble_eq_true rfl⟩) ?_
  refine x_ifne (tgt := 13) hx hb dX4_induct_6 (by decide) (fun c_6 => ?_) (fun c_6 => ?_)
  · refine lv_iload_n hx hb dX4_induct_13 rfl (lv_at hl 2 rfl) ?_
    refine xc_P (va_runS (As := [.int kind]) (rest := [.ref (ad (0, 0))]) F (mX4_isKind g (A := A) kind) (va_cwS 1 hts (lw_S q1555 q1556 q80 q1557) rfl rfl rfl hdS_X4_isKind ⟨Nat.le_of_ble_eq_true rfl, Nat.le_of_ble_eq_true rfl⟩) (xpre hWK hS trivial) rfl rfl hl.1 rfl (lv_room (Nat.le_of_ble_eq_true rfl)) dX4_induct_14 ⟨Nat.le_of_ble_eq_true rfl, Nat.le_of_ble_eq_true rfl⟩) ?_
    refine x_ifne (tgt := 24) hx hb dX4_induct_17 (by decide) (fun c_17 => ?_) (fun c_17 => ?_)
    · obtain ⟨mj, hmj, rfl⟩ := inI_of' (n := S.1 1 0) (by first | rfl | decide) (by first | decide | omega) c_6
      obtain ⟨kj, hkj, rfl⟩ := inI_of' (n := 4) (by first | rfl | decide) (by first | decide | omega) c_17
      refine lv_iconst (v := 0) hx hb dX4_induct_24 (by decide) ?_
      refine p_X4_87 F hK hS (mw_0 hR) (ma_0 hR) (v := .int 0) rfl rfl (Nat.le_of_ble_eq_true rfl) dX4_induct_25 (fun H locs hat hof hS => ?_)
      have hR := ms_0_29 hR hof hat
      refine lv_iconst (v := 0) hx hb dX4_induct_28 (by decide) ?_
      refine lv_istore_n (lv' := [(3, .int 0), (0, .ref (ad (0, 0))), (1, .int (nI mj)), (2, .int (nI kj))]) hx hb dX4_induct_29 rfl hl (by decide) rfl (fun ls hl => ?_)
      have L30 : ∀ (n : Nat) (k : Nat) (t : Int32), 4 - k < n → (k ≤ 4) → (t = if allN k (fun j => decide (S.2.1 5 kj j = 0) || mLive S.2.1 (S.2.1 7 0 0) mj 4 j) = true then 0 else 3) → ∀ (H : Heap) (locs : List Loc), xRM G A (sF S 26 0 0 t) ad z H → va_S A s.heap H locs → ∀ (ls : Array Slot), lv_has ls 4 [(3, .int (nI k)), (0, .ref (ad (0, 0))), (1, .int (nI mj)), (2, .int (nI kj))] → W p l e (headSpec (ws_ yX4_induct cX4_induct 4 (some .int)) ({ frames := 8, cells := 0, slots := 0, locals := 216 } : Room)).room s m ([.ref (ad (0, 0)), .int (nI mj), .int (nI kj)] : List Value).toArray below meth c H locs 0 0 (MQ below (xQc (some (.int ((mInduct S (nI mj) (nI kj)).1))) (fun _ H => xRM G A (mInduct S (nI mj) (nI kj)).2 ad z H) A) ([.ref (ad (0, 0)), .int (nI mj), .int (nI kj)] : List Value).toArray s 0 0 A) (F0 m 30 ls []) := by
        intro n30
        induction n30 with
        | zero =>
          intro k t hn30
          exact absurd hn30 (Nat.not_lt_zero _)
        | succ n30 ih30 =>
          intro k t hn30 hk4 et H locs hR hS ls hl
          refine lv_iload_n hx hb dX4_induct_30 rfl (lv_at hl 0 rfl) ?_
          refine lv_iconst (v := 4) hx hb dX4_induct_31 (by decide) ?_
          refine xn_ge (tgt := 81) k 4 rfl (by decide) (by omega) (by omega) hx hb dX4_induct_32 (by decide) (fun c_32 => ?_) (fun c_32 => ?_)
          · refine lv_aload_n hx hb dX4_induct_81 rfl (lv_at hl 1 rfl) ?_
            refine g_X4_87 F hK (mw_0 hR) (v := .int t) (by simp [fset, nset, lset]) dX4_induct_82 ?_
            refine lv_if_le (tgt := 90) hx hb dX4_induct_85 (by decide) (fun c_85 => ?_) (fun c_85 => ?_)
            · refine lv_aload_n hx hb dX4_induct_90 rfl (lv_at hl 1 rfl) ?_
              refine g_X4_18 F hK (mw_0 hR) (v := .ref (ad (3, 0))) rfl dX4_induct_91 ?_
              refine lv_iload_n hx hb dX4_induct_94 rfl (lv_at hl 2 rfl) ?_
              refine x_aald hx hb hK (mw_3 hR) rfl rfl (v := .ref (ad (4, mj))) (xi_nI (n := 10) (by omega) (by omega)) (rfl) dX4_induct_95 ?_
              refine lv_iload_n hx hb dX4_induct_96 rfl (lv_at hl 3 rfl) ?_
              refine x_iald hx hb hK (mw_4 hR (by omega)) (v := .int (S.2.1 2 mj kj)) (xi_nI (n := 4) (by omega) (by omega)) (rfl) dX4_induct_97 ?_
              refine lv_istore_n (lv' := [(3, .int (S.2.1 2 mj kj)), (0, .ref (ad (0, 0))), (1, .int (nI mj)), (2, .int (nI kj))]) hx hb dX4_induct_98 rfl hl (by decide) rfl (fun ls hl => ?_)
              refine lv_aload_n hx hb dX4_induct_99 rfl (lv_at hl 1 rfl) ?_
              refine g_X4_18 F hK (mw_0 hR) (v := .ref (ad (3, 0))) rfl dX4_induct_100 ?_
              refine lv_iload_n hx hb dX4_induct_103 rfl (lv_at hl 2 rfl) ?_
              refine x_aald hx hb hK (mw_3 hR) rfl rfl (v := .ref (ad (4, mj))) (xi_nI (n := 10) (by omega) (by omega)) (rfl) dX4_induct_104 ?_
              refine lv_iload_n hx hb dX4_induct_105 rfl (lv_at hl 3 rfl) ?_
              refine lv_aload_n hx hb dX4_induct_106 rfl (lv_at hl 1 rfl) ?_
              refine g_X4_112 F hK (mw_0 hR) (v := .int (S.2.1 7 0 0)) rfl dX4_induct_107 ?_
              refine x_iast hx hb hK hS (mw_4 hR (by omega)) (ma_4 hR (by omega)) (xi_nI (n := 4) (by omega) (by omega)) dX4_induct_110 (fun H locs hat hof hS => ?_)
              have hR := ms_4_a hR (by omega) hof hat
              refine lv_aload_n hx hb dX4_induct_111 rfl (lv_at hl 1 rfl) ?_
              refine xc_C0 (va_runV (As := []) (rest := []) F (mX4_gives g (A := A) (S := (sF (sF S 26 0 0 t) 2 mj kj (S.2.1 7 0 0))) (ad := ad) (z := z) hW hA) (cwV 0 hts (lw_V q1589 q1591 qs34 q80 q1592) rfl rfl rfl hdV_X4_gives ⟨Nat.le_of_ble_eq_true rfl, Nat.le_of_ble_eq_true rfl⟩) (xpreV (xrecv hK (mw_0 hR) rfl) hWK hS hR) rfl rfl hl.1 rfl (lv_room (Nat.le_of_ble_eq_true rfl)) dX4_induct_112 ⟨Nat.le_of_ble_eq_true rfl, Nat.le_of_ble_eq_true rfl⟩) hS (fun H locs hR1 hz hk hS => ?_)
              have hR := hR1
              refine lv_iload_n hx hb dX4_induct_115 rfl (lv_at hl 0 rfl) ?_
              refine lv_iconst (v := (-1)) hx hb dX4_induct_116 (by decide) ?_
              refine lv_icmp_ne (tgt := 124) hx hb dX4_induct_117 (by decide) (fun c_117 => ?_) (fun c_117 => ?_)
              · refine lv_aload_n hx hb dX4_induct_124 rfl (lv_at hl 1 rfl) ?_
                refine g_X4_112 F hK (mw_0 hR) (v := .int ((mGives (sF (sF S 26 0 0 t) 2 mj kj (S.2.1 7 0 0))).2.1 7 0 0)) rfl dX4_induct_125 ?_
                refine lv_iload_n hx hb dX4_induct_128 rfl (lv_at hl 0 rfl) ?_
                refine lv_isub hx hb dX4_induct_129 ?_
                have ha8 := ((ind3 et).1 c_85).2
                have ht0 := ((ind3 et).1 c_85).1
                have hk9 : k = 4 := (by omega)
                subst hk9
                have e9 : mInduct S (nI mj) (nI kj) = (((mGives (sF (sF S 26 0 0 t) 2 mj kj (S.2.1 7 0 0))).2.1 7 0 0) - (S.2.1 2 mj kj), (mGives (sF (sF S 26 0 0 t) 2 mj kj (S.2.1 7 0 0)))) := by simp [mInduct, c_6, c_17, c_32, c_85, c_117, thr, ht0, ha8, mGives_f, fset, nI_clamp (show mj < 2 ^ 31 by omega), nI_clamp (show kj < 2 ^ 31 by omega)]
                exact xr_Ci hx hb hr hlocks ((congrArg Prod.fst e9).symm) (by show xRM G A (mInduct S (nI mj) (nI kj)).2 ad z H; rw [show (mInduct S (nI mj) (nI kj)).2 = (mGives (sF (sF S 26 0 0 t) 2 mj kj (S.2.1 7 0 0))) from congrArg Prod.snd e9]; exact hR) hS (by first | omega | decide) (by first | omega | decide) dX4_induct_130
              · refine lv_iconst (v := (-1)) hx hb dX4_induct_120 (by decide) ?_
                refine lv_goto (tgt := 130) hx hb dX4_induct_121 (by decide) ?_
                have ha8 := ((ind3 et).1 c_85).2
                have ht0 := ((ind3 et).1 c_85).1
                have hk9 : k = 4 := (by omega)
                subst hk9
                have e9 : mInduct S (nI mj) (nI kj) = ((-1), (mGives (sF (sF S 26 0 0 t) 2 mj kj (S.2.1 7 0 0)))) := by simp [mInduct, c_6, c_17, c_32, c_85, c_117, thr, ht0, ha8, mGives_f, fset, nI_clamp (show mj < 2 ^ 31 by omega), nI_clamp (show kj < 2 ^ 31 by omega)]
                exact xr_Ci hx hb hr hlocks ((congrArg Prod.fst e9).symm) (by show xRM G A (mInduct S (nI mj) (nI kj)).2 ad z H; rw [show (mInduct S (nI mj) (nI kj)).2 = (mGives (sF (sF S 26 0 0 t) 2 mj kj (S.2.1 7 0 0))) from congrArg Prod.snd e9]; exact hR) hS (by first | omega | decide) (by first | omega | decide) dX4_induct_130
            · refine lv_iconst (v := 0) hx hb dX4_induct_88 (by decide) ?_
              have ht0 := ((ind3 et).2 c_85).1
              have ha8 := ((ind3 et).2 c_85).2
              have hk9 : k = 4 := (by omega)
              subst hk9
              have e9 : mInduct S (nI mj) (nI kj) = (0, (sF S 26 0 0 t)) := by simp [mInduct, c_6, c_17, c_32, c_85, thr, ht0, ha8, nI_clamp (show mj < 2 ^ 31 by omega), nI_clamp (show kj < 2 ^ 31 by omega)]
              exact xr_Ci hx hb hr hlocks ((congrArg Prod.fst e9).symm) (by show xRM G A (mInduct S (nI mj) (nI kj)).2 ad z H; rw [show (mInduct S (nI mj) (nI kj)).2 = (sF S 26 0 0 t) from congrArg Prod.snd e9]; exact hR) hS (by first | omega | decide) (by first | omega | decide) dX4_induct_89
          · refine lv_aload_n hx hb dX4_induct_35 rfl (lv_at hl 1 rfl) ?_
            refine g_X4_87 F hK (mw_0 hR) (v := .int t) (by simp [fset, nset, lset]) dX4_induct_36 ?_
            refine lv_if_ne (tgt := 81) hx hb dX4_induct_39 (by decide) (fun c_39 => ?_) (fun c_39 => ?_)
            · refine lv_aload_n hx hb dX4_induct_81 rfl (lv_at hl 1 rfl) ?_
              refine g_X4_87 F hK (mw_0 hR) (v := .int t) (by simp [fset, nset, lset]) dX4_induct_82 ?_
              refine lv_if_le (tgt := 90) hx hb dX4_induct_85 (by decide) (fun c_85 => ?_) (fun c_85 => ?_)
              · exact absurd ((ind3 et).1 c_85).1 c_39
              · refine lv_iconst (v := 0) hx hb dX4_induct_88 (by decide) ?_
                have ht0 := ((ind3 et).2 c_85).1
                have ha8 : allN 4 (fun j => decide (S.2.1 5 kj j = 0) || mLive S.2.1 (S.2.1 7 0 0) mj 4 j) = false := and_all (x := true) ((ind3 et).2 c_85).2 hk4
                have e9 : mInduct S (nI mj) (nI kj) = (0, (sF S 26 0 0 t)) := by simp [mInduct, c_6, c_17, c_32, c_39, c_85, thr, ht0, ha8, nI_clamp (show mj < 2 ^ 31 by omega), nI_clamp (show kj < 2 ^ 31 by omega)]
                exact xr_Ci hx hb hr hlocks ((congrArg Prod.fst e9).symm) (by show xRM G A (mInduct S (nI mj) (nI kj)).2 ad z H; rw [show (mInduct S (nI mj) (nI kj)).2 = (sF S 26 0 0 t) from congrArg Prod.snd e9]; exact hR) hS (by first | omega | decide) (by first | omega | decide) dX4_induct_89
            · refine lv_aload_n hx hb dX4_induct_42 rfl (lv_at hl 1 rfl) ?_
              refine lv_aload_n hx hb dX4_induct_43 rfl (lv_at hl 1 rfl) ?_
              refine g_X4_27 F hK (mw_0 hR) (v := .ref (ad (6, 0))) rfl dX4_induct_44 ?_
              refine lv_iload_n hx hb dX4_induct_47 rfl (lv_at hl 3 rfl) ?_
              refine x_aald hx hb hK (mw_6 hR) rfl rfl (v := .ref (ad (7, kj))) (xi_nI (n := 4) (by omega) (by omega)) (rfl) dX4_induct_48 ?_
              refine lv_iload_n hx hb dX4_induct_49 rfl (lv_at hl 0 rfl) ?_
              refine x_zald hx hb hK (mw_7 hR (by omega)) (v := .int (S.2.1 5 kj k)) (xi_nI (n := 4) (by omega) (by omega)) (rfl) dX4_induct_50 ?_
              refine lv_if_eq (tgt := 71) hx hb dX4_induct_51 (by decide) (fun c_51 => ?_) (fun c_51 => ?_)
              · refine lv_iconst (v := 0) hx hb dX4_induct_71 (by decide) ?_
                refine p_X4_87 F hK hS (mw_0 hR) (ma_0 hR) (v := .int 0) rfl rfl (Nat.le_of_ble_eq_true rfl) dX4_induct_72 (fun H locs hat hof hS => ?_)
                have hR := ms_0_29 hR hof hat
                rw [sF_sF] at hR
                refine lv_iinc (v := nI (k + 1)) (lv' := [(3, .int (nI (k + 1))), (0, .ref (ad (0, 0))), (1, .int (nI mj)), (2, .int (nI kj))]) hx hb dX4_induct_75 hl (k := 0) rfl (nI_1 _) (by decide) rfl (fun ls hl => ?_)
                refine lv_goto (tgt := 30) hx hb dX4_induct_78 (by decide) ?_
                have ha9 := ind0 et c_39
                exact ih30 (k + 1) 0 (by omega) (by omega) (by simp [allN, ha9, c_6, c_17, c_51]) _ _ hR hS ls (lv_sub hl [0, 1, 2, 3] rfl)
              · refine lv_aload_n hx hb dX4_induct_54 rfl (lv_at hl 1 rfl) ?_
                refine lv_iload_n hx hb dX4_induct_55 rfl (lv_at hl 2 rfl) ?_
                refine lv_iload_n hx hb dX4_induct_56 rfl (lv_at hl 0 rfl) ?_
                refine lv_aload_n hx hb dX4_induct_57 rfl (lv_at hl 1 rfl) ?_
                refine g_X4_112 F hK (mw_0 hR) (v := .int (S.2.1 7 0 0)) rfl dX4_induct_58 ?_
                refine xc_P (va_runV (As := [.int (nI mj), .int (nI k), .int (S.2.1 7 0 0)]) (rest := [.ref (ad (0, 0))]) F (mX4_live g (A := A) (S := (sF S 26 0 0 t)) (ad := ad) (z := z) hrk 4 (S.2.1 7 0 0) (nI mj) mj (nI k) k (xi_nI (n := 10) (by omega) (by omega)) (xi_nI (n := 4) (by omega) (by omega)) (hr4 _)) (cwV 3 hts (lw_V q1585 q1587 qs33 q80 q1588) rfl rfl rfl hdV_X4_live ⟨Nat.le_of_ble_eq_true rfl, Nat.le_of_ble_eq_true rfl⟩) (xpreV (xrecv hK (mw_0 hR) rfl) hWK hS hR) rfl rfl hl.1 rfl (lv_room (Nat.le_of_ble_eq_true rfl)) dX4_induct_61 ⟨Nat.le_of_ble_eq_true rfl, Nat.le_of_ble_eq_true rfl⟩) ?_
                refine x_topb (show mLive (sF S 26 0 0 t).2.1 (S.2.1 7 0 0) mj 4 k = mLive S.2.1 (S.2.1 7 0 0) mj 4 k from rfl) ?_
                refine x_ifne (tgt := 71) hx hb dX4_induct_64 (by decide) (fun c_64 => ?_) (fun c_64 => ?_)
                · refine lv_iconst (v := 0) hx hb dX4_induct_71 (by decide) ?_
                  refine p_X4_87 F hK hS (mw_0 hR) (ma_0 hR) (v := .int 0) rfl rfl (Nat.le_of_ble_eq_true rfl) dX4_induct_72 (fun H locs hat hof hS => ?_)
                  have hR := ms_0_29 hR hof hat
                  rw [sF_sF] at hR
                  refine lv_iinc (v := nI (k + 1)) (lv' := [(3, .int (nI (k + 1))), (0, .ref (ad (0, 0))), (1, .int (nI mj)), (2, .int (nI kj))]) hx hb dX4_induct_75 hl (k := 0) rfl (nI_1 _) (by decide) rfl (fun ls hl => ?_)
                  refine lv_goto (tgt := 30) hx hb dX4_induct_78 (by decide) ?_
                  have ha9 := ind0 et c_39
                  exact ih30 (k + 1) 0 (by omega) (by omega) (by simp [allN, ha9, c_6, c_17, c_51, c_64]) _ _ hR hS ls (lv_sub hl [0, 1, 2, 3] rfl)
                · refine lv_iconst (v := 3) hx hb dX4_induct_67 (by decide) ?_
                  refine lv_goto (tgt := 72) hx hb dX4_induct_68 (by decide) ?_
                  refine p_X4_87 F hK hS (mw_0 hR) (ma_0 hR) (v := .int 3) rfl rfl (Nat.le_of_ble_eq_true rfl) dX4_induct_72 (fun H locs hat hof hS => ?_)
                  have hR := ms_0_29 hR hof hat
                  rw [sF_sF] at hR
                  refine lv_iinc (v := nI (k + 1)) (lv' := [(3, .int (nI (k + 1))), (0, .ref (ad (0, 0))), (1, .int (nI mj)), (2, .int (nI kj))]) hx hb dX4_induct_75 hl (k := 0) rfl (nI_1 _) (by decide) rfl (fun ls hl => ?_)
                  refine lv_goto (tgt := 30) hx hb dX4_induct_78 (by decide) ?_
                  have ha9 := ind0 et c_39
                  exact ih30 (k + 1) 3 (by omega) (by omega) (by simp [allN, ha9, c_6, c_17, c_51, c_64]) _ _ hR hS ls (lv_sub hl [0, 1, 2, 3] rfl)
      exact L30 5 0 0 (by omega) (by omega) rfl _ _ hR hS ls (lv_sub hl [0, 1, 2, 3] rfl)
    · refine lv_iconst (v := 2) hx hb dX4_induct_20 (by decide) ?_
      refine lv_goto (tgt := 25) hx hb dX4_induct_21 (by decide) ?_
      refine p_X4_87 F hK hS (mw_0 hR) (ma_0 hR) (v := .int 2) rfl rfl (Nat.le_of_ble_eq_true rfl) dX4_induct_25 (fun H locs hat hof hS => ?_)
      have hR := ms_0_29 hR hof hat
      refine lv_iconst (v := 0) hx hb dX4_induct_28 (by decide) ?_
      refine lv_istore_n (lv' := [(3, .int 0), (0, .ref (ad (0, 0))), (1, .int member), (2, .int kind)]) hx hb dX4_induct_29 rfl hl (by decide) rfl (fun ls hl => ?_)
      refine lv_iload_n hx hb dX4_induct_30 rfl (lv_at hl 0 rfl) ?_
      refine lv_iconst (v := 4) hx hb dX4_induct_31 (by decide) ?_
      refine lv_icmp_ge (tgt := 81) hx hb dX4_induct_32 (by decide) (fun c_32 => (by first | exact absurd c_32 (by decide) | exact absurd (by decide) c_32)) (fun c_32 => ?_)
      refine lv_aload_n hx hb dX4_induct_35 rfl (lv_at hl 1 rfl) ?_
      refine g_X4_87 F hK (mw_0 hR) (v := .int 2) (by simp [fset, nset, lset]) dX4_induct_36 ?_
      refine lv_if_ne (tgt := 81) hx hb dX4_induct_39 (by decide) (fun c_39 => ?_) (fun c_39 => (by first | exact absurd c_39 (by decide) | exact absurd (by decide) c_39))
      refine lv_aload_n hx hb dX4_induct_81 rfl (lv_at hl 1 rfl) ?_
      refine g_X4_87 F hK (mw_0 hR) (v := .int 2) (by simp [fset, nset, lset]) dX4_induct_82 ?_
      refine lv_if_le (tgt := 90) hx hb dX4_induct_85 (by decide) (fun c_85 => (by first | exact absurd c_85 (by decide) | exact absurd (by decide) c_85)) (fun c_85 => ?_)
      refine lv_iconst (v := 0) hx hb dX4_induct_88 (by decide) ?_
      have e9 : mInduct S member kind = (0, (sF S 26 0 0 2)) := by simp [mInduct, c_6, c_17, thr]
      exact xr_Ci hx hb hr hlocks ((congrArg Prod.fst e9).symm) (by show xRM G A (mInduct S member kind).2 ad z H; rw [show (mInduct S member kind).2 = (sF S 26 0 0 2) from congrArg Prod.snd e9]; exact hR) hS (by first | omega | decide) (by first | omega | decide) dX4_induct_89
  · refine lv_iconst (v := 1) hx hb dX4_induct_9 (by decide) ?_
    refine lv_goto (tgt := 25) hx hb dX4_induct_10 (by decide) ?_
    refine p_X4_87 F hK hS (mw_0 hR) (ma_0 hR) (v := .int 1) rfl rfl (Nat.le_of_ble_eq_true rfl) dX4_induct_25 (fun H locs hat hof hS => ?_)
    have hR := ms_0_29 hR hof hat
    refine lv_iconst (v := 0) hx hb dX4_induct_28 (by decide) ?_
    refine lv_istore_n (lv' := [(3, .int 0), (0, .ref (ad (0, 0))), (1, .int member), (2, .int kind)]) hx hb dX4_induct_29 rfl hl (by decide) rfl (fun ls hl => ?_)
    refine lv_iload_n hx hb dX4_induct_30 rfl (lv_at hl 0 rfl) ?_
    refine lv_iconst (v := 4) hx hb dX4_induct_31 (by decide) ?_
    refine lv_icmp_ge (tgt := 81) hx hb dX4_induct_32 (by decide) (fun c_32 => (by first | exact absurd c_32 (by decide) | exact absurd (by decide) c_32)) (fun c_32 => ?_)
    refine lv_aload_n hx hb dX4_induct_35 rfl (lv_at hl 1 rfl) ?_
    refine g_X4_87 F hK (mw_0 hR) (v := .int 1) (by simp [fset, nset, lset]) dX4_induct_36 ?_
    refine lv_if_ne (tgt := 81) hx hb dX4_induct_39 (by decide) (fun c_39 => ?_) (fun c_39 => (by first | exact absurd c_39 (by decide) | exact absurd (by decide) c_39))
    refine lv_aload_n hx hb dX4_induct_81 rfl (lv_at hl 1 rfl) ?_
    refine g_X4_87 F hK (mw_0 hR) (v := .int 1) (by simp [fset, nset, lset]) dX4_induct_82 ?_
    refine lv_if_le (tgt := 90) hx hb dX4_induct_85 (by decide) (fun c_85 => (by first | exact absurd c_85 (by decide) | exact absurd (by decide) c_85)) (fun c_85 => ?_)
    refine lv_iconst (v := 0) hx hb dX4_induct_88 (by decide) ?_
    have e9 : mInduct S member kind = (0, (sF S 26 0 0 1)) := by simp [mInduct, c_6, thr]
    exact xr_Ci hx hb hr hlocks ((congrArg Prod.fst e9).symm) (by show xRM G A (mInduct S member kind).2 ad z H; rw [show (mInduct S member kind).2 = (sF S 26 0 0 1) from congrArg Prod.snd e9]; exact hR) hS (by first | omega | decide) (by first | omega | decide) dX4_induct_89

set_option maxHeartbeats 4000000 in
theorem mX4_cut {l : Launch} {G : xG} {s0 : State} {b0 : Nat} (g : xG0 G s0 b0) {A : Nat → Prop} {S : xS} {ad : Nat × Nat → Nat} {z : xZ} (entry material length : Int32) (hW : mWF S) : Met l yX4_cut (ws_ yX4_cut cX4_cut 7 (some .int)) ({ frames := 2, cells := 0, slots := 0, locals := 43 } : Room) (xP s0 A [.ref (ad (0, 0)), .int entry, .int material, .int length] (fun H => xRM G A S ad z H)) (xQc (some (.int ((mCut S entry material length).1))) (fun _ H => xRM G A (mCut S entry material length).2 ad z H) A) 0 0 A := by
  refine Met.ofW (cc := cX4_cut) (maxL := 7) (ret := (some .int)) (by decide) rfl ?_
  intro p e s m args below meth c s₁ B hml hv
  obtain ⟨rfl, hWK, hR⟩ := hv
  have hx := B.exec
  have hb := B.bytes
  have hr := B.returns
  have hts := atoms_spec (ws := ws_ yX4_cut cX4_cut 7 (some .int)) B.pre
  have hts : ∀ w ∈ lw_all, w.before _ s = true := fun w h => hts w (List.mem_cons_of_mem _ h)
  have hown : s.vm.findClass "LendlatheModel" = some m.cls := findClass_of_methodNamed B.named
  have hlocks := B.notSynchronized
  have hK := hWK.K g
  have F : CallFix p m c cX4_cut 7 s _ lw_all "LendlatheModel" := ⟨hx, hb, hml, hown, hts⟩
  have hS : va_S A s.heap s.heap [] := va_S.rf
  have hl := lv_entry ([.ref (ad (0, 0)), .int entry, .int material, .int length]) (n := 7) (Nat.le_of_ble_eq_true rfl)
  rw [lg_entry_eq]
  generalize (lg_sl ([.ref (ad (0, 0)), .int entry, .int material, .int length]) ++ List.replicate (7 - (lg_sl ([.ref (ad (0, 0)), .int entry, .int material, .int length])).length) Slot.unset).toArray = ls at hl ⊢
  have hl : lv_has ls 7 [(0, .ref (ad (0, 0))), (1, .int entry), (2, .int material), (3, .int length)] := hl
  have hn0 := hW.1
  have hn1 := hW.2.1
  have hn2 := hW.2.2.1
  have hn3 := hW.2.2.2.1
  have hn4 := hW.2.2.2.2.1
  have hn6 := hW.2.2.2.2.2.2.1
  refine lv_aload_n hx hb dX4_cut_0 rfl (lv_at hl 0 rfl) ?_
  refine lv_aload_n hx hb dX4_cut_1 rfl (lv_at hl 0 rfl) ?_
  refine lv_iload_n hx hb dX4_cut_2 rfl (lv_at hl 1 rfl) ?_
  refine xc_P (va_runV (As := [.int entry]) (rest := [.ref (ad (0, 0))]) F (mX4_isEntry g (A := A) (S := S) (ad := ad) (z := z) entry) (cwV 1 hts (lw_V q1660 q1662 qs45 q80 q1663) rfl rfl rfl hdV_X4_isEntry ⟨Nat.le_of_ble_eq_true rfl, Nat.le_of_ble_eq_true rfl⟩) (xpreV (xrecv hK (mw_0 hR) rfl) hWK hS hR) rfl rfl hl.1 rfl (lv_room (Nat.le_of_ble_eq_true rfl)) dX4_cut_3 ⟨Nat.le_of_ble_eq_true rfl, Nat.le_of_ble_eq_true rfl⟩) ?_
  refine x_ifne (tgt := 13) hx hb dX4_cut_6 (by decide) (fun c_6 => ?_) (fun c_6 => ?_)
  · refine lv_iload_n hx hb dX4_cut_13 rfl (lv_at hl 2 rfl) ?_
    refine lv_iconst (v := 0) hx hb dX4_cut_14 (by decide) ?_
    refine lv_iconst (v := 2) hx hb dX4_cut_15 (by decide) ?_
    refine xc_P (va_runS (As := [.int material, .int 0, .int 2]) (rest := [.ref (ad (0, 0))]) F (mX4_in g (A := A) material 0 2) (va_cwS 3 hts (lw_S q1558 q1559 q80 q1560) rfl rfl rfl hdS_X4_in ⟨Nat.le_of_ble_eq_true rfl, Nat.le_of_ble_eq_true rfl⟩) (xpre hWK hS trivial) rfl rfl hl.1 rfl (lv_room (Nat.le_of_ble_eq_true rfl)) dX4_cut_16 ⟨Nat.le_of_ble_eq_true rfl, Nat.le_of_ble_eq_true rfl⟩) ?_
    refine x_ifeq (tgt := 33) hx hb dX4_cut_19 (by decide) (fun c_19 => ?_) (fun c_19 => ?_)
    · refine lv_iconst (v := 2) hx hb dX4_cut_33 (by decide) ?_
      refine lv_goto (tgt := 63) hx hb dX4_cut_34 (by decide) ?_
      refine p_X4_87 F hK hS (mw_0 hR) (ma_0 hR) (v := .int 2) rfl rfl (Nat.le_of_ble_eq_true rfl) dX4_cut_63 (fun H locs hat hof hS => ?_)
      have hR := ms_0_29 hR hof hat
      refine lv_aload_n hx hb dX4_cut_66 rfl (lv_at hl 0 rfl) ?_
      refine g_X4_87 F hK (mw_0 hR) (v := .int 2) (by simp [fset, nset, lset]) dX4_cut_67 ?_
      refine lv_if_le (tgt := 75) hx hb dX4_cut_70 (by decide) (fun c_70 => (by first | exact absurd c_70 (by decide) | exact absurd (by decide) c_70)) (fun c_70 => ?_)
      refine lv_iconst (v := 0) hx hb dX4_cut_73 (by decide) ?_
      have e9 : mCut S entry material length = (0, (sF S 26 0 0 2)) := by simp [mCut, c_6, c_19, thr]
      exact xr_Ci hx hb hr hlocks ((congrArg Prod.fst e9).symm) (by show xRM G A (mCut S entry material length).2 ad z H; rw [show (mCut S entry material length).2 = (sF S 26 0 0 2) from congrArg Prod.snd e9]; exact hR) hS (by first | omega | decide) (by first | omega | decide) dX4_cut_74
    · refine lv_iload_n hx hb dX4_cut_22 rfl (lv_at hl 3 rfl) ?_
      refine lv_iconst (v := 1) hx hb dX4_cut_23 (by decide) ?_
      refine lv_sipush (v := 5000) hx hb dX4_cut_24 (by decide) ?_
      refine xc_P (va_runS (As := [.int length, .int 1, .int 5000]) (rest := [.ref (ad (0, 0))]) F (mX4_in g (A := A) length 1 5000) (va_cwS 3 hts (lw_S q1558 q1559 q80 q1560) rfl rfl rfl hdS_X4_in ⟨Nat.le_of_ble_eq_true rfl, Nat.le_of_ble_eq_true rfl⟩) (xpre hWK hS trivial) rfl rfl hl.1 rfl (lv_room (Nat.le_of_ble_eq_true rfl)) dX4_cut_27 ⟨Nat.le_of_ble_eq_true rfl, Nat.le_of_ble_eq_true rfl⟩) ?_
      refine x_ifne (tgt := 37) hx hb dX4_cut_30 (by decide) (fun c_30 => ?_) (fun c_30 => ?_)
      · obtain ⟨ej, hej, rfl⟩ := inI_of' (n := S.1 2 0) (by first | rfl | decide) (by first | decide | omega) c_6
        have h6e := hn6 ej
        refine lv_aload_n hx hb dX4_cut_37 rfl (lv_at hl 0 rfl) ?_
        refine g_X4_49 F hK (mw_0 hR) (v := .ref (ad (14, 0))) rfl dX4_cut_38 ?_
        refine lv_iload_n hx hb dX4_cut_41 rfl (lv_at hl 1 rfl) ?_
        refine x_cald hx hb hK (mw_14 hR) (v := .int (S.2.1 16 ej 0)) (xi_nI (n := 150) (by omega) (by omega)) (rfl) dX4_cut_42 ?_
        refine lv_bipush (v := 98) hx hb dX4_cut_43 (by decide) ?_
        refine lv_icmp_ne (tgt := 58) hx hb dX4_cut_45 (by decide) (fun c_45 => ?_) (fun c_45 => ?_)
        · refine lv_iconst (v := 3) hx hb dX4_cut_58 (by decide) ?_
          refine lv_goto (tgt := 63) hx hb dX4_cut_59 (by decide) ?_
          refine p_X4_87 F hK hS (mw_0 hR) (ma_0 hR) (v := .int 3) rfl rfl (Nat.le_of_ble_eq_true rfl) dX4_cut_63 (fun H locs hat hof hS => ?_)
          have hR := ms_0_29 hR hof hat
          refine lv_aload_n hx hb dX4_cut_66 rfl (lv_at hl 0 rfl) ?_
          refine g_X4_87 F hK (mw_0 hR) (v := .int 3) (by simp [fset, nset, lset]) dX4_cut_67 ?_
          refine lv_if_le (tgt := 75) hx hb dX4_cut_70 (by decide) (fun c_70 => (by first | exact absurd c_70 (by decide) | exact absurd (by decide) c_70)) (fun c_70 => ?_)
          refine lv_iconst (v := 0) hx hb dX4_cut_73 (by decide) ?_
          have e9 : mCut S (nI ej) material length = (0, (sF S 26 0 0 3)) := by simp [mCut, c_6, c_19, c_30, c_45, thr, nI_clamp (show ej < 2 ^ 31 by omega)]
          exact xr_Ci hx hb hr hlocks ((congrArg Prod.fst e9).symm) (by show xRM G A (mCut S (nI ej) material length).2 ad z H; rw [show (mCut S (nI ej) material length).2 = (sF S 26 0 0 3) from congrArg Prod.snd e9]; exact hR) hS (by first | omega | decide) (by first | omega | decide) dX4_cut_74
        · refine lv_aload_n hx hb dX4_cut_48 rfl (lv_at hl 0 rfl) ?_
          refine g_X4_55 F hK (mw_0 hR) (v := .ref (ad (16, 0))) rfl dX4_cut_49 ?_
          refine lv_iload_n hx hb dX4_cut_52 rfl (lv_at hl 1 rfl) ?_
          refine x_iald hx hb hK (mw_16 hR) (v := .int (nI (S.1 6 ej))) (xi_nI (n := 150) (by omega) (by omega)) (rfl) dX4_cut_53 ?_
          refine lv_iconst (v := 5) hx hb dX4_cut_54 (by decide) ?_
          refine xn_ne (tgt := 62) (S.1 6 ej) 5 rfl (by decide) (by omega) (by omega) hx hb dX4_cut_55 (by decide) (fun c_55 => ?_) (fun c_55 => ?_)
          · refine lv_iconst (v := 0) hx hb dX4_cut_62 (by decide) ?_
            refine p_X4_87 F hK hS (mw_0 hR) (ma_0 hR) (v := .int 0) rfl rfl (Nat.le_of_ble_eq_true rfl) dX4_cut_63 (fun H locs hat hof hS => ?_)
            have hR := ms_0_29 hR hof hat
            refine lv_aload_n hx hb dX4_cut_66 rfl (lv_at hl 0 rfl) ?_
            refine g_X4_87 F hK (mw_0 hR) (v := .int 0) (by simp [fset, nset, lset]) dX4_cut_67 ?_
            refine lv_if_le (tgt := 75) hx hb dX4_cut_70 (by decide) (fun c_70 => ?_) (fun c_70 => (by first | exact absurd c_70 (by decide) | exact absurd (by decide) c_70))
            refine lv_iconst (v := (-1)) hx hb dX4_cut_75 (by decide) ?_
            refine lv_istore (lv' := [(4, .int (-1)), (0, .ref (ad (0, 0))), (1, .int (nI ej)), (2, .int material), (3, .int length)]) hx hb dX4_cut_76 hl (by decide) rfl (fun ls hl => ?_)
            refine lv_iconst (v := 0) hx hb dX4_cut_78 (by decide) ?_
            refine lv_istore (lv' := [(5, .int 0), (4, .int (-1)), (0, .ref (ad (0, 0))), (1, .int (nI ej)), (2, .int material), (3, .int length)]) hx hb dX4_cut_79 hl (by decide) rfl (fun ls hl => ?_)
            have L81 : ∀ (n : Nat) (b : Nat) (best : Int32), S.1 3 0 - b < n → (b ≤ S.1 3 0) → (best = -1 ∨ vp_in best b) → (best = mBest S material length b) → ∀ (ls : Array Slot), lv_has ls 7 [(5, .int (nI b)), (4, .int best), (0, .ref (ad (0, 0))), (1, .int (nI ej)), (2, .int material), (3, .int length)] → W p l e (headSpec (ws_ yX4_cut cX4_cut 7 (some .int)) ({ frames := 2, cells := 0, slots := 0, locals := 43 } : Room)).room s m ([.ref (ad (0, 0)), .int (nI ej), .int material, .int length] : List Value).toArray below meth c H locs 0 0 (MQ below (xQc (some (.int ((mCut S (nI ej) material length).1))) (fun _ H => xRM G A (mCut S (nI ej) material length).2 ad z H) A) ([.ref (ad (0, 0)), .int (nI ej), .int material, .int length] : List Value).toArray s 0 0 A) (F0 m 81 ls []) := by
              intro n81
              induction n81 with
              | zero =>
                intro b best hn81
                exact absurd hn81 (Nat.not_lt_zero _)
              | succ n81 ih81 =>
                intro b best hn81 hb3 ob eb ls hl
                refine lv_iload hx hb dX4_cut_81 (lv_at hl 0 rfl) ?_
                refine lv_aload_n hx hb dX4_cut_83 rfl (lv_at hl 2 rfl) ?_
                refine g_X4_199 F hK (mw_0 hR) (v := .int (nI (S.1 3 0))) rfl dX4_cut_84 ?_
                refine xn_ge (tgt := 161) b (S.1 3 0) rfl rfl (by omega) (by omega) hx hb dX4_cut_87 (by decide) (fun c_87 => ?_) (fun c_87 => ?_)
                · refine lv_iload hx hb dX4_cut_161 (lv_at hl 1 rfl) ?_
                  refine lv_iconst (v := (-1)) hx hb dX4_cut_163 (by decide) ?_
                  refine lv_icmp_ne (tgt := 173) hx hb dX4_cut_164 (by decide) (fun c_164 => ?_) (fun c_164 => ?_)
                  · refine lv_aload_n hx hb dX4_cut_173 rfl (lv_at hl 2 rfl) ?_
                    refine g_X4_58 F hK (mw_0 hR) (v := .ref (ad (17, 0))) rfl dX4_cut_174 ?_
                    refine lv_iload_n hx hb dX4_cut_177 rfl (lv_at hl 3 rfl) ?_
                    refine x_aald hx hb hK (mw_17 hR) rfl rfl (v := .ref (ad (18, ej))) (xi_nI (n := 150) (by omega) (by omega)) (rfl) dX4_cut_178 ?_
                    refine lv_aload_n hx hb dX4_cut_179 rfl (lv_at hl 2 rfl) ?_
                    refine g_X4_55 F hK (mw_0 hR) (v := .ref (ad (16, 0))) rfl dX4_cut_180 ?_
                    refine lv_iload_n hx hb dX4_cut_183 rfl (lv_at hl 3 rfl) ?_
                    refine x_iald hx hb hK (mw_16 hR) (v := .int (nI (S.1 6 ej))) (xi_nI (n := 150) (by omega) (by omega)) (rfl) dX4_cut_184 ?_
                    refine lv_iload hx hb dX4_cut_185 (lv_at hl 1 rfl) ?_
                    refine x_iast hx hb hK hS (mw_18 hR (by omega)) (ma_18 hR (by omega)) (xi_nI (n := 5) (by omega) (by omega)) dX4_cut_187 (fun H locs hat hof hS => ?_)
                    have hR := ms_18_a hR (by omega) hof hat
                    refine lv_aload_n hx hb dX4_cut_188 rfl (lv_at hl 2 rfl) ?_
                    refine g_X4_61 F hK (mw_0 hR) (v := .ref (ad (19, 0))) rfl dX4_cut_189 ?_
                    refine lv_iload_n hx hb dX4_cut_192 rfl (lv_at hl 3 rfl) ?_
                    refine x_aald hx hb hK (mw_19 hR) rfl rfl (v := .ref (ad (20, ej))) (xi_nI (n := 150) (by omega) (by omega)) (rfl) dX4_cut_193 ?_
                    refine lv_aload_n hx hb dX4_cut_194 rfl (lv_at hl 2 rfl) ?_
                    refine g_X4_55 F hK (mw_0 hR) (v := .ref (ad (16, 0))) rfl dX4_cut_195 ?_
                    refine lv_iload_n hx hb dX4_cut_198 rfl (lv_at hl 3 rfl) ?_
                    refine x_iald hx hb hK (mw_16 hR) (v := .int (nI (S.1 6 ej))) (xi_nI (n := 150) (by omega) (by omega)) (rfl) dX4_cut_199 ?_
                    refine lv_iload_n hx hb dX4_cut_200 rfl (lv_at hl 5 rfl) ?_
                    refine x_iast hx hb hK hS (mw_20 hR (by omega)) (ma_20 hR (by omega)) (xi_nI (n := 5) (by omega) (by omega)) dX4_cut_201 (fun H locs hat hof hS => ?_)
                    have hR := ms_20_a hR (by omega) hof hat
                    refine lv_aload_n hx hb dX4_cut_202 rfl (lv_at hl 2 rfl) ?_
                    refine g_X4_55 F hK (mw_0 hR) (v := .ref (ad (16, 0))) rfl dX4_cut_203 ?_
                    refine lv_iload_n hx hb dX4_cut_206 rfl (lv_at hl 3 rfl) ?_
                    refine lv_dup2_11 hx hb dX4_cut_207 rfl rfl ?_
                    refine x_iald hx hb hK (mw_16 hR) (v := .int (nI (S.1 6 ej))) (xi_nI (n := 150) (by omega) (by omega)) (rfl) dX4_cut_208 ?_
                    refine lv_iconst (v := 1) hx hb dX4_cut_209 (by decide) ?_
                    refine lv_iadd hx hb dX4_cut_210 ?_
                    refine x_topi (nI_1 _) ?_
                    refine x_iast hx hb hK hS (mw_16 hR) (ma_16 hR) (xi_nI (n := 150) (by omega) (by omega)) dX4_cut_211 (fun H locs hat hof hS => ?_)
                    have hR := ms_16_a hR hof hat
                    refine lv_iload hx hb dX4_cut_212 (lv_at hl 1 rfl) ?_
                    have hk9 : b = S.1 3 0 := (by omega)
                    subst hk9
                    have e9 : mCut S (nI ej) material length = (best, (sN (sF (sF (sF S 26 0 0 0) 18 ej (S.1 6 ej) best) 19 ej (S.1 6 ej) length) 6 ej (S.1 6 ej + 1))) := by simp [mCut, c_6, c_19, c_30, c_45, c_55, c_87, c_164, ← eb, thr, nI_clamp (show ej < 2 ^ 31 by omega)]
                    exact xr_Ci hx hb hr hlocks ((congrArg Prod.fst e9).symm) (by show xRM G A (mCut S (nI ej) material length).2 ad z H; rw [show (mCut S (nI ej) material length).2 = (sN (sF (sF (sF S 26 0 0 0) 18 ej (S.1 6 ej) best) 19 ej (S.1 6 ej) length) 6 ej (S.1 6 ej + 1)) from congrArg Prod.snd e9]; exact hR) hS (by first | omega | decide) (by first | omega | decide) dX4_cut_214
                  · refine lv_aload_n hx hb dX4_cut_167 rfl (lv_at hl 2 rfl) ?_
                    refine lv_iconst (v := 4) hx hb dX4_cut_168 (by decide) ?_
                    refine xc_C (va_runV (As := [.int 4]) (rest := []) F (mX4_raises g (A := A) (S := (sF S 26 0 0 0)) (ad := ad) (z := z) 4) (cwV 1 hts (lw_V q1565 q1567 qs30 q80 q1568) rfl rfl rfl hdV_X4_raises ⟨Nat.le_of_ble_eq_true rfl, Nat.le_of_ble_eq_true rfl⟩) (xpreV (xrecv hK (mw_0 hR) rfl) hWK hS hR) rfl rfl hl.1 rfl (lv_room (Nat.le_of_ble_eq_true rfl)) dX4_cut_169 ⟨Nat.le_of_ble_eq_true rfl, Nat.le_of_ble_eq_true rfl⟩) hS (fun H locs hR1 hz hk hS => ?_)
                    have hR : xRM G A (sF (sF S 26 0 0 0) 26 0 0 4) ad z H := hR1
                    rw [sF_sF] at hR
                    refine x_topi (show (mRaises (sF S 26 0 0 0) 4).1 = 0 from rfl) ?_
                    have hk9 : b = S.1 3 0 := (by omega)
                    subst hk9
                    have e9 : mCut S (nI ej) material length = (0, (sF S 26 0 0 4)) := by simp [mCut, c_6, c_19, c_30, c_45, c_55, c_87, c_164, ← eb, thr, nI_clamp (show ej < 2 ^ 31 by omega)]
                    exact xr_Ci hx hb hr hlocks ((congrArg Prod.fst e9).symm) (by show xRM G A (mCut S (nI ej) material length).2 ad z H; rw [show (mCut S (nI ej) material length).2 = (sF S 26 0 0 4) from congrArg Prod.snd e9]; exact hR) hS (by first | omega | decide) (by first | omega | decide) dX4_cut_172
                · refine lv_aload_n hx hb dX4_cut_90 rfl (lv_at hl 2 rfl) ?_
                  refine g_X4_64 F hK (mw_0 hR) (v := .ref (ad (21, 0))) rfl dX4_cut_91 ?_
                  refine lv_iload hx hb dX4_cut_94 (lv_at hl 0 rfl) ?_
                  refine x_iald hx hb hK (mw_21 hR) (v := .int (S.2.1 20 b 0)) (xi_nI (n := 30) (by omega) (by omega)) (rfl) dX4_cut_96 ?_
                  refine lv_iload_n hx hb dX4_cut_97 rfl (lv_at hl 4 rfl) ?_
                  refine lv_icmp_ne (tgt := 117) hx hb dX4_cut_98 (by decide) (fun c_98 => ?_) (fun c_98 => ?_)
                  · refine lv_iconst (v := 0) hx hb dX4_cut_117 (by decide) ?_
                    refine lv_istore (lv' := [(6, .int 0), (5, .int (nI b)), (4, .int best), (0, .ref (ad (0, 0))), (1, .int (nI ej)), (2, .int material), (3, .int length)]) hx hb dX4_cut_118 hl (by decide) rfl (fun ls hl => ?_)
                    refine lv_iload hx hb dX4_cut_120 (lv_at hl 0 rfl) ?_
                    refine lv_if_eq (tgt := 151) hx hb dX4_cut_122 (by decide) (fun c_122 => ?_) (fun c_122 => (by first | exact absurd c_122 (by decide) | exact absurd (by decide) c_122))
                    refine lv_iload hx hb dX4_cut_151 (lv_at hl 2 rfl) ?_
                    refine lv_istore (lv' := [(4, .int best), (6, .int 0), (5, .int (nI b)), (0, .ref (ad (0, 0))), (1, .int (nI ej)), (2, .int material), (3, .int length)]) hx hb dX4_cut_153 hl (by decide) rfl (fun ls hl => ?_)
                    refine lv_iinc (v := nI (b + 1)) (lv' := [(5, .int (nI (b + 1))), (4, .int best), (6, .int 0), (0, .ref (ad (0, 0))), (1, .int (nI ej)), (2, .int material), (3, .int length)]) hx hb dX4_cut_155 hl (k := 2) rfl (nI_1 _) (by decide) rfl (fun ls hl => ?_)
                    refine lv_goto (tgt := 81) hx hb dX4_cut_158 (by decide) ?_
                    exact ih81 (b + 1) best (by omega) (by omega) (ob.imp id (fun q => vp_up q (by omega))) (by simp [mBest, ← eb, c_6, c_19, c_30, c_45, c_55, c_98]) ls (lv_sub hl [0, 1, 3, 4, 5, 6] rfl)
                  · refine lv_aload_n hx hb dX4_cut_101 rfl (lv_at hl 2 rfl) ?_
                    refine lv_iload hx hb dX4_cut_102 (lv_at hl 0 rfl) ?_
                    refine xc_P (va_runV (As := [.int (nI b)]) (rest := []) F (mX4_free g (A := A) (S := (sF S 26 0 0 0)) (ad := ad) (z := z) (xi_nI (n := 30) (by omega) (by omega)) hW) (cwV 1 hts (lw_V q1740 q1742 qs52 q80 q1743) rfl rfl rfl hdV_X4_free ⟨Nat.le_of_ble_eq_true rfl, Nat.le_of_ble_eq_true rfl⟩) (xpreV (xrecv hK (mw_0 hR) rfl) hWK hS hR) rfl rfl hl.1 rfl (lv_room (Nat.le_of_ble_eq_true rfl)) dX4_cut_104 ⟨Nat.le_of_ble_eq_true rfl, Nat.le_of_ble_eq_true rfl⟩) ?_
                    refine x_topi (show mFreeBar (sF S 26 0 0 0) (nI b) b = mFreeBar S (nI b) b from rfl) ?_
                    refine lv_iload_n hx hb dX4_cut_107 rfl (lv_at hl 5 rfl) ?_
                    refine lv_iconst (v := 3) hx hb dX4_cut_108 (by decide) ?_
                    refine lv_iadd hx hb dX4_cut_109 ?_
                    refine lv_icmp_lt (tgt := 117) hx hb dX4_cut_110 (by decide) (fun c_110 => ?_) (fun c_110 => ?_)
                    · refine lv_iconst (v := 0) hx hb dX4_cut_117 (by decide) ?_
                      refine lv_istore (lv' := [(6, .int 0), (5, .int (nI b)), (4, .int best), (0, .ref (ad (0, 0))), (1, .int (nI ej)), (2, .int material), (3, .int length)]) hx hb dX4_cut_118 hl (by decide) rfl (fun ls hl => ?_)
                      refine lv_iload hx hb dX4_cut_120 (lv_at hl 0 rfl) ?_
                      refine lv_if_eq (tgt := 151) hx hb dX4_cut_122 (by decide) (fun c_122 => ?_) (fun c_122 => (by first | exact absurd c_122 (by decide) | exact absurd (by decide) c_122))
                      refine lv_iload hx hb dX4_cut_151 (lv_at hl 2 rfl) ?_
                      refine lv_istore (lv' := [(4, .int best), (6, .int 0), (5, .int (nI b)), (0, .ref (ad (0, 0))), (1, .int (nI ej)), (2, .int material), (3, .int length)]) hx hb dX4_cut_153 hl (by decide) rfl (fun ls hl => ?_)
                      refine lv_iinc (v := nI (b + 1)) (lv' := [(5, .int (nI (b + 1))), (4, .int best), (6, .int 0), (0, .ref (ad (0, 0))), (1, .int (nI ej)), (2, .int material), (3, .int length)]) hx hb dX4_cut_155 hl (k := 2) rfl (nI_1 _) (by decide) rfl (fun ls hl => ?_)
                      refine lv_goto (tgt := 81) hx hb dX4_cut_158 (by decide) ?_
                      exact ih81 (b + 1) best (by omega) (by omega) (ob.imp id (fun q => vp_up q (by omega))) (by simp [mBest, ← eb, c_6, c_19, c_30, c_45, c_55, c_98, c_110]) ls (lv_sub hl [0, 1, 3, 4, 5, 6] rfl)
                    · refine lv_iconst (v := 1) hx hb dX4_cut_113 (by decide) ?_
                      refine lv_goto (tgt := 118) hx hb dX4_cut_114 (by decide) ?_
                      refine lv_istore (lv' := [(6, .int 1), (5, .int (nI b)), (4, .int best), (0, .ref (ad (0, 0))), (1, .int (nI ej)), (2, .int material), (3, .int length)]) hx hb dX4_cut_118 hl (by decide) rfl (fun ls hl => ?_)
                      refine lv_iload hx hb dX4_cut_120 (lv_at hl 0 rfl) ?_
                      refine lv_if_eq (tgt := 151) hx hb dX4_cut_122 (by decide) (fun c_122 => (by first | exact absurd c_122 (by decide) | exact absurd (by decide) c_122)) (fun c_122 => ?_)
                      refine lv_iload hx hb dX4_cut_125 (lv_at hl 2 rfl) ?_
                      refine lv_iconst (v := (-1)) hx hb dX4_cut_127 (by decide) ?_
                      refine lv_icmp_eq (tgt := 146) hx hb dX4_cut_128 (by decide) (fun c_128 => ?_) (fun c_128 => ?_)
                      · refine lv_iload hx hb dX4_cut_146 (lv_at hl 1 rfl) ?_
                        refine lv_goto (tgt := 153) hx hb dX4_cut_148 (by decide) ?_
                        refine lv_istore (lv' := [(4, .int (nI b)), (6, .int 1), (5, .int (nI b)), (0, .ref (ad (0, 0))), (1, .int (nI ej)), (2, .int material), (3, .int length)]) hx hb dX4_cut_153 hl (by decide) rfl (fun ls hl => ?_)
                        refine lv_iinc (v := nI (b + 1)) (lv' := [(5, .int (nI (b + 1))), (4, .int (nI b)), (6, .int 1), (0, .ref (ad (0, 0))), (1, .int (nI ej)), (2, .int material), (3, .int length)]) hx hb dX4_cut_155 hl (k := 2) rfl (nI_1 _) (by decide) rfl (fun ls hl => ?_)
                        refine lv_goto (tgt := 81) hx hb dX4_cut_158 (by decide) ?_
                        exact ih81 (b + 1) (nI b) (by omega) (by omega) (Or.inr (vp_in_nI (by omega) (by omega))) (by simp [mBest, ← eb, c_6, c_19, c_30, c_45, c_55, c_98, c_110, c_128]) ls (lv_sub hl [0, 1, 3, 4, 5, 6] rfl)
                      · refine lv_aload_n hx hb dX4_cut_131 rfl (lv_at hl 3 rfl) ?_
                        refine lv_iload hx hb dX4_cut_132 (lv_at hl 1 rfl) ?_
                        refine xc_P (va_runV (As := [.int (nI b)]) (rest := []) F (mX4_free g (A := A) (S := (sF S 26 0 0 0)) (ad := ad) (z := z) (xi_nI (n := 30) (by omega) (by omega)) hW) (cwV 1 hts (lw_V q1740 q1742 qs52 q80 q1743) rfl rfl rfl hdV_X4_free ⟨Nat.le_of_ble_eq_true rfl, Nat.le_of_ble_eq_true rfl⟩) (xpreV (xrecv hK (mw_0 hR) rfl) hWK hS hR) rfl rfl hl.1 rfl (lv_room (Nat.le_of_ble_eq_true rfl)) dX4_cut_134 ⟨Nat.le_of_ble_eq_true rfl, Nat.le_of_ble_eq_true rfl⟩) ?_
                        refine x_topi (show mFreeBar (sF S 26 0 0 0) (nI b) b = mFreeBar S (nI b) b from rfl) ?_
                        refine lv_aload_n hx hb dX4_cut_137 rfl (lv_at hl 3 rfl) ?_
                        refine lv_iload hx hb dX4_cut_138 (lv_at hl 2 rfl) ?_
                        refine xc_P (va_runV (As := [.int best]) (rest := [.int (mFreeBar S (nI b) b)]) F (mX4_free g (A := A) (S := (sF S 26 0 0 0)) (ad := ad) (z := z) (xi.up (xi_of (ob.resolve_left c_128)) (by omega)) hW) (cwV 1 hts (lw_V q1740 q1742 qs52 q80 q1743) rfl rfl rfl hdV_X4_free ⟨Nat.le_of_ble_eq_true rfl, Nat.le_of_ble_eq_true rfl⟩) (xpreV (xrecv hK (mw_0 hR) rfl) hWK hS hR) rfl rfl hl.1 rfl (lv_room (Nat.le_of_ble_eq_true rfl)) dX4_cut_140 ⟨Nat.le_of_ble_eq_true rfl, Nat.le_of_ble_eq_true rfl⟩) ?_
                        refine x_topi (show mFreeBar (sF S 26 0 0 0) best best.toNatClampNeg = mFreeBar S best best.toNatClampNeg from rfl) ?_
                        refine lv_icmp_ge (tgt := 151) hx hb dX4_cut_143 (by decide) (fun c_143 => ?_) (fun c_143 => ?_)
                        · refine lv_iload hx hb dX4_cut_151 (lv_at hl 2 rfl) ?_
                          refine lv_istore (lv' := [(4, .int best), (6, .int 1), (5, .int (nI b)), (0, .ref (ad (0, 0))), (1, .int (nI ej)), (2, .int material), (3, .int length)]) hx hb dX4_cut_153 hl (by decide) rfl (fun ls hl => ?_)
                          refine lv_iinc (v := nI (b + 1)) (lv' := [(5, .int (nI (b + 1))), (4, .int best), (6, .int 1), (0, .ref (ad (0, 0))), (1, .int (nI ej)), (2, .int material), (3, .int length)]) hx hb dX4_cut_155 hl (k := 2) rfl (nI_1 _) (by decide) rfl (fun ls hl => ?_)
                          refine lv_goto (tgt := 81) hx hb dX4_cut_158 (by decide) ?_
                          have c_143 := Int32.not_lt.mpr c_143
                          exact ih81 (b + 1) best (by omega) (by omega) (ob.imp id (fun q => vp_up q (by omega))) (by simp [mBest, ← eb, c_6, c_19, c_30, c_45, c_55, c_98, c_110, c_128, c_143]) ls (lv_sub hl [0, 1, 3, 4, 5, 6] rfl)
                        · refine lv_iload hx hb dX4_cut_146 (lv_at hl 1 rfl) ?_
                          refine lv_goto (tgt := 153) hx hb dX4_cut_148 (by decide) ?_
                          refine lv_istore (lv' := [(4, .int (nI b)), (6, .int 1), (5, .int (nI b)), (0, .ref (ad (0, 0))), (1, .int (nI ej)), (2, .int material), (3, .int length)]) hx hb dX4_cut_153 hl (by decide) rfl (fun ls hl => ?_)
                          refine lv_iinc (v := nI (b + 1)) (lv' := [(5, .int (nI (b + 1))), (4, .int (nI b)), (6, .int 1), (0, .ref (ad (0, 0))), (1, .int (nI ej)), (2, .int material), (3, .int length)]) hx hb dX4_cut_155 hl (k := 2) rfl (nI_1 _) (by decide) rfl (fun ls hl => ?_)
                          refine lv_goto (tgt := 81) hx hb dX4_cut_158 (by decide) ?_
                          have c_143 := Int32.not_le.mp c_143
                          exact ih81 (b + 1) (nI b) (by omega) (by omega) (Or.inr (vp_in_nI (by omega) (by omega))) (by simp [mBest, ← eb, c_6, c_19, c_30, c_45, c_55, c_98, c_110, c_128, c_143]) ls (lv_sub hl [0, 1, 3, 4, 5, 6] rfl)
            exact L81 (S.1 3 0 + 1) 0 (-1) (by omega) (by omega) (Or.inl rfl) rfl ls (lv_sub hl [0, 1, 2, 3, 4, 5] rfl)
          · refine lv_iconst (v := 3) hx hb dX4_cut_58 (by decide) ?_
            refine lv_goto (tgt := 63) hx hb dX4_cut_59 (by decide) ?_
            refine p_X4_87 F hK hS (mw_0 hR) (ma_0 hR) (v := .int 3) rfl rfl (Nat.le_of_ble_eq_true rfl) dX4_cut_63 (fun H locs hat hof hS => ?_)
            have hR := ms_0_29 hR hof hat
            refine lv_aload_n hx hb dX4_cut_66 rfl (lv_at hl 0 rfl) ?_
            refine g_X4_87 F hK (mw_0 hR) (v := .int 3) (by simp [fset, nset, lset]) dX4_cut_67 ?_
            refine lv_if_le (tgt := 75) hx hb dX4_cut_70 (by decide) (fun c_70 => (by first | exact absurd c_70 (by decide) | exact absurd (by decide) c_70)) (fun c_70 => ?_)
            refine lv_iconst (v := 0) hx hb dX4_cut_73 (by decide) ?_
            have e9 : mCut S (nI ej) material length = (0, (sF S 26 0 0 3)) := by simp [mCut, c_6, c_19, c_30, c_45, c_55, thr, nI_clamp (show ej < 2 ^ 31 by omega)]
            exact xr_Ci hx hb hr hlocks ((congrArg Prod.fst e9).symm) (by show xRM G A (mCut S (nI ej) material length).2 ad z H; rw [show (mCut S (nI ej) material length).2 = (sF S 26 0 0 3) from congrArg Prod.snd e9]; exact hR) hS (by first | omega | decide) (by first | omega | decide) dX4_cut_74
      · refine lv_iconst (v := 2) hx hb dX4_cut_33 (by decide) ?_
        refine lv_goto (tgt := 63) hx hb dX4_cut_34 (by decide) ?_
        refine p_X4_87 F hK hS (mw_0 hR) (ma_0 hR) (v := .int 2) rfl rfl (Nat.le_of_ble_eq_true rfl) dX4_cut_63 (fun H locs hat hof hS => ?_)
        have hR := ms_0_29 hR hof hat
        refine lv_aload_n hx hb dX4_cut_66 rfl (lv_at hl 0 rfl) ?_
        refine g_X4_87 F hK (mw_0 hR) (v := .int 2) (by simp [fset, nset, lset]) dX4_cut_67 ?_
        refine lv_if_le (tgt := 75) hx hb dX4_cut_70 (by decide) (fun c_70 => (by first | exact absurd c_70 (by decide) | exact absurd (by decide) c_70)) (fun c_70 => ?_)
        refine lv_iconst (v := 0) hx hb dX4_cut_73 (by decide) ?_
        have e9 : mCut S entry material length = (0, (sF S 26 0 0 2)) := by simp [mCut, c_6, c_19, c_30, thr]
        exact xr_Ci hx hb hr hlocks ((congrArg Prod.fst e9).symm) (by show xRM G A (mCut S entry material length).2 ad z H; rw [show (mCut S entry material length).2 = (sF S 26 0 0 2) from congrArg Prod.snd e9]; exact hR) hS (by first | omega | decide) (by first | omega | decide) dX4_cut_74
  · refine lv_iconst (v := 1) hx hb dX4_cut_9 (by decide) ?_
    refine lv_goto (tgt := 63) hx hb dX4_cut_10 (by decide) ?_
    refine p_X4_87 F hK hS (mw_0 hR) (ma_0 hR) (v := .int 1) rfl rfl (Nat.le_of_ble_eq_true rfl) dX4_cut_63 (fun H locs hat hof hS => ?_)
    have hR := ms_0_29 hR hof hat
    refine lv_aload_n hx hb dX4_cut_66 rfl (lv_at hl 0 rfl) ?_
    refine g_X4_87 F hK (mw_0 hR) (v := .int 1) (by simp [fset, nset, lset]) dX4_cut_67 ?_
    refine lv_if_le (tgt := 75) hx hb dX4_cut_70 (by decide) (fun c_70 => (by first | exact absurd c_70 (by decide) | exact absurd (by decide) c_70)) (fun c_70 => ?_)
    refine lv_iconst (v := 0) hx hb dX4_cut_73 (by decide) ?_
    have e9 : mCut S entry material length = (0, (sF S 26 0 0 1)) := by simp [mCut, c_6, thr]
    exact xr_Ci hx hb hr hlocks ((congrArg Prod.fst e9).symm) (by show xRM G A (mCut S entry material length).2 ad z H; rw [show (mCut S entry material length).2 = (sF S 26 0 0 1) from congrArg Prod.snd e9]; exact hR) hS (by first | omega | decide) (by first | omega | decide) dX4_cut_74

set_option maxHeartbeats 4000000 in
theorem mX4_pay {l : Launch} {G : xG} {s0 : State} {b0 : Nat} (g : xG0 G s0 b0) {A : Nat → Prop} {S : xS} {ad : Nat × Nat → Nat} {z : xZ} (member amount : Int32) (hW : mWF S) : Met l yX4_pay (ws_ yX4_pay cX4_pay 3 (some .int)) ({ frames := 2, cells := 0, slots := 0, locals := 43 } : Room) (xP s0 A [.ref (ad (0, 0)), .int member, .int amount] (fun H => xRM G A S ad z H)) (xQc (some (.int ((mPay S member amount).1))) (fun _ H => xRM G A (mPay S member amount).2 ad z H) A) 0 0 A := by
  refine Met.ofW (cc := cX4_pay) (maxL := 3) (ret := (some .int)) (by decide) rfl ?_
  intro p e s m args below meth c s₁ B hml hv
  obtain ⟨rfl, hWK, hR⟩ := hv
  have hx := B.exec
  have hb := B.bytes
  have hr := B.returns
  have hts := atoms_spec (ws := ws_ yX4_pay cX4_pay 3 (some .int)) B.pre
  have hts : ∀ w ∈ lw_all, w.before _ s = true := fun w h => hts w (List.mem_cons_of_mem _ h)
  have hown : s.vm.findClass "LendlatheModel" = some m.cls := findClass_of_methodNamed B.named
  have hlocks := B.notSynchronized
  have hK := hWK.K g
  have F : CallFix p m c cX4_pay 3 s _ lw_all "LendlatheModel" := ⟨hx, hb, hml, hown, hts⟩
  have hS : va_S A s.heap s.heap [] := va_S.rf
  have hl := lv_entry ([.ref (ad (0, 0)), .int member, .int amount]) (n := 3) (Nat.le_of_ble_eq_true rfl)
  rw [lg_entry_eq]
  generalize (lg_sl ([.ref (ad (0, 0)), .int member, .int amount]) ++ List.replicate (3 - (lg_sl ([.ref (ad (0, 0)), .int member, .int amount])).length) Slot.unset).toArray = ls at hl ⊢
  have hl : lv_has ls 3 [(0, .ref (ad (0, 0))), (1, .int member), (2, .int amount)] := hl
  have hn0 := hW.1
  have hn1 := hW.2.1
  have hn2 := hW.2.2.1
  have hn3 := hW.2.2.2.1
  have hn4 := hW.2.2.2.2.1
  refine lv_aload_n hx hb dX4_pay_0 rfl (lv_at hl 0 rfl) ?_
  refine lv_aload_n hx hb dX4_pay_1 rfl (lv_at hl 0 rfl) ?_
  refine lv_iload_n hx hb dX4_pay_2 rfl (lv_at hl 1 rfl) ?_
  refine xc_P (va_runV (As := [.int member]) (rest := [.ref (ad (0, 0))]) F (mX4_isMember g (A := A) (S := S) (ad := ad) (z := z) member) (cwV 1 hts (lw_V q1621 q1623 qs41 q80 q1624) rfl rfl rfl hdV_X4_isMember ⟨Nat.le_of_ble_eq_true rfl, Nat.le_of_ble_eq_true rfl⟩) (xpreV (xrecv hK (mw_0 hR) rfl) hWK hS hR) rfl rfl hl.1 rfl (lv_room (Nat.le_of_ble_eq_true rfl)) dX4_pay_3 ⟨Nat.le_of_ble_eq_true rfl, Nat.le_of_ble_eq_true rfl⟩) ?_
  refine x_ifne (tgt := 13) hx hb dX4_pay_6 (by decide) (fun c_6 => ?_) (fun c_6 => ?_)
  · refine lv_iload_n hx hb dX4_pay_13 rfl (lv_at hl 2 rfl) ?_
    refine lv_iconst (v := 1) hx hb dX4_pay_14 (by decide) ?_
    refine lv_ldc (v := 1000000) hx hb hown (hts _ q1799) dX4_pay_15 ?_
    refine xc_P (va_runS (As := [.int amount, .int 1, .int 1000000]) (rest := [.ref (ad (0, 0))]) F (mX4_in g (A := A) amount 1 1000000) (va_cwS 3 hts (lw_S q1558 q1559 q80 q1560) rfl rfl rfl hdS_X4_in ⟨Nat.le_of_ble_eq_true rfl, Nat.le_of_ble_eq_true rfl⟩) (xpre hWK hS trivial) rfl rfl hl.1 rfl (lv_room (Nat.le_of_ble_eq_true rfl)) dX4_pay_17 ⟨Nat.le_of_ble_eq_true rfl, Nat.le_of_ble_eq_true rfl⟩) ?_
    refine x_ifne (tgt := 27) hx hb dX4_pay_20 (by decide) (fun c_20 => ?_) (fun c_20 => ?_)
    · obtain ⟨mj, hmj, rfl⟩ := inI_of' (n := S.1 1 0) (by first | rfl | decide) (by first | decide | omega) c_6
      refine lv_aload_n hx hb dX4_pay_27 rfl (lv_at hl 0 rfl) ?_
      refine g_X4_21 F hK (mw_0 hR) (v := .ref (ad (5, 0))) rfl dX4_pay_28 ?_
      refine lv_iload_n hx hb dX4_pay_31 rfl (lv_at hl 1 rfl) ?_
      refine x_lald hx hb hK (mw_5 hR) (v := .long (S.2.2 mj)) (xi_nI (n := 10) (by omega) (by omega)) (rfl) dX4_pay_32 ?_
      refine lv_iload_n hx hb dX4_pay_33 rfl (lv_at hl 2 rfl) ?_
      refine lv_i2l hx hb dX4_pay_34 rfl ?_
      refine lv_ladd hx hb dX4_pay_35 ?_
      refine lv_ldc2 (v := 1000000000) hx hb hown (hts _ q1800) dX4_pay_36 ?_
      refine x_lcmp hx hb dX4_pay_39 ?_
      refine lv_if_le (tgt := 47) hx hb dX4_pay_40 (by decide) (fun c_40 => ?_) (fun c_40 => ?_)
      · have c_40 := cmpL_le c_40
        refine lv_iconst (v := 0) hx hb dX4_pay_47 (by decide) ?_
        refine p_X4_87 F hK hS (mw_0 hR) (ma_0 hR) (v := .int 0) rfl rfl (Nat.le_of_ble_eq_true rfl) dX4_pay_48 (fun H locs hat hof hS => ?_)
        have hR := ms_0_29 hR hof hat
        refine lv_aload_n hx hb dX4_pay_51 rfl (lv_at hl 0 rfl) ?_
        refine g_X4_87 F hK (mw_0 hR) (v := .int 0) (by simp [fset, nset, lset]) dX4_pay_52 ?_
        refine lv_if_le (tgt := 60) hx hb dX4_pay_55 (by decide) (fun c_55 => ?_) (fun c_55 => (by first | exact absurd c_55 (by decide) | exact absurd (by decide) c_55))
        refine lv_aload_n hx hb dX4_pay_60 rfl (lv_at hl 0 rfl) ?_
        refine g_X4_21 F hK (mw_0 hR) (v := .ref (ad (5, 0))) rfl dX4_pay_61 ?_
        refine lv_iload_n hx hb dX4_pay_64 rfl (lv_at hl 1 rfl) ?_
        refine lv_dup2_11 hx hb dX4_pay_65 rfl rfl ?_
        refine x_lald hx hb hK (mw_5 hR) (v := .long (S.2.2 mj)) (xi_nI (n := 10) (by omega) (by omega)) (rfl) dX4_pay_66 ?_
        refine lv_iload_n hx hb dX4_pay_67 rfl (lv_at hl 2 rfl) ?_
        refine lv_i2l hx hb dX4_pay_68 rfl ?_
        refine lv_ladd hx hb dX4_pay_69 ?_
        refine x_last hx hb hK hS (mw_5 hR) (ma_5 hR) (xi_nI (n := 10) (by omega) (by omega)) dX4_pay_70 (fun H locs hat hof hS => ?_)
        have hR := ms_5_a hR hof hat
        refine lv_aload_n hx hb dX4_pay_71 rfl (lv_at hl 0 rfl) ?_
        refine lv_iload_n hx hb dX4_pay_72 rfl (lv_at hl 1 rfl) ?_
        refine xc_P (va_runV (As := [.int (nI mj)]) (rest := []) F (mX4_owed g (A := A) (S := (sL (sF S 26 0 0 0) mj ((S.2.2 mj) + amount.toInt64))) (ad := ad) (z := z) (xi_nI (n := 10) (by omega) (by omega)) hW) (cwV 1 hts (lw_V q1801 q1803 qs54 q80 q1804) rfl rfl rfl hdV_X4_owed ⟨Nat.le_of_ble_eq_true rfl, Nat.le_of_ble_eq_true rfl⟩) (xpreV (xrecv hK (mw_0 hR) rfl) hWK hS hR) rfl rfl hl.1 rfl (lv_room (Nat.le_of_ble_eq_true rfl)) dX4_pay_73 ⟨Nat.le_of_ble_eq_true rfl, Nat.le_of_ble_eq_true rfl⟩) ?_
        refine lv_l2i hx hb dX4_pay_76 rfl ?_
        have e9 : mPay S (nI mj) amount = ((mOwed (sL (sF S 26 0 0 0) mj ((S.2.2 mj) + amount.toInt64)) (nI mj) mj).toInt32, (sL (sF S 26 0 0 0) mj ((S.2.2 mj) + amount.toInt64))) := by simp [mPay, thr, c_6, c_20, c_40, nI_clamp (show mj < 2 ^ 31 by omega)]
        exact xr_Ci hx hb hr hlocks ((congrArg Prod.fst e9).symm) (by show xRM G A (mPay S (nI mj) amount).2 ad z H; rw [show (mPay S (nI mj) amount).2 = (sL (sF S 26 0 0 0) mj ((S.2.2 mj) + amount.toInt64)) from congrArg Prod.snd e9]; exact hR) hS (by first | omega | decide) (by first | omega | decide) dX4_pay_77
      · have c_40 := cmpL_gt c_40
        refine lv_iconst (v := 3) hx hb dX4_pay_43 (by decide) ?_
        refine lv_goto (tgt := 48) hx hb dX4_pay_44 (by decide) ?_
        refine p_X4_87 F hK hS (mw_0 hR) (ma_0 hR) (v := .int 3) rfl rfl (Nat.le_of_ble_eq_true rfl) dX4_pay_48 (fun H locs hat hof hS => ?_)
        have hR := ms_0_29 hR hof hat
        refine lv_aload_n hx hb dX4_pay_51 rfl (lv_at hl 0 rfl) ?_
        refine g_X4_87 F hK (mw_0 hR) (v := .int 3) (by simp [fset, nset, lset]) dX4_pay_52 ?_
        refine lv_if_le (tgt := 60) hx hb dX4_pay_55 (by decide) (fun c_55 => (by first | exact absurd c_55 (by decide) | exact absurd (by decide) c_55)) (fun c_55 => ?_)
        refine lv_iconst (v := 0) hx hb dX4_pay_58 (by decide) ?_
        have e9 : mPay S (nI mj) amount = (0, (sF S 26 0 0 3)) := by simp [mPay, thr, c_6, c_20, c_40, nI_clamp (show mj < 2 ^ 31 by omega)]
        exact xr_Ci hx hb hr hlocks ((congrArg Prod.fst e9).symm) (by show xRM G A (mPay S (nI mj) amount).2 ad z H; rw [show (mPay S (nI mj) amount).2 = (sF S 26 0 0 3) from congrArg Prod.snd e9]; exact hR) hS (by first | omega | decide) (by first | omega | decide) dX4_pay_59
    · refine lv_iconst (v := 2) hx hb dX4_pay_23 (by decide) ?_
      refine lv_goto (tgt := 48) hx hb dX4_pay_24 (by decide) ?_
      refine p_X4_87 F hK hS (mw_0 hR) (ma_0 hR) (v := .int 2) rfl rfl (Nat.le_of_ble_eq_true rfl) dX4_pay_48 (fun H locs hat hof hS => ?_)
      have hR := ms_0_29 hR hof hat
      refine lv_aload_n hx hb dX4_pay_51 rfl (lv_at hl 0 rfl) ?_
      refine g_X4_87 F hK (mw_0 hR) (v := .int 2) (by simp [fset, nset, lset]) dX4_pay_52 ?_
      refine lv_if_le (tgt := 60) hx hb dX4_pay_55 (by decide) (fun c_55 => (by first | exact absurd c_55 (by decide) | exact absurd (by decide) c_55)) (fun c_55 => ?_)
      refine lv_iconst (v := 0) hx hb dX4_pay_58 (by decide) ?_
      have e9 : mPay S member amount = (0, (sF S 26 0 0 2)) := by simp [mPay, thr, c_6, c_20]
      exact xr_Ci hx hb hr hlocks ((congrArg Prod.fst e9).symm) (by show xRM G A (mPay S member amount).2 ad z H; rw [show (mPay S member amount).2 = (sF S 26 0 0 2) from congrArg Prod.snd e9]; exact hR) hS (by first | omega | decide) (by first | omega | decide) dX4_pay_59
  · refine lv_iconst (v := 1) hx hb dX4_pay_9 (by decide) ?_
    refine lv_goto (tgt := 48) hx hb dX4_pay_10 (by decide) ?_
    refine p_X4_87 F hK hS (mw_0 hR) (ma_0 hR) (v := .int 1) rfl rfl (Nat.le_of_ble_eq_true rfl) dX4_pay_48 (fun H locs hat hof hS => ?_)
    have hR := ms_0_29 hR hof hat
    refine lv_aload_n hx hb dX4_pay_51 rfl (lv_at hl 0 rfl) ?_
    refine g_X4_87 F hK (mw_0 hR) (v := .int 1) (by simp [fset, nset, lset]) dX4_pay_52 ?_
    refine lv_if_le (tgt := 60) hx hb dX4_pay_55 (by decide) (fun c_55 => (by first | exact absurd c_55 (by decide) | exact absurd (by decide) c_55)) (fun c_55 => ?_)
    refine lv_iconst (v := 0) hx hb dX4_pay_58 (by decide) ?_
    have e9 : mPay S member amount = (0, (sF S 26 0 0 1)) := by simp [mPay, thr, c_6]
    exact xr_Ci hx hb hr hlocks ((congrArg Prod.fst e9).symm) (by show xRM G A (mPay S member amount).2 ad z H; rw [show (mPay S member amount).2 = (sF S 26 0 0 1) from congrArg Prod.snd e9]; exact hR) hS (by first | omega | decide) (by first | omega | decide) dX4_pay_59

set_option maxHeartbeats 4000000 in
theorem mX4_breakDown {l : Launch} {G : xG} {s0 : State} {b0 : Nat} (g : xG0 G s0 b0) {A : Nat → Prop} {S : xS} {ad : Nat × Nat → Nat} {z : xZ} (machine amount : Int32) (hW : mWF S) : Met l yX4_breakDown (ws_ yX4_breakDown cX4_breakDown 10 (some .int)) ({ frames := 2, cells := 2, slots := 20, locals := 43 } : Room) (xP s0 A [.ref (ad (0, 0)), .int machine, .int amount] (fun H => xRM G A S ad z H)) (xQc (some (.int ((mBreakDown S machine amount).1))) (fun _ H => xRM G A (mBreakDown S machine amount).2 ad z H) A) 2 20 A := by
  refine Met.ofW (cc := cX4_breakDown) (maxL := 10) (ret := (some .int)) (by decide) rfl ?_
  intro p e s m args below meth c s₁ B hml hv
  obtain ⟨rfl, hWK, hR⟩ := hv
  have hx := B.exec
  have hb := B.bytes
  have hr := B.returns
  have hts := atoms_spec (ws := ws_ yX4_breakDown cX4_breakDown 10 (some .int)) B.pre
  have hts : ∀ w ∈ lw_all, w.before _ s = true := fun w h => hts w (List.mem_cons_of_mem _ h)
  have hown : s.vm.findClass "LendlatheModel" = some m.cls := findClass_of_methodNamed B.named
  have hlocks := B.notSynchronized
  have hK := hWK.K g
  have F : CallFix p m c cX4_breakDown 10 s _ lw_all "LendlatheModel" := ⟨hx, hb, hml, hown, hts⟩
  have hS : va_S A s.heap s.heap [] := va_S.rf
  have hl := lv_entry ([.ref (ad (0, 0)), .int machine, .int amount]) (n := 10) (Nat.le_of_ble_eq_true rfl)
  rw [lg_entry_eq]
  generalize (lg_sl ([.ref (ad (0, 0)), .int machine, .int amount]) ++ List.replicate (10 - (lg_sl ([.ref (ad (0, 0)), .int machine, .int amount])).length) Slot.unset).toArray = ls at hl ⊢
  have hl : lv_has ls 10 [(0, .ref (ad (0, 0))), (1, .int machine), (2, .int amount)] := hl
  have hn0 := hW.1
  have hn1 := hW.2.1
  have hn2 := hW.2.2.1
  have hn3 := hW.2.2.2.1
  have hn4 := hW.2.2.2.2.1
  refine lv_aload_n hx hb dX4_breakDown_0 rfl (lv_at hl 0 rfl) ?_
  refine lv_aload_n hx hb dX4_breakDown_1 rfl (lv_at hl 0 rfl) ?_
  refine lv_iload_n hx hb dX4_breakDown_2 rfl (lv_at hl 1 rfl) ?_
  refine xc_P (va_runV (As := [.int machine]) (rest := [.ref (ad (0, 0))]) F (mX4_isMachine g (A := A) (S := S) (ad := ad) (z := z) machine) (cwV 1 hts (lw_V q1640 q1642 qs43 q80 q1643) rfl rfl rfl hdV_X4_isMachine ⟨Nat.le_of_ble_eq_true rfl, Nat.le_of_ble_eq_true rfl⟩) (xpreV (xrecv hK (mw_0 hR) rfl) hWK hS hR) rfl rfl hl.1 rfl (lv_room (Nat.le_of_ble_eq_true rfl)) dX4_breakDown_3 ⟨Nat.le_of_ble_eq_true rfl, Nat.le_of_ble_eq_true rfl⟩) ?_
  refine x_ifne (tgt := 13) hx hb dX4_breakDown_6 (by decide) (fun c_6 => ?_) (fun c_6 => ?_)
  · refine lv_iload_n hx hb dX4_breakDown_13 rfl (lv_at hl 2 rfl) ?_
    refine lv_iconst (v := 1) hx hb dX4_breakDown_14 (by decide) ?_
    refine lv_ldc (v := 100000) hx hb hown (hts _ q1789) dX4_breakDown_15 ?_
    refine xc_P (va_runS (As := [.int amount, .int 1, .int 100000]) (rest := [.ref (ad (0, 0))]) F (mX4_in g (A := A) amount 1 100000) (va_cwS 3 hts (lw_S q1558 q1559 q80 q1560) rfl rfl rfl hdS_X4_in ⟨Nat.le_of_ble_eq_true rfl, Nat.le_of_ble_eq_true rfl⟩) (xpre hWK hS trivial) rfl rfl hl.1 rfl (lv_room (Nat.le_of_ble_eq_true rfl)) dX4_breakDown_17 ⟨Nat.le_of_ble_eq_true rfl, Nat.le_of_ble_eq_true rfl⟩) ?_
    refine x_ifne (tgt := 27) hx hb dX4_breakDown_20 (by decide) (fun c_20 => ?_) (fun c_20 => ?_)
    · refine lv_aload_n hx hb dX4_breakDown_27 rfl (lv_at hl 0 rfl) ?_
      refine g_X4_221 F hK (mw_0 hR) (v := .int (nI (S.1 4 0))) rfl dX4_breakDown_28 ?_
      refine lv_bipush (v := 20) hx hb dX4_breakDown_31 (by decide) ?_
      refine xn_ne (tgt := 40) (S.1 4 0) 20 rfl (by decide) (by omega) (by omega) hx hb dX4_breakDown_33 (by decide) (fun c_33 => ?_) (fun c_33 => ?_)
      · refine lv_iconst (v := 0) hx hb dX4_breakDown_40 (by decide) ?_
        refine p_X4_87 F hK hS (mw_0 hR) (ma_0 hR) (v := .int 0) rfl rfl (Nat.le_of_ble_eq_true rfl) dX4_breakDown_41 (fun H locs hat hof hS => ?_)
        have hR := ms_0_29 hR hof hat
        refine lv_aload_n hx hb dX4_breakDown_44 rfl (lv_at hl 0 rfl) ?_
        refine g_X4_87 F hK (mw_0 hR) (v := .int 0) (by simp [fset, nset, lset]) dX4_breakDown_45 ?_
        refine lv_if_le (tgt := 53) hx hb dX4_breakDown_48 (by decide) (fun c_48 => ?_) (fun c_48 => (by first | exact absurd c_48 (by decide) | exact absurd (by decide) c_48))
        refine lv_bipush (v := 10) hx hb dX4_breakDown_53 (by decide) ?_
        refine x_newa hx hb hK (ty := .int) (t := 0) rfl rfl (hts _ q112) (n := 10) (dv := .int 0) (by decide) (by decide) rfl (by decide) (Nat.le_of_ble_eq_true rfl) (Nat.le_of_ble_eq_true rfl) dX4_breakDown_55 (fun H1 hat hz hg => ?_)
        have hA_q55 : A (Array.size H) := hWK.2.2.2.1 _ hS.1
        have hfr_q55 := hR.fresh
        have hR := hR.grow hg
        have hS := hg.S hS
        clear hz hg
        generalize Array.size H = q55 at hat hA_q55 hfr_q55 ⊢
        have hq_q55 := hat
        generalize H1 = H at hR hS hq_q55 ⊢
        refine lv_astore_n (lv' := [(3, .ref q55), (0, .ref (ad (0, 0))), (1, .int machine), (2, .int amount)]) hx hb dX4_breakDown_57 rfl hl (by decide) rfl (fun ls hl => ?_)
        refine lv_iconst (v := 0) hx hb dX4_breakDown_58 (by decide) ?_
        refine lv_istore (lv' := [(4, .int 0), (3, .ref q55), (0, .ref (ad (0, 0))), (1, .int machine), (2, .int amount)]) hx hb dX4_breakDown_59 hl (by decide) rfl (fun ls hl => ?_)
        refine lv_iconst (v := 0) hx hb dX4_breakDown_61 (by decide) ?_
        refine lv_istore (lv' := [(5, .int 0), (4, .int 0), (3, .ref q55), (0, .ref (ad (0, 0))), (1, .int machine), (2, .int amount)]) hx hb dX4_breakDown_62 hl (by decide) rfl (fun ls hl => ?_)
        have L64 : ∀ (n : Nat) (k : Nat) (f : Nat → Int32) (tot : Int32), S.1 2 0 - k < n → (k ≤ S.1 2 0) → (f = mUsedM S machine k) → (tot = mTotal S machine k) → ∀ (H : Heap) (locs : List Loc), xRM G A (sF S 26 0 0 0) ad z H → xat G q55 (xA 0 10 (fun k => .int (f k))) H → va_S A s.heap H locs → ∀ (ls : Array Slot), lv_has ls 10 [(5, .int (nI k)), (4, .int tot), (3, .ref q55), (0, .ref (ad (0, 0))), (1, .int machine), (2, .int amount)] → W p l e (headSpec (ws_ yX4_breakDown cX4_breakDown 10 (some .int)) ({ frames := 2, cells := 2, slots := 20, locals := 43 } : Room)).room s m ([.ref (ad (0, 0)), .int machine, .int amount] : List Value).toArray below meth c H locs 1 10 (MQ below (xQc (some (.int ((mBreakDown S machine amount).1))) (fun _ H => xRM G A (mBreakDown S machine amount).2 ad z H) A) ([.ref (ad (0, 0)), .int machine, .int amount] : List Value).toArray s 2 20 A) (F0 m 64 ls []) := by
          intro n64
          induction n64 with
          | zero =>
            intro k f tot hn64
            exact absurd hn64 (Nat.not_lt_zero _)
          | succ n64 ih64 =>
            intro k f tot hn64 hkn ef et H locs hR hq_q55 hS ls hl
            refine lv_iload hx hb dX4_breakDown_64 (lv_at hl 0 rfl) ?_
            refine lv_aload_n hx hb dX4_breakDown_66 rfl (lv_at hl 3 rfl) ?_
            refine g_X4_101 F hK (mw_0 hR) (v := .int (nI (S.1 2 0))) rfl dX4_breakDown_67 ?_
            refine xn_ge (tgt := 159) k (S.1 2 0) rfl rfl (by omega) (by omega) hx hb dX4_breakDown_70 (by decide) (fun c_70 => ?_) (fun c_70 => ?_)
            · refine lv_aload_n hx hb dX4_breakDown_159 rfl (lv_at hl 3 rfl) ?_
              refine g_X4_221 F hK (mw_0 hR) (v := .int (nI (S.1 4 0))) rfl dX4_breakDown_160 ?_
              refine lv_istore (lv' := [(5, .int (nI (S.1 4 0))), (4, .int tot), (3, .ref q55), (0, .ref (ad (0, 0))), (1, .int machine), (2, .int amount)]) hx hb dX4_breakDown_163 hl (by decide) rfl (fun ls hl => ?_)
              refine lv_aload_n hx hb dX4_breakDown_165 rfl (lv_at hl 3 rfl) ?_
              refine lv_dup hx hb dX4_breakDown_166 rfl ?_
              refine g_X4_221 F hK (mw_0 hR) (v := .int (nI (S.1 4 0))) rfl dX4_breakDown_167 ?_
              refine lv_iconst (v := 1) hx hb dX4_breakDown_170 (by decide) ?_
              refine lv_iadd hx hb dX4_breakDown_171 ?_
              refine x_topi (nI_1 _) ?_
              refine p_X4_221 F hK hS (mw_0 hR) (ma_0 hR) (v := .int (nI (S.1 4 0 + 1))) rfl rfl (Nat.le_of_ble_eq_true rfl) dX4_breakDown_172 (fun H locs hat hof hS => ?_)
              have hR := ms_0_28 hR hof hat
              have hq_q55 := hof.at hq_q55 (Ne.symm (hfr_q55 0 0 _ _ rfl (by first | exact Nat.zero_lt_one | decide | omega) rfl))
              refine lv_iload hx hb dX4_breakDown_175 (lv_at hl 1 rfl) ?_
              refine lv_if_ne (tgt := 182) hx hb dX4_breakDown_177 (by decide) (fun c_177 => ?_) (fun c_177 => ?_)
              · refine lv_bipush (v := 10) hx hb dX4_breakDown_182 (by decide) ?_
                refine x_newa hx hb hK (ty := .long) (t := 1) rfl rfl (hts _ q1545) (n := 10) (dv := .long 0) (by decide) (by decide) rfl (by decide) (Nat.le_of_ble_eq_true rfl) (Nat.le_of_ble_eq_true rfl) dX4_breakDown_184 (fun H1 hat hz hg => ?_)
                have hA_q184 : A (Array.size H) := hWK.2.2.2.1 _ hS.1
                have hfr_q184 := hR.fresh
                have hR := hR.grow hg
                have hS := hg.S hS
                have hne_q55_q184 : q55 ≠ Array.size H := Nat.ne_of_lt hq_q55.lt
                have hq_q55 := hg.at hq_q55
                clear hz hg
                generalize Array.size H = q184 at hat hA_q184 hfr_q184 hne_q55_q184 ⊢
                have hq_q184 := hat
                generalize H1 = H at hR hS hq_q184 hq_q55 ⊢
                refine lv_astore (lv' := [(6, .ref q184), (5, .int (nI (S.1 4 0))), (4, .int tot), (3, .ref q55), (0, .ref (ad (0, 0))), (1, .int machine), (2, .int amount)]) hx hb dX4_breakDown_186 hl (by decide) rfl (fun ls hl => ?_)
                refine lv_iload_n hx hb dX4_breakDown_188 rfl (lv_at hl 6 rfl) ?_
                refine lv_istore (lv' := [(7, .int amount), (6, .ref q184), (5, .int (nI (S.1 4 0))), (4, .int tot), (3, .ref q55), (0, .ref (ad (0, 0))), (1, .int machine), (2, .int amount)]) hx hb dX4_breakDown_189 hl (by decide) rfl (fun ls hl => ?_)
                refine lv_iconst (v := 0) hx hb dX4_breakDown_191 (by decide) ?_
                refine lv_istore (lv' := [(8, .int 0), (7, .int amount), (6, .ref q184), (5, .int (nI (S.1 4 0))), (4, .int tot), (3, .ref q55), (0, .ref (ad (0, 0))), (1, .int machine), (2, .int amount)]) hx hb dX4_breakDown_192 hl (by decide) rfl (fun ls hl => ?_)
                have L194 : ∀ (n : Nat) (j : Nat) (xr : Int32) (S1 : xS) (L : Nat → Int64), S.1 1 0 - j < n → (j ≤ S.1 1 0) → (S1.1 1 0 = S.1 1 0) → (S1 = mShares (sN (sF S 26 0 0 0) 4 0 (S.1 4 0 + 1)) (S.1 4 0) amount tot f j) → (L = mRems amount tot f j) → (xr = mRest amount tot f j) → ∀ (H : Heap) (locs : List Loc), xRM G A S1 ad z H → xat G q55 (xA 0 10 (fun k => .int (f k))) H → xat G q184 (xA 1 10 (fun k => .long (L k))) H → va_S A s.heap H locs → ∀ (ls : Array Slot), lv_has ls 10 [(8, .int (nI j)), (7, .int xr), (6, .ref q184), (5, .int (nI (S.1 4 0))), (4, .int tot), (3, .ref q55), (0, .ref (ad (0, 0))), (1, .int machine), (2, .int amount)] → W p l e (headSpec (ws_ yX4_breakDown cX4_breakDown 10 (some .int)) ({ frames := 2, cells := 2, slots := 20, locals := 43 } : Room)).room s m ([.ref (ad (0, 0)), .int machine, .int amount] : List Value).toArray below meth c H locs 2 20 (MQ below (xQc (some (.int ((mBreakDown S machine amount).1))) (fun _ H => xRM G A (mBreakDown S machine amount).2 ad z H) A) ([.ref (ad (0, 0)), .int machine, .int amount] : List Value).toArray s 2 20 A) (F0 m 194 ls []) := by
                  intro n194
                  induction n194 with
                  | zero =>
                    intro j xr S1 L hn194
                    exact absurd hn194 (Nat.not_lt_zero _)
                  | succ n194 ih194 =>
                    intro j xr S1 L hn194 hj hN1 eS eL er H locs hR hq_q55 hq_q184 hS ls hl
                    refine lv_iload hx hb dX4_breakDown_194 (lv_at hl 0 rfl) ?_
                    refine lv_aload_n hx hb dX4_breakDown_196 rfl (lv_at hl 6 rfl) ?_
                    refine g_X4_95 F hK (mw_0 hR) (v := .int (nI (S1.1 1 0))) rfl dX4_breakDown_197 ?_
                    refine xn_ge (tgt := 264) j (S1.1 1 0) rfl rfl (by omega) (by omega) hx hb dX4_breakDown_200 (by decide) (fun c_200 => ?_) (fun c_200 => ?_)
                    · have L264 : ∀ (n : Nat) (r : Nat) (xr : Int32) (S2 : xS) (L2 : Nat → Int64), r < n → (xr.toNatClampNeg = r) → (S2.1 1 0 = S.1 1 0) → (mDist (S.1 4 0) (S.1 1 0) r S2 L2 = mDist (S.1 4 0) (S.1 1 0) (mRest amount tot f (S.1 1 0)).toNatClampNeg (mShares (sN (sF S 26 0 0 0) 4 0 (S.1 4 0 + 1)) (S.1 4 0) amount tot f (S.1 1 0)) (mRems amount tot f (S.1 1 0))) → ∀ (H : Heap) (locs : List Loc), xRM G A S2 ad z H → xat G q55 (xA 0 10 (fun k => .int (f k))) H → xat G q184 (xA 1 10 (fun k => .long (L2 k))) H → va_S A s.heap H locs → ∀ (ls : Array Slot), lv_has ls 10 [(7, .int xr), (6, .ref q184), (5, .int (nI (S.1 4 0))), (4, .int tot), (0, .ref (ad (0, 0)))] → W p l e (headSpec (ws_ yX4_breakDown cX4_breakDown 10 (some .int)) ({ frames := 2, cells := 2, slots := 20, locals := 43 } : Room)).room s m ([.ref (ad (0, 0)), .int machine, .int amount] : List Value).toArray below meth c H locs 2 20 (MQ below (xQc (some (.int ((mBreakDown S machine amount).1))) (fun _ H => xRM G A (mBreakDown S machine amount).2 ad z H) A) ([.ref (ad (0, 0)), .int machine, .int amount] : List Value).toArray s 2 20 A) (F0 m 264 ls []) := by
                        intro n264
                        induction n264 with
                        | zero =>
                          intro r xr S2 L2 hn264
                          exact absurd hn264 (Nat.not_lt_zero _)
                        | succ n264 ih264 =>
                          intro r xr S2 L2 hn264 hx9 hN2 eD H locs hR hq_q55 hq_q184 hS ls hl
                          refine lv_iload hx hb dX4_breakDown_264 (lv_at hl 0 rfl) ?_
                          refine lv_if_le (tgt := 341) hx hb dX4_breakDown_266 (by decide) (fun c_266 => ?_) (fun c_266 => ?_)
                          · refine lv_iload hx hb dX4_breakDown_341 (lv_at hl 3 rfl) ?_
                            have hr0 := neg_nat hx9 c_266
                            subst hr0
                            have hk9 : k = S.1 2 0 := (by omega)
                            subst hk9
                            have eD2 : mDist (S.1 4 0) (S.1 1 0) (mRest amount tot f (S.1 1 0)).toNatClampNeg (mShares (sN (sF S 26 0 0 0) 4 0 (S.1 4 0 + 1)) (S.1 4 0) amount tot f (S.1 1 0)) (mRems amount tot f (S.1 1 0)) = S2 := eD.symm
                            have e9 : mBreakDown S machine amount = (tot, S2) := by simp [mBreakDown, thr, c_6, c_20, c_33, c_70, c_177, c_200, c_266, ← et, ← ef, eD2]
                            exact xr_Ci hx hb hr hlocks ((congrArg Prod.fst e9).symm) (by show xRM G A (mBreakDown S machine amount).2 ad z H; rw [show (mBreakDown S machine amount).2 = S2 from congrArg Prod.snd e9]; exact hR) hS (by first | omega | decide) (by first | omega | decide) dX4_breakDown_343
                          · obtain ⟨q, hq31, rfl, rfl⟩ := pos_nat hx9 c_266
                            refine lv_iconst (v := 0) hx hb dX4_breakDown_269 (by decide) ?_
                            refine lv_istore (lv' := [(8, .int 0), (7, .int (nI (q + 1))), (6, .ref q184), (5, .int (nI (S.1 4 0))), (4, .int tot), (0, .ref (ad (0, 0)))]) hx hb dX4_breakDown_270 hl (by decide) rfl (fun ls hl => ?_)
                            refine lv_iconst (v := 1) hx hb dX4_breakDown_272 (by decide) ?_
                            refine lv_istore (lv' := [(9, .int 1), (8, .int 0), (7, .int (nI (q + 1))), (6, .ref q184), (5, .int (nI (S.1 4 0))), (4, .int tot), (0, .ref (ad (0, 0)))]) hx hb dX4_breakDown_273 hl (by decide) rfl (fun ls hl => ?_)
                            have L275 : ∀ (n : Nat) (i : Nat) (bs : Nat), S.1 1 0 - i < n → (i ≤ 9) → (i + 1 ≤ S.1 1 0 ∨ i = 0) → (bs ≤ i) → (bs = mTopN L2 i) → ∀ (ls : Array Slot), lv_has ls 10 [(9, .int (nI (i + 1))), (8, .int (nI bs)), (7, .int (nI (q + 1))), (6, .ref q184), (5, .int (nI (S.1 4 0))), (4, .int tot), (0, .ref (ad (0, 0)))] → W p l e (headSpec (ws_ yX4_breakDown cX4_breakDown 10 (some .int)) ({ frames := 2, cells := 2, slots := 20, locals := 43 } : Room)).room s m ([.ref (ad (0, 0)), .int machine, .int amount] : List Value).toArray below meth c H locs 2 20 (MQ below (xQc (some (.int ((mBreakDown S machine amount).1))) (fun _ H => xRM G A (mBreakDown S machine amount).2 ad z H) A) ([.ref (ad (0, 0)), .int machine, .int amount] : List Value).toArray s 2 20 A) (F0 m 275 ls []) := by
                              intro n275
                              induction n275 with
                              | zero =>
                                intro i bs hn275
                                exact absurd hn275 (Nat.not_lt_zero _)
                              | succ n275 ih275 =>
                                intro i bs hn275 hi9 hin hbi eb ls hl
                                refine lv_iload hx hb dX4_breakDown_275 (lv_at hl 0 rfl) ?_
                                refine lv_aload_n hx hb dX4_breakDown_277 rfl (lv_at hl 6 rfl) ?_
                                refine g_X4_95 F hK (mw_0 hR) (v := .int (nI (S2.1 1 0))) rfl dX4_breakDown_278 ?_
                                refine xn_ge (tgt := 313) (i + 1) (S2.1 1 0) rfl rfl (by omega) (by omega) hx hb dX4_breakDown_281 (by decide) (fun c_281 => ?_) (fun c_281 => ?_)
                                · refine lv_aload_n hx hb dX4_breakDown_313 rfl (lv_at hl 6 rfl) ?_
                                  refine g_X4_84 F hK (mw_0 hR) (v := .ref (ad (29, 0))) rfl dX4_breakDown_314 ?_
                                  refine lv_iload hx hb dX4_breakDown_317 (lv_at hl 4 rfl) ?_
                                  refine x_aald hx hb hK (mw_29 hR) rfl rfl (v := .ref (ad (30, S.1 4 0))) (xi_nI (n := 20) (by omega) (by omega)) (rfl) dX4_breakDown_319 ?_
                                  refine lv_iload hx hb dX4_breakDown_320 (lv_at hl 1 rfl) ?_
                                  refine lv_dup2_11 hx hb dX4_breakDown_322 rfl rfl ?_
                                  refine x_iald hx hb hK (mw_30 hR (by omega)) (v := .int (S2.2.1 25 (S.1 4 0) bs)) (xi_nI (n := 10) (by omega) (by omega)) (rfl) dX4_breakDown_323 ?_
                                  refine lv_iconst (v := 1) hx hb dX4_breakDown_324 (by decide) ?_
                                  refine lv_iadd hx hb dX4_breakDown_325 ?_
                                  refine x_iast hx hb hK hS (mw_30 hR (by omega)) (ma_30 hR (by omega)) (xi_nI (n := 10) (by omega) (by omega)) dX4_breakDown_326 (fun H locs hat hof hS => ?_)
                                  have hR := ms_30_a hR (by omega) hof hat
                                  have hq_q55 := hof.at hq_q55 (Ne.symm (hfr_q55 30 (S.1 4 0) _ _ rfl (by omega) rfl))
                                  have hq_q184 := hof.at hq_q184 (Ne.symm (hfr_q184 30 (S.1 4 0) _ _ rfl (by omega) rfl))
                                  refine lv_aload hx hb dX4_breakDown_327 (lv_at hl 3 rfl) ?_
                                  refine lv_iload hx hb dX4_breakDown_329 (lv_at hl 1 rfl) ?_
                                  refine lv_ldc2 (v := (-1)) hx hb hown (hts _ q1790) dX4_breakDown_331 ?_
                                  refine x_last hx hb hK hS hq_q184 hA_q184 (xi_nI (n := 10) (by omega) (by omega)) dX4_breakDown_334 (fun H locs hat hof hS => ?_)
                                  have hq_q184 := xat.setL hat
                                  have hR := hR.off (mfr hfr_q184) hof
                                  have hq_q55 := hof.at hq_q55 hne_q55_q184
                                  refine lv_iinc (v := nI q) (lv' := [(7, .int (nI q)), (9, .int (nI (i + 1))), (8, .int (nI bs)), (6, .ref q184), (5, .int (nI (S.1 4 0))), (4, .int tot), (0, .ref (ad (0, 0)))]) hx hb dX4_breakDown_335 hl (k := 2) rfl (pk_m1 _) (by decide) rfl (fun ls hl => ?_)
                                  refine lv_goto (tgt := 264) hx hb dX4_breakDown_338 (by decide) ?_
                                  have hi8 : i = S.1 1 0 - 1 := (by omega)
                                  subst hi8
                                  exact ih264 q (nI q) (sF S2 25 (S.1 4 0) bs ((S2.2.1 25 (S.1 4 0) bs) + 1)) (vp_updL L2 bs (-1)) (by omega) (nI_clamp (by omega)) hN2 (by rw [eb]; exact eD) _ _ hR hq_q55 hq_q184 hS ls (lv_sub hl [0, 3, 4, 5, 6] rfl)
                                · refine lv_aload hx hb dX4_breakDown_284 (lv_at hl 3 rfl) ?_
                                  refine lv_iload hx hb dX4_breakDown_286 (lv_at hl 0 rfl) ?_
                                  refine x_lald hx hb hK hq_q184 (v := .long (L2 (i + 1))) (xi_nI (n := 10) (by omega) (by omega)) (rfl) dX4_breakDown_288 ?_
                                  refine lv_aload hx hb dX4_breakDown_289 (lv_at hl 3 rfl) ?_
                                  refine lv_iload hx hb dX4_breakDown_291 (lv_at hl 1 rfl) ?_
                                  refine x_lald hx hb hK hq_q184 (v := .long (L2 bs)) (xi_nI (n := 10) (by omega) (by omega)) (rfl) dX4_breakDown_293 ?_
                                  refine x_lcmp hx hb dX4_breakDown_294 ?_
                                  refine lv_if_le (tgt := 303) hx hb dX4_breakDown_295 (by decide) (fun c_295 => ?_) (fun c_295 => ?_)
                                  · have c_295 := cmpL_le c_295
                                    refine lv_iload hx hb dX4_breakDown_303 (lv_at hl 1 rfl) ?_
                                    refine lv_istore (lv' := [(8, .int (nI bs)), (9, .int (nI (i + 1))), (7, .int (nI (q + 1))), (6, .ref q184), (5, .int (nI (S.1 4 0))), (4, .int tot), (0, .ref (ad (0, 0)))]) hx hb dX4_breakDown_305 hl (by decide) rfl (fun ls hl => ?_)
                                    refine lv_iinc (v := nI (i + 1 + 1)) (lv' := [(9, .int (nI (i + 1 + 1))), (8, .int (nI bs)), (7, .int (nI (q + 1))), (6, .ref q184), (5, .int (nI (S.1 4 0))), (4, .int tot), (0, .ref (ad (0, 0)))]) hx hb dX4_breakDown_307 hl (k := 1) rfl (nI_1 _) (by decide) rfl (fun ls hl => ?_)
                                    refine lv_goto (tgt := 275) hx hb dX4_breakDown_310 (by decide) ?_
                                    exact ih275 (i + 1) bs (by omega) (by omega) (by omega) (by omega) (by simp [mTopN, ← eb, c_295]) ls (lv_sub hl [0, 1, 2, 3, 4, 5, 6] rfl)
                                  · have c_295 := cmpL_gt c_295
                                    refine lv_iload hx hb dX4_breakDown_298 (lv_at hl 0 rfl) ?_
                                    refine lv_goto (tgt := 305) hx hb dX4_breakDown_300 (by decide) ?_
                                    refine lv_istore (lv' := [(8, .int (nI (i + 1))), (9, .int (nI (i + 1))), (7, .int (nI (q + 1))), (6, .ref q184), (5, .int (nI (S.1 4 0))), (4, .int tot), (0, .ref (ad (0, 0)))]) hx hb dX4_breakDown_305 hl (by decide) rfl (fun ls hl => ?_)
                                    refine lv_iinc (v := nI (i + 1 + 1)) (lv' := [(9, .int (nI (i + 1 + 1))), (8, .int (nI (i + 1))), (7, .int (nI (q + 1))), (6, .ref q184), (5, .int (nI (S.1 4 0))), (4, .int tot), (0, .ref (ad (0, 0)))]) hx hb dX4_breakDown_307 hl (k := 1) rfl (nI_1 _) (by decide) rfl (fun ls hl => ?_)
                                    refine lv_goto (tgt := 275) hx hb dX4_breakDown_310 (by decide) ?_
                                    exact ih275 (i + 1) (i + 1) (by omega) (by omega) (by omega) (by omega) (by simp [mTopN, ← eb, c_295]) ls (lv_sub hl [0, 1, 2, 3, 4, 5, 6] rfl)
                            exact L275 (S.1 1 0 + 1) 0 0 (by omega) (by omega) (Or.inr rfl) (Nat.le_refl _) rfl ls (lv_sub hl [0, 1, 2, 3, 4, 5, 6] rfl)
                      have hk8 : j = S.1 1 0 := (by omega)
                      subst hk8
                      exact L264 (xr.toNatClampNeg + 1) xr.toNatClampNeg xr S1 L (by omega) rfl hN1 (by rw [eS, eL, er]) _ _ hR hq_q55 hq_q184 hS ls (lv_sub hl [1, 2, 3, 4, 6] rfl)
                    · refine lv_aload_n hx hb dX4_breakDown_203 rfl (lv_at hl 6 rfl) ?_
                      refine g_X4_84 F hK (mw_0 hR) (v := .ref (ad (29, 0))) rfl dX4_breakDown_204 ?_
                      refine lv_iload hx hb dX4_breakDown_207 (lv_at hl 3 rfl) ?_
                      refine x_aald hx hb hK (mw_29 hR) rfl rfl (v := .ref (ad (30, S.1 4 0))) (xi_nI (n := 20) (by omega) (by omega)) (rfl) dX4_breakDown_209 ?_
                      refine lv_iload hx hb dX4_breakDown_210 (lv_at hl 0 rfl) ?_
                      refine lv_iload_n hx hb dX4_breakDown_212 rfl (lv_at hl 8 rfl) ?_
                      refine lv_i2l hx hb dX4_breakDown_213 rfl ?_
                      refine lv_aload_n hx hb dX4_breakDown_214 rfl (lv_at hl 5 rfl) ?_
                      refine lv_iload hx hb dX4_breakDown_215 (lv_at hl 0 rfl) ?_
                      refine x_iald hx hb hK hq_q55 (v := .int (f j)) (xi_nI (n := 10) (by omega) (by omega)) (rfl) dX4_breakDown_217 ?_
                      refine lv_i2l hx hb dX4_breakDown_218 rfl ?_
                      refine lv_lmul hx hb dX4_breakDown_219 ?_
                      refine lv_iload hx hb dX4_breakDown_220 (lv_at hl 4 rfl) ?_
                      refine lv_i2l hx hb dX4_breakDown_222 rfl ?_
                      refine lv_ldiv hx hb dX4_breakDown_223 (i64_ne c_177) ?_
                      refine lv_l2i hx hb dX4_breakDown_224 rfl ?_
                      refine x_iast hx hb hK hS (mw_30 hR (by omega)) (ma_30 hR (by omega)) (xi_nI (n := 10) (by omega) (by omega)) dX4_breakDown_225 (fun H locs hat hof hS => ?_)
                      have hR := ms_30_a hR (by omega) hof hat
                      have hq_q55 := hof.at hq_q55 (Ne.symm (hfr_q55 30 (S.1 4 0) _ _ rfl (by omega) rfl))
                      have hq_q184 := hof.at hq_q184 (Ne.symm (hfr_q184 30 (S.1 4 0) _ _ rfl (by omega) rfl))
                      refine lv_aload hx hb dX4_breakDown_226 (lv_at hl 2 rfl) ?_
                      refine lv_iload hx hb dX4_breakDown_228 (lv_at hl 0 rfl) ?_
                      refine lv_iload_n hx hb dX4_breakDown_230 rfl (lv_at hl 8 rfl) ?_
                      refine lv_i2l hx hb dX4_breakDown_231 rfl ?_
                      refine lv_aload_n hx hb dX4_breakDown_232 rfl (lv_at hl 5 rfl) ?_
                      refine lv_iload hx hb dX4_breakDown_233 (lv_at hl 0 rfl) ?_
                      refine x_iald hx hb hK hq_q55 (v := .int (f j)) (xi_nI (n := 10) (by omega) (by omega)) (rfl) dX4_breakDown_235 ?_
                      refine lv_i2l hx hb dX4_breakDown_236 rfl ?_
                      refine lv_lmul hx hb dX4_breakDown_237 ?_
                      refine lv_iload hx hb dX4_breakDown_238 (lv_at hl 4 rfl) ?_
                      refine lv_i2l hx hb dX4_breakDown_240 rfl ?_
                      refine lv_lrem hx hb dX4_breakDown_241 (i64_ne c_177) ?_
                      refine x_last hx hb hK hS hq_q184 hA_q184 (xi_nI (n := 10) (by omega) (by omega)) dX4_breakDown_242 (fun H locs hat hof hS => ?_)
                      have hq_q184 := xat.setL hat
                      have hR := hR.off (mfr hfr_q184) hof
                      have hq_q55 := hof.at hq_q55 hne_q55_q184
                      refine lv_iload hx hb dX4_breakDown_243 (lv_at hl 1 rfl) ?_
                      refine lv_aload_n hx hb dX4_breakDown_245 rfl (lv_at hl 6 rfl) ?_
                      refine g_X4_84 F hK (mw_0 hR) (v := .ref (ad (29, 0))) rfl dX4_breakDown_246 ?_
                      refine lv_iload hx hb dX4_breakDown_249 (lv_at hl 3 rfl) ?_
                      refine x_aald hx hb hK (mw_29 hR) rfl rfl (v := .ref (ad (30, S.1 4 0))) (xi_nI (n := 20) (by omega) (by omega)) (rfl) dX4_breakDown_251 ?_
                      refine lv_iload hx hb dX4_breakDown_252 (lv_at hl 0 rfl) ?_
                      refine x_iald hx hb hK (mw_30 hR (by omega)) (v := .int (((amount.toInt64 * ((f j).toInt64)) / tot.toInt64).toInt32)) (xi_nI (n := 10) (by omega) (by omega)) ((by simp [fset, nset, lset])) dX4_breakDown_254 ?_
                      refine lv_isub hx hb dX4_breakDown_255 ?_
                      refine lv_istore (lv' := [(7, .int (xr - (((amount.toInt64 * ((f j).toInt64)) / tot.toInt64).toInt32))), (8, .int (nI j)), (6, .ref q184), (5, .int (nI (S.1 4 0))), (4, .int tot), (3, .ref q55), (0, .ref (ad (0, 0))), (1, .int machine), (2, .int amount)]) hx hb dX4_breakDown_256 hl (by decide) rfl (fun ls hl => ?_)
                      refine lv_iinc (v := nI (j + 1)) (lv' := [(8, .int (nI (j + 1))), (7, .int (xr - (((amount.toInt64 * ((f j).toInt64)) / tot.toInt64).toInt32))), (6, .ref q184), (5, .int (nI (S.1 4 0))), (4, .int tot), (3, .ref q55), (0, .ref (ad (0, 0))), (1, .int machine), (2, .int amount)]) hx hb dX4_breakDown_258 hl (k := 1) rfl (nI_1 _) (by decide) rfl (fun ls hl => ?_)
                      refine lv_goto (tgt := 194) hx hb dX4_breakDown_261 (by decide) ?_
                      exact ih194 (j + 1) (xr - (((amount.toInt64 * ((f j).toInt64)) / tot.toInt64).toInt32)) (sF S1 25 (S.1 4 0) j (((amount.toInt64 * ((f j).toInt64)) / tot.toInt64).toInt32)) (vp_updL L j ((amount.toInt64 * ((f j).toInt64)) - (amount.toInt64 * ((f j).toInt64)) / tot.toInt64 * tot.toInt64)) (by omega) (by omega) hN1 (by rw [eS]; rfl) (by rw [eL]; rfl) (by rw [er]; rfl) _ _ hR hq_q55 hq_q184 hS ls (lv_sub hl [0, 1, 2, 3, 4, 5, 6, 7, 8] rfl)
                exact L194 (S.1 1 0 + 1) 0 amount (sN (sF S 26 0 0 0) 4 0 (S.1 4 0 + 1)) (fun _ => 0) (by omega) (by omega) rfl rfl rfl rfl _ _ hR hq_q55 hq_q184 hS ls (lv_sub hl [0, 1, 2, 3, 4, 5, 6, 7, 8] rfl)
              · refine lv_iconst (v := 0) hx hb dX4_breakDown_180 (by decide) ?_
                have hk9 : k = S.1 2 0 := (by omega)
                subst hk9
                have e9 : mBreakDown S machine amount = (0, (sN (sF S 26 0 0 0) 4 0 (S.1 4 0 + 1))) := by simp [mBreakDown, thr, c_6, c_20, c_33, c_70, c_177, ← et]
                exact xr_Ci hx hb hr hlocks ((congrArg Prod.fst e9).symm) (by show xRM G A (mBreakDown S machine amount).2 ad z H; rw [show (mBreakDown S machine amount).2 = (sN (sF S 26 0 0 0) 4 0 (S.1 4 0 + 1)) from congrArg Prod.snd e9]; exact hR) hS (by first | omega | decide) (by first | omega | decide) dX4_breakDown_181
            · refine lv_aload_n hx hb dX4_breakDown_73 rfl (lv_at hl 3 rfl) ?_
              refine g_X4_49 F hK (mw_0 hR) (v := .ref (ad (14, 0))) rfl dX4_breakDown_74 ?_
              refine lv_iload hx hb dX4_breakDown_77 (lv_at hl 0 rfl) ?_
              refine x_cald hx hb hK (mw_14 hR) (v := .int (S.2.1 16 k 0)) (xi_nI (n := 150) (by omega) (by omega)) (rfl) dX4_breakDown_79 ?_
              refine lv_bipush (v := 100) hx hb dX4_breakDown_80 (by decide) ?_
              refine lv_icmp_ne (tgt := 153) hx hb dX4_breakDown_82 (by decide) (fun c_82 => ?_) (fun c_82 => ?_)
              · refine lv_iinc (v := nI (k + 1)) (lv' := [(5, .int (nI (k + 1))), (4, .int tot), (3, .ref q55), (0, .ref (ad (0, 0))), (1, .int machine), (2, .int amount)]) hx hb dX4_breakDown_153 hl (k := 0) rfl (nI_1 _) (by decide) rfl (fun ls hl => ?_)
                refine lv_goto (tgt := 64) hx hb dX4_breakDown_156 (by decide) ?_
                exact ih64 (k + 1) f tot (by omega) (by omega) (by simp [mUsedM, mHit, ← ef, c_6, c_20, c_33, c_82]) (by rw [et]; simp [mTotal, sumI, mHit, c_6, c_20, c_33, c_82]) _ _ hR hq_q55 hS ls (lv_sub hl [0, 1, 2, 3, 4, 5] rfl)
              · refine lv_aload_n hx hb dX4_breakDown_85 rfl (lv_at hl 3 rfl) ?_
                refine g_X4_33 F hK (mw_0 hR) (v := .ref (ad (9, 0))) rfl dX4_breakDown_86 ?_
                refine lv_iload hx hb dX4_breakDown_89 (lv_at hl 0 rfl) ?_
                refine x_iald hx hb hK (mw_9 hR) (v := .int (S.2.1 11 k 0)) (xi_nI (n := 150) (by omega) (by omega)) (rfl) dX4_breakDown_91 ?_
                refine lv_iload_n hx hb dX4_breakDown_92 rfl (lv_at hl 4 rfl) ?_
                refine lv_icmp_ne (tgt := 153) hx hb dX4_breakDown_93 (by decide) (fun c_93 => ?_) (fun c_93 => ?_)
                · refine lv_iinc (v := nI (k + 1)) (lv' := [(5, .int (nI (k + 1))), (4, .int tot), (3, .ref q55), (0, .ref (ad (0, 0))), (1, .int machine), (2, .int amount)]) hx hb dX4_breakDown_153 hl (k := 0) rfl (nI_1 _) (by decide) rfl (fun ls hl => ?_)
                  refine lv_goto (tgt := 64) hx hb dX4_breakDown_156 (by decide) ?_
                  exact ih64 (k + 1) f tot (by omega) (by omega) (by simp [mUsedM, mHit, ← ef, c_6, c_20, c_33, c_82, c_93]) (by rw [et]; simp [mTotal, sumI, mHit, c_6, c_20, c_33, c_82, c_93]) _ _ hR hq_q55 hS ls (lv_sub hl [0, 1, 2, 3, 4, 5] rfl)
                · refine lv_aload_n hx hb dX4_breakDown_96 rfl (lv_at hl 3 rfl) ?_
                  refine g_X4_36 F hK (mw_0 hR) (v := .ref (ad (10, 0))) rfl dX4_breakDown_97 ?_
                  refine lv_iload hx hb dX4_breakDown_100 (lv_at hl 0 rfl) ?_
                  refine x_iald hx hb hK (mw_10 hR) (v := .int (S.2.1 12 k 0)) (xi_nI (n := 150) (by omega) (by omega)) (rfl) dX4_breakDown_102 ?_
                  refine lv_aload_n hx hb dX4_breakDown_103 rfl (lv_at hl 3 rfl) ?_
                  refine g_X4_112 F hK (mw_0 hR) (v := .int (S.2.1 7 0 0)) rfl dX4_breakDown_104 ?_
                  refine lv_bipush (v := 7) hx hb dX4_breakDown_107 (by decide) ?_
                  refine lv_isub hx hb dX4_breakDown_109 ?_
                  refine lv_aload_n hx hb dX4_breakDown_110 rfl (lv_at hl 3 rfl) ?_
                  refine g_X4_112 F hK (mw_0 hR) (v := .int (S.2.1 7 0 0)) rfl dX4_breakDown_111 ?_
                  refine lv_iconst (v := 1) hx hb dX4_breakDown_114 (by decide) ?_
                  refine lv_isub hx hb dX4_breakDown_115 ?_
                  refine xc_P (va_runS (As := [.int (S.2.1 12 k 0), .int ((S.2.1 7 0 0) - 7), .int ((S.2.1 7 0 0) - 1)]) (rest := []) F (mX4_in g (A := A) (S.2.1 12 k 0) ((S.2.1 7 0 0) - 7) ((S.2.1 7 0 0) - 1)) (va_cwS 3 hts (lw_S q1558 q1559 q80 q1560) rfl rfl rfl hdS_X4_in ⟨Nat.le_of_ble_eq_true rfl, Nat.le_of_ble_eq_true rfl⟩) (xpre hWK hS trivial) rfl rfl hl.1 rfl (lv_room (Nat.le_of_ble_eq_true rfl)) dX4_breakDown_116 ⟨Nat.le_of_ble_eq_true rfl, Nat.le_of_ble_eq_true rfl⟩) ?_
                  refine x_ifeq (tgt := 153) hx hb dX4_breakDown_119 (by decide) (fun c_119 => ?_) (fun c_119 => ?_)
                  · refine lv_iinc (v := nI (k + 1)) (lv' := [(5, .int (nI (k + 1))), (4, .int tot), (3, .ref q55), (0, .ref (ad (0, 0))), (1, .int machine), (2, .int amount)]) hx hb dX4_breakDown_153 hl (k := 0) rfl (nI_1 _) (by decide) rfl (fun ls hl => ?_)
                    refine lv_goto (tgt := 64) hx hb dX4_breakDown_156 (by decide) ?_
                    exact ih64 (k + 1) f tot (by omega) (by omega) (by simp [mUsedM, mHit, ← ef, c_6, c_20, c_33, c_82, c_93, c_119]) (by rw [et]; simp [mTotal, sumI, mHit, c_6, c_20, c_33, c_82, c_93, c_119]) _ _ hR hq_q55 hS ls (lv_sub hl [0, 1, 2, 3, 4, 5] rfl)
                  · refine lv_aload_n hx hb dX4_breakDown_122 rfl (lv_at hl 2 rfl) ?_
                    refine lv_aload_n hx hb dX4_breakDown_123 rfl (lv_at hl 3 rfl) ?_
                    refine g_X4_30 F hK (mw_0 hR) (v := .ref (ad (8, 0))) rfl dX4_breakDown_124 ?_
                    refine lv_iload hx hb dX4_breakDown_127 (lv_at hl 0 rfl) ?_
                    refine x_iald hx hb hK (mw_8 hR) (v := .int (S.2.1 10 k 0)) (xi_nI (n := 150) (by omega) (by omega)) (rfl) dX4_breakDown_129 ?_
                    refine lv_dup2_11 hx hb dX4_breakDown_130 rfl rfl ?_
                    refine x_iald hx hb hK hq_q55 (v := .int (f ((S.2.1 10 k 0).toNatClampNeg))) (xi.up (xi_of (hW.2.2.2.2.2.2.2.2.1 k)) (by omega)) (rfl) dX4_breakDown_131 ?_
                    refine lv_aload_n hx hb dX4_breakDown_132 rfl (lv_at hl 3 rfl) ?_
                    refine g_X4_42 F hK (mw_0 hR) (v := .ref (ad (12, 0))) rfl dX4_breakDown_133 ?_
                    refine lv_iload hx hb dX4_breakDown_136 (lv_at hl 0 rfl) ?_
                    refine x_iald hx hb hK (mw_12 hR) (v := .int (S.2.1 14 k 0)) (xi_nI (n := 150) (by omega) (by omega)) (rfl) dX4_breakDown_138 ?_
                    refine lv_iadd hx hb dX4_breakDown_139 ?_
                    refine x_iast hx hb hK hS hq_q55 hA_q55 (xi.up (xi_of (hW.2.2.2.2.2.2.2.2.1 k)) (by omega)) dX4_breakDown_140 (fun H locs hat hof hS => ?_)
                    have hq_q55 := xat.setI hat
                    have hR := hR.off (mfr hfr_q55) hof
                    refine lv_iload hx hb dX4_breakDown_141 (lv_at hl 1 rfl) ?_
                    refine lv_aload_n hx hb dX4_breakDown_143 rfl (lv_at hl 3 rfl) ?_
                    refine g_X4_42 F hK (mw_0 hR) (v := .ref (ad (12, 0))) rfl dX4_breakDown_144 ?_
                    refine lv_iload hx hb dX4_breakDown_147 (lv_at hl 0 rfl) ?_
                    refine x_iald hx hb hK (mw_12 hR) (v := .int (S.2.1 14 k 0)) (xi_nI (n := 150) (by omega) (by omega)) (rfl) dX4_breakDown_149 ?_
                    refine lv_iadd hx hb dX4_breakDown_150 ?_
                    refine lv_istore (lv' := [(4, .int (tot + (S.2.1 14 k 0))), (5, .int (nI k)), (3, .ref q55), (0, .ref (ad (0, 0))), (1, .int machine), (2, .int amount)]) hx hb dX4_breakDown_151 hl (by decide) rfl (fun ls hl => ?_)
                    refine lv_iinc (v := nI (k + 1)) (lv' := [(5, .int (nI (k + 1))), (4, .int (tot + (S.2.1 14 k 0))), (3, .ref q55), (0, .ref (ad (0, 0))), (1, .int machine), (2, .int amount)]) hx hb dX4_breakDown_153 hl (k := 1) rfl (nI_1 _) (by decide) rfl (fun ls hl => ?_)
                    refine lv_goto (tgt := 64) hx hb dX4_breakDown_156 (by decide) ?_
                    exact ih64 (k + 1) (upd f ((S.2.1 10 k 0).toNatClampNeg) ((f ((S.2.1 10 k 0).toNatClampNeg)) + (S.2.1 14 k 0))) (tot + (S.2.1 14 k 0)) (by omega) (by omega) (by simp [mUsedM, mHit, ← ef, c_6, c_20, c_33, c_82, c_93, c_119]) (by rw [et]; simp [mTotal, sumI, mHit, c_6, c_20, c_33, c_82, c_93, c_119]) _ _ hR hq_q55 hS ls (lv_sub hl [0, 1, 2, 3, 4, 5] rfl)
        exact L64 (S.1 2 0 + 1) 0 (fun _ => 0) 0 (by omega) (by omega) rfl rfl _ _ hR hq_q55 hS ls (lv_sub hl [0, 1, 2, 3, 4, 5] rfl)
      · refine lv_iconst (v := 3) hx hb dX4_breakDown_36 (by decide) ?_
        refine lv_goto (tgt := 41) hx hb dX4_breakDown_37 (by decide) ?_
        refine p_X4_87 F hK hS (mw_0 hR) (ma_0 hR) (v := .int 3) rfl rfl (Nat.le_of_ble_eq_true rfl) dX4_breakDown_41 (fun H locs hat hof hS => ?_)
        have hR := ms_0_29 hR hof hat
        refine lv_aload_n hx hb dX4_breakDown_44 rfl (lv_at hl 0 rfl) ?_
        refine g_X4_87 F hK (mw_0 hR) (v := .int 3) (by simp [fset, nset, lset]) dX4_breakDown_45 ?_
        refine lv_if_le (tgt := 53) hx hb dX4_breakDown_48 (by decide) (fun c_48 => (by first | exact absurd c_48 (by decide) | exact absurd (by decide) c_48)) (fun c_48 => ?_)
        refine lv_iconst (v := 0) hx hb dX4_breakDown_51 (by decide) ?_
        have e9 : mBreakDown S machine amount = (0, (sF S 26 0 0 3)) := by simp [mBreakDown, thr, c_6, c_20, c_33]
        exact xr_Ci hx hb hr hlocks ((congrArg Prod.fst e9).symm) (by show xRM G A (mBreakDown S machine amount).2 ad z H; rw [show (mBreakDown S machine amount).2 = (sF S 26 0 0 3) from congrArg Prod.snd e9]; exact hR) hS (by first | omega | decide) (by first | omega | decide) dX4_breakDown_52
    · refine lv_iconst (v := 2) hx hb dX4_breakDown_23 (by decide) ?_
      refine lv_goto (tgt := 41) hx hb dX4_breakDown_24 (by decide) ?_
      refine p_X4_87 F hK hS (mw_0 hR) (ma_0 hR) (v := .int 2) rfl rfl (Nat.le_of_ble_eq_true rfl) dX4_breakDown_41 (fun H locs hat hof hS => ?_)
      have hR := ms_0_29 hR hof hat
      refine lv_aload_n hx hb dX4_breakDown_44 rfl (lv_at hl 0 rfl) ?_
      refine g_X4_87 F hK (mw_0 hR) (v := .int 2) (by simp [fset, nset, lset]) dX4_breakDown_45 ?_
      refine lv_if_le (tgt := 53) hx hb dX4_breakDown_48 (by decide) (fun c_48 => (by first | exact absurd c_48 (by decide) | exact absurd (by decide) c_48)) (fun c_48 => ?_)
      refine lv_iconst (v := 0) hx hb dX4_breakDown_51 (by decide) ?_
      have e9 : mBreakDown S machine amount = (0, (sF S 26 0 0 2)) := by simp [mBreakDown, thr, c_6, c_20]
      exact xr_Ci hx hb hr hlocks ((congrArg Prod.fst e9).symm) (by show xRM G A (mBreakDown S machine amount).2 ad z H; rw [show (mBreakDown S machine amount).2 = (sF S 26 0 0 2) from congrArg Prod.snd e9]; exact hR) hS (by first | omega | decide) (by first | omega | decide) dX4_breakDown_52
  · refine lv_iconst (v := 1) hx hb dX4_breakDown_9 (by decide) ?_
    refine lv_goto (tgt := 41) hx hb dX4_breakDown_10 (by decide) ?_
    refine p_X4_87 F hK hS (mw_0 hR) (ma_0 hR) (v := .int 1) rfl rfl (Nat.le_of_ble_eq_true rfl) dX4_breakDown_41 (fun H locs hat hof hS => ?_)
    have hR := ms_0_29 hR hof hat
    refine lv_aload_n hx hb dX4_breakDown_44 rfl (lv_at hl 0 rfl) ?_
    refine g_X4_87 F hK (mw_0 hR) (v := .int 1) (by simp [fset, nset, lset]) dX4_breakDown_45 ?_
    refine lv_if_le (tgt := 53) hx hb dX4_breakDown_48 (by decide) (fun c_48 => (by first | exact absurd c_48 (by decide) | exact absurd (by decide) c_48)) (fun c_48 => ?_)
    refine lv_iconst (v := 0) hx hb dX4_breakDown_51 (by decide) ?_
    have e9 : mBreakDown S machine amount = (0, (sF S 26 0 0 1)) := by simp [mBreakDown, thr, c_6]
    exact xr_Ci hx hb hr hlocks ((congrArg Prod.fst e9).symm) (by show xRM G A (mBreakDown S machine amount).2 ad z H; rw [show (mBreakDown S machine amount).2 = (sF S 26 0 0 1) from congrArg Prod.snd e9]; exact hR) hS (by first | omega | decide) (by first | omega | decide) dX4_breakDown_52

set_option maxHeartbeats 4000000 in
theorem mX4_use {l : Launch} {G : xG} {s0 : State} {b0 : Nat} (g : xG0 G s0 b0) {A : Nat → Prop} {S : xS} {ad : Nat × Nat → Nat} {z : xZ} (machine day : Int32) (hW : mWF S) : Met l yX4_use (ws_ yX4_use cX4_use 3 (some .float)) ({ frames := 3, cells := 0, slots := 0, locals := 66 } : Room) (xP s0 A [.ref (ad (0, 0)), .int machine, .int day] (fun H => xRM G A S ad z H)) (xQc (some (.float ((mUse S machine day).1))) (fun _ H => xRM G A (mUse S machine day).2 ad z H) A) 0 0 A := by
  refine Met.ofW (cc := cX4_use) (maxL := 3) (ret := (some .float)) (by decide) rfl ?_
  intro p e s m args below meth c s₁ B hml hv
  obtain ⟨rfl, hWK, hR⟩ := hv
  have hx := B.exec
  have hb := B.bytes
  have hr := B.returns
  have hts := atoms_spec (ws := ws_ yX4_use cX4_use 3 (some .float)) B.pre
  have hts : ∀ w ∈ lw_all, w.before _ s = true := fun w h => hts w (List.mem_cons_of_mem _ h)
  have hown : s.vm.findClass "LendlatheModel" = some m.cls := findClass_of_methodNamed B.named
  have hlocks := B.notSynchronized
  have hK := hWK.K g
  have F : CallFix p m c cX4_use 3 s _ lw_all "LendlatheModel" := ⟨hx, hb, hml, hown, hts⟩
  have hS : va_S A s.heap s.heap [] := va_S.rf
  have hl := lv_entry ([.ref (ad (0, 0)), .int machine, .int day]) (n := 3) (Nat.le_of_ble_eq_true rfl)
  rw [lg_entry_eq]
  generalize (lg_sl ([.ref (ad (0, 0)), .int machine, .int day]) ++ List.replicate (3 - (lg_sl ([.ref (ad (0, 0)), .int machine, .int day])).length) Slot.unset).toArray = ls at hl ⊢
  have hl : lv_has ls 3 [(0, .ref (ad (0, 0))), (1, .int machine), (2, .int day)] := hl
  have hn0 := hW.1
  have hn1 := hW.2.1
  have hn2 := hW.2.2.1
  have hn3 := hW.2.2.2.1
  have hn4 := hW.2.2.2.2.1
  refine lv_aload_n hx hb dX4_use_0 rfl (lv_at hl 0 rfl) ?_
  refine lv_iload_n hx hb dX4_use_1 rfl (lv_at hl 1 rfl) ?_
  refine lv_iload_n hx hb dX4_use_2 rfl (lv_at hl 2 rfl) ?_
  refine lv_iconst (v := 0) hx hb dX4_use_3 (by decide) ?_
  refine xc_C (va_runV (As := [.int machine, .int day, .int 0]) (rest := []) F (mX4_may g (A := A) (S := S) (ad := ad) (z := z) machine day 0) (cwV 3 hts (lw_V q1686 q1688 qs47 q80 q1689) rfl rfl rfl hdV_X4_may ⟨Nat.le_of_ble_eq_true rfl, Nat.le_of_ble_eq_true rfl⟩) (xpreV (xrecv hK (mw_0 hR) rfl) hWK hS hR) rfl rfl hl.1 rfl (lv_room (Nat.le_of_ble_eq_true rfl)) dX4_use_4 ⟨Nat.le_of_ble_eq_true rfl, Nat.le_of_ble_eq_true rfl⟩) hS (fun H locs hR1 hz hk hS => ?_)
  have hR : xRM G A (sF S 26 0 0 (mMay S machine day 0)) ad z H := hR1
  refine x_topb (show (mMayS S machine day 0).1 = decide (mMay S machine day 0 = 0) from rfl) ?_
  refine x_ifeq (tgt := 23) hx hb dX4_use_7 (by decide) (fun c_7 => ?_) (fun c_7 => ?_)
  · have c_7 := of_decide_eq_false c_7
    refine lv_fconst0 hx hb dX4_use_23 ?_
    have e9 : mUse S machine day = (0, (sF S 26 0 0 (mMay S machine day 0))) := by simp [mUse, thr, c_7]
    exact xr_Cf hx hb hr hlocks ((congrArg Prod.fst e9).symm) (by show xRM G A (mUse S machine day).2 ad z H; rw [show (mUse S machine day).2 = (sF S 26 0 0 (mMay S machine day 0)) from congrArg Prod.snd e9]; exact hR) hS (by first | omega | decide) (by first | omega | decide) dX4_use_24
  · have c_7 := of_decide_eq_true c_7
    obtain ⟨mj, hmj, rfl⟩ := inI_of' (n := S.1 0 0) (by first | rfl | decide) (by first | decide | omega) (mMay_in c_7)
    refine lv_aload_n hx hb dX4_use_10 rfl (lv_at hl 0 rfl) ?_
    refine lv_iload_n hx hb dX4_use_11 rfl (lv_at hl 1 rfl) ?_
    refine lv_iload_n hx hb dX4_use_12 rfl (lv_at hl 2 rfl) ?_
    refine xc_P (va_runV (As := [.int (nI mj), .int day]) (rest := []) F (mX4_used g (A := A) (S := (sF S 26 0 0 (mMay S (nI mj) day 0))) (ad := ad) (z := z) (nI mj) day hW) (cwV 2 hts (lw_V q1702 q1704 qs50 q80 q1705) rfl rfl rfl hdV_X4_used ⟨Nat.le_of_ble_eq_true rfl, Nat.le_of_ble_eq_true rfl⟩) (xpreV (xrecv hK (mw_0 hR) rfl) hWK hS hR) rfl rfl hl.1 rfl (lv_room (Nat.le_of_ble_eq_true rfl)) dX4_use_13 ⟨Nat.le_of_ble_eq_true rfl, Nat.le_of_ble_eq_true rfl⟩) ?_
    refine x_topi (show mUsed (sF S 26 0 0 (mMay S (nI mj) day 0)).2.1 ((sF S 26 0 0 (mMay S (nI mj) day 0)).1 2 0) (nI mj) day = mUsed S.2.1 (S.1 2 0) (nI mj) day from rfl) ?_
    refine lv_i2f hx hb dX4_use_16 ?_
    refine lv_ldcf (v := 1139802112) hx hb hown (hts _ q1826) dX4_use_17 ?_
    refine lv_fdiv hx hb dX4_use_19 (use_nan _) ?_
    refine lv_goto (tgt := 24) hx hb dX4_use_20 (by decide) ?_
    have e9 : mUse S (nI mj) day = (FP.fdiv (FP.i2f (mUsed S.2.1 (S.1 2 0) (nI mj) day)) 1139802112, (sF S 26 0 0 (mMay S (nI mj) day 0))) := by simp [mUse, thr, c_7, nI_clamp (show mj < 2 ^ 31 by omega)]
    exact xr_Cf hx hb hr hlocks ((congrArg Prod.fst e9).symm) (by show xRM G A (mUse S (nI mj) day).2 ad z H; rw [show (mUse S (nI mj) day).2 = (sF S 26 0 0 (mMay S (nI mj) day 0)) from congrArg Prod.snd e9]; exact hR) hS (by first | omega | decide) (by first | omega | decide) dX4_use_24

set_option maxHeartbeats 4000000 in
theorem mX4_meanMinutes {l : Launch} {G : xG} {s0 : State} {b0 : Nat} (g : xG0 G s0 b0) {A : Nat → Prop} {S : xS} {ad : Nat × Nat → Nat} {z : xZ} (hW : mWF S) : Met l yX4_meanMinutes (ws_ yX4_meanMinutes cX4_meanMinutes 4 (some .double)) ({ frames := 0, cells := 0, slots := 0, locals := 0 } : Room) (xP s0 A [.ref (ad (0, 0))] (fun H => xRM G A S ad z H)) (xQc (some (.double ((mMean S).1))) (fun _ H => xRM G A (mMean S).2 ad z H) A) 0 0 A := by
  refine Met.ofW (cc := cX4_meanMinutes) (maxL := 4) (ret := (some .double)) (by decide) rfl ?_
  intro p e s m args below meth c s₁ B hml hv
  obtain ⟨rfl, hWK, hR⟩ := hv
  have hx := B.exec
  have hb := B.bytes
  have hr := B.returns
  have hts := atoms_spec (ws := ws_ yX4_meanMinutes cX4_meanMinutes 4 (some .double)) B.pre
  have hts : ∀ w ∈ lw_all, w.before _ s = true := fun w h => hts w (List.mem_cons_of_mem _ h)
  have hown : s.vm.findClass "LendlatheModel" = some m.cls := findClass_of_methodNamed B.named
  have hlocks := B.notSynchronized
  have hK := hWK.K g
  have F : CallFix p m c cX4_meanMinutes 4 s _ lw_all "LendlatheModel" := ⟨hx, hb, hml, hown, hts⟩
  have hS : va_S A s.heap s.heap [] := va_S.rf
  have hl := lv_entry ([.ref (ad (0, 0))]) (n := 4) (Nat.le_of_ble_eq_true rfl)
  rw [lg_entry_eq]
  generalize (lg_sl ([.ref (ad (0, 0))]) ++ List.replicate (4 - (lg_sl ([.ref (ad (0, 0))])).length) Slot.unset).toArray = ls at hl ⊢
  have hl : lv_has ls 4 [(0, .ref (ad (0, 0)))] := hl
  have hn0 := hW.1
  have hn1 := hW.2.1
  have hn2 := hW.2.2.1
  have hn3 := hW.2.2.2.1
  have hn4 := hW.2.2.2.2.1
  refine lv_iconst (v := 0) hx hb dX4_meanMinutes_0 (by decide) ?_
  refine lv_istore_n (lv' := [(1, .int 0), (0, .ref (ad (0, 0)))]) hx hb dX4_meanMinutes_1 rfl hl (by decide) rfl (fun ls hl => ?_)
  refine lv_iconst (v := 0) hx hb dX4_meanMinutes_2 (by decide) ?_
  refine lv_istore_n (lv' := [(2, .int 0), (1, .int 0), (0, .ref (ad (0, 0)))]) hx hb dX4_meanMinutes_3 rfl hl (by decide) rfl (fun ls hl => ?_)
  refine lv_iconst (v := 0) hx hb dX4_meanMinutes_4 (by decide) ?_
  refine lv_istore_n (lv' := [(3, .int 0), (2, .int 0), (1, .int 0), (0, .ref (ad (0, 0)))]) hx hb dX4_meanMinutes_5 rfl hl (by decide) rfl (fun ls hl => ?_)
  have L6 : ∀ (n : Nat) (k : Nat) (a : Int32) (b : Int32), S.1 2 0 - k < n → (k ≤ S.1 2 0) → (a = mDirtyMin S k) → (b = mDirtyCnt S k) → ∀ (ls : Array Slot), lv_has ls 4 [(3, .int (nI k)), (1, .int a), (2, .int b), (0, .ref (ad (0, 0)))] → W p l e (headSpec (ws_ yX4_meanMinutes cX4_meanMinutes 4 (some .double)) ({ frames := 0, cells := 0, slots := 0, locals := 0 } : Room)).room s m ([.ref (ad (0, 0))] : List Value).toArray below meth c s.heap [] 0 0 (MQ below (xQc (some (.double ((mMean S).1))) (fun _ H => xRM G A (mMean S).2 ad z H) A) ([.ref (ad (0, 0))] : List Value).toArray s 0 0 A) (F0 m 6 ls []) := by
    intro n6
    induction n6 with
    | zero =>
      intro k a b hn6
      exact absurd hn6 (Nat.not_lt_zero _)
    | succ n6 ih6 =>
      intro k a b hn6 hkn ea eb ls hl
      refine lv_iload_n hx hb dX4_meanMinutes_6 rfl (lv_at hl 0 rfl) ?_
      refine lv_aload_n hx hb dX4_meanMinutes_7 rfl (lv_at hl 3 rfl) ?_
      refine g_X4_101 F hK (mw_0 hR) (v := .int (nI (S.1 2 0))) rfl dX4_meanMinutes_8 ?_
      refine xn_ge (tgt := 63) k (S.1 2 0) rfl rfl (by omega) (by omega) hx hb dX4_meanMinutes_11 (by decide) (fun c_11 => ?_) (fun c_11 => ?_)
      · refine lv_aload_n hx hb dX4_meanMinutes_63 rfl (lv_at hl 3 rfl) ?_
        refine lv_iload_n hx hb dX4_meanMinutes_64 rfl (lv_at hl 2 rfl) ?_
        refine lv_if_ne (tgt := 72) hx hb dX4_meanMinutes_65 (by decide) (fun c_65 => ?_) (fun c_65 => ?_)
        · refine lv_iconst (v := 0) hx hb dX4_meanMinutes_72 (by decide) ?_
          refine p_X4_87 F hK hS (mw_0 hR) (ma_0 hR) (v := .int 0) rfl rfl (Nat.le_of_ble_eq_true rfl) dX4_meanMinutes_73 (fun H locs hat hof hS => ?_)
          have hR := ms_0_29 hR hof hat
          refine lv_aload_n hx hb dX4_meanMinutes_76 rfl (lv_at hl 3 rfl) ?_
          refine g_X4_87 F hK (mw_0 hR) (v := .int 0) (by simp [fset, nset, lset]) dX4_meanMinutes_77 ?_
          refine lv_if_le (tgt := 87) hx hb dX4_meanMinutes_80 (by decide) (fun c_80 => ?_) (fun c_80 => (by first | exact absurd c_80 (by decide) | exact absurd (by decide) c_80))
          refine lv_iload_n hx hb dX4_meanMinutes_87 rfl (lv_at hl 1 rfl) ?_
          refine lv_i2d hx hb dX4_meanMinutes_88 ?_
          refine lv_iload_n hx hb dX4_meanMinutes_89 rfl (lv_at hl 2 rfl) ?_
          refine lv_i2d hx hb dX4_meanMinutes_90 ?_
          refine lv_ddiv hx hb dX4_meanMinutes_91 (mean_nan _ hn2 (by have hk9 : k = S.1 2 0 := (by omega); subst hk9; rw [eb]; exact mDirtyCnt_le _ _) c_65) ?_
          have hk9 : k = S.1 2 0 := (by omega)
          subst hk9
          have e9 : mMean S = (FP.ddiv (FP.i2d a) (FP.i2d b), (sF S 26 0 0 0)) := by simp [mMean, thr, c_11, c_65, ← ea, ← eb]
          exact xr_Cd hx hb hr hlocks ((congrArg Prod.fst e9).symm) (by show xRM G A (mMean S).2 ad z H; rw [show (mMean S).2 = (sF S 26 0 0 0) from congrArg Prod.snd e9]; exact hR) hS (by first | omega | decide) (by first | omega | decide) dX4_meanMinutes_92
        · refine lv_iconst (v := 1) hx hb dX4_meanMinutes_68 (by decide) ?_
          refine lv_goto (tgt := 73) hx hb dX4_meanMinutes_69 (by decide) ?_
          refine p_X4_87 F hK hS (mw_0 hR) (ma_0 hR) (v := .int 1) rfl rfl (Nat.le_of_ble_eq_true rfl) dX4_meanMinutes_73 (fun H locs hat hof hS => ?_)
          have hR := ms_0_29 hR hof hat
          refine lv_aload_n hx hb dX4_meanMinutes_76 rfl (lv_at hl 3 rfl) ?_
          refine g_X4_87 F hK (mw_0 hR) (v := .int 1) (by simp [fset, nset, lset]) dX4_meanMinutes_77 ?_
          refine lv_if_le (tgt := 87) hx hb dX4_meanMinutes_80 (by decide) (fun c_80 => (by first | exact absurd c_80 (by decide) | exact absurd (by decide) c_80)) (fun c_80 => ?_)
          refine lv_dconst0 hx hb dX4_meanMinutes_83 ?_
          refine lv_goto (tgt := 92) hx hb dX4_meanMinutes_84 (by decide) ?_
          have hk9 : k = S.1 2 0 := (by omega)
          subst hk9
          have e9 : mMean S = (0, (sF S 26 0 0 1)) := by simp [mMean, thr, c_11, c_65, ← ea, ← eb]
          exact xr_Cd hx hb hr hlocks ((congrArg Prod.fst e9).symm) (by show xRM G A (mMean S).2 ad z H; rw [show (mMean S).2 = (sF S 26 0 0 1) from congrArg Prod.snd e9]; exact hR) hS (by first | omega | decide) (by first | omega | decide) dX4_meanMinutes_92
      · refine lv_iload_n hx hb dX4_meanMinutes_14 rfl (lv_at hl 1 rfl) ?_
        refine lv_aload_n hx hb dX4_meanMinutes_15 rfl (lv_at hl 3 rfl) ?_
        refine g_X4_49 F hK (mw_0 hR) (v := .ref (ad (14, 0))) rfl dX4_meanMinutes_16 ?_
        refine lv_iload_n hx hb dX4_meanMinutes_19 rfl (lv_at hl 0 rfl) ?_
        refine x_cald hx hb hK (mw_14 hR) (v := .int (S.2.1 16 k 0)) (xi_nI (n := 150) (by omega) (by omega)) (rfl) dX4_meanMinutes_20 ?_
        refine lv_bipush (v := 100) hx hb dX4_meanMinutes_21 (by decide) ?_
        refine lv_icmp_ne (tgt := 35) hx hb dX4_meanMinutes_23 (by decide) (fun c_23 => ?_) (fun c_23 => ?_)
        · refine lv_iconst (v := 0) hx hb dX4_meanMinutes_35 (by decide) ?_
          refine lv_iadd hx hb dX4_meanMinutes_36 ?_
          refine lv_istore_n (lv' := [(1, .int (a + 0)), (3, .int (nI k)), (2, .int b), (0, .ref (ad (0, 0)))]) hx hb dX4_meanMinutes_37 rfl hl (by decide) rfl (fun ls hl => ?_)
          refine lv_iload_n hx hb dX4_meanMinutes_38 rfl (lv_at hl 2 rfl) ?_
          refine lv_aload_n hx hb dX4_meanMinutes_39 rfl (lv_at hl 3 rfl) ?_
          refine g_X4_49 F hK (mw_0 hR) (v := .ref (ad (14, 0))) rfl dX4_meanMinutes_40 ?_
          refine lv_iload_n hx hb dX4_meanMinutes_43 rfl (lv_at hl 1 rfl) ?_
          refine x_cald hx hb hK (mw_14 hR) (v := .int (S.2.1 16 k 0)) (xi_nI (n := 150) (by omega) (by omega)) (rfl) dX4_meanMinutes_44 ?_
          refine lv_bipush (v := 100) hx hb dX4_meanMinutes_45 (by decide) ?_
          refine lv_icmp_ne (tgt := 54) hx hb dX4_meanMinutes_47 (by decide) (fun c_47 => ?_) (fun c_47 => ?_)
          · refine lv_iconst (v := 0) hx hb dX4_meanMinutes_54 (by decide) ?_
            refine lv_iadd hx hb dX4_meanMinutes_55 ?_
            refine lv_istore_n (lv' := [(2, .int (b + 0)), (1, .int (a + 0)), (3, .int (nI k)), (0, .ref (ad (0, 0)))]) hx hb dX4_meanMinutes_56 rfl hl (by decide) rfl (fun ls hl => ?_)
            refine lv_iinc (v := nI (k + 1)) (lv' := [(3, .int (nI (k + 1))), (2, .int (b + 0)), (1, .int (a + 0)), (0, .ref (ad (0, 0)))]) hx hb dX4_meanMinutes_57 hl (k := 2) rfl (nI_1 _) (by decide) rfl (fun ls hl => ?_)
            refine lv_goto (tgt := 6) hx hb dX4_meanMinutes_60 (by decide) ?_
            exact ih6 (k + 1) (a + 0) (b + 0) (by omega) (by omega) (by rw [ea]; simp [mDirtyMin, sumI, c_23, c_47]) (by rw [eb]; simp [mDirtyCnt, sumI, c_23, c_47]) ls (lv_sub hl [0, 2, 1, 3] rfl)
          · exact absurd c_47 c_23
        · refine lv_aload_n hx hb dX4_meanMinutes_26 rfl (lv_at hl 3 rfl) ?_
          refine g_X4_42 F hK (mw_0 hR) (v := .ref (ad (12, 0))) rfl dX4_meanMinutes_27 ?_
          refine lv_iload_n hx hb dX4_meanMinutes_30 rfl (lv_at hl 0 rfl) ?_
          refine x_iald hx hb hK (mw_12 hR) (v := .int (S.2.1 14 k 0)) (xi_nI (n := 150) (by omega) (by omega)) (rfl) dX4_meanMinutes_31 ?_
          refine lv_goto (tgt := 36) hx hb dX4_meanMinutes_32 (by decide) ?_
          refine lv_iadd hx hb dX4_meanMinutes_36 ?_
          refine lv_istore_n (lv' := [(1, .int (a + (S.2.1 14 k 0))), (3, .int (nI k)), (2, .int b), (0, .ref (ad (0, 0)))]) hx hb dX4_meanMinutes_37 rfl hl (by decide) rfl (fun ls hl => ?_)
          refine lv_iload_n hx hb dX4_meanMinutes_38 rfl (lv_at hl 2 rfl) ?_
          refine lv_aload_n hx hb dX4_meanMinutes_39 rfl (lv_at hl 3 rfl) ?_
          refine g_X4_49 F hK (mw_0 hR) (v := .ref (ad (14, 0))) rfl dX4_meanMinutes_40 ?_
          refine lv_iload_n hx hb dX4_meanMinutes_43 rfl (lv_at hl 1 rfl) ?_
          refine x_cald hx hb hK (mw_14 hR) (v := .int (S.2.1 16 k 0)) (xi_nI (n := 150) (by omega) (by omega)) (rfl) dX4_meanMinutes_44 ?_
          refine lv_bipush (v := 100) hx hb dX4_meanMinutes_45 (by decide) ?_
          refine lv_icmp_ne (tgt := 54) hx hb dX4_meanMinutes_47 (by decide) (fun c_47 => ?_) (fun c_47 => ?_)
          · exact absurd c_23 c_47
          · refine lv_iconst (v := 1) hx hb dX4_meanMinutes_50 (by decide) ?_
            refine lv_goto (tgt := 55) hx hb dX4_meanMinutes_51 (by decide) ?_
            refine lv_iadd hx hb dX4_meanMinutes_55 ?_
            refine lv_istore_n (lv' := [(2, .int (b + 1)), (1, .int (a + (S.2.1 14 k 0))), (3, .int (nI k)), (0, .ref (ad (0, 0)))]) hx hb dX4_meanMinutes_56 rfl hl (by decide) rfl (fun ls hl => ?_)
            refine lv_iinc (v := nI (k + 1)) (lv' := [(3, .int (nI (k + 1))), (2, .int (b + 1)), (1, .int (a + (S.2.1 14 k 0))), (0, .ref (ad (0, 0)))]) hx hb dX4_meanMinutes_57 hl (k := 2) rfl (nI_1 _) (by decide) rfl (fun ls hl => ?_)
            refine lv_goto (tgt := 6) hx hb dX4_meanMinutes_60 (by decide) ?_
            exact ih6 (k + 1) (a + (S.2.1 14 k 0)) (b + 1) (by omega) (by omega) (by rw [ea]; simp [mDirtyMin, sumI, c_23, c_47]) (by rw [eb]; simp [mDirtyCnt, sumI, c_23, c_47]) ls (lv_sub hl [0, 2, 1, 3] rfl)
  exact L6 (S.1 2 0 + 1) 0 0 0 (by omega) (by omega) rfl rfl ls (lv_sub hl [0, 2, 1, 3] rfl)

