/-! contracts (printed by gen/mcon6.py) -/
set_option maxRecDepth 100000
set_option maxHeartbeats 4000000 in
theorem mX4_endDay {l : Launch} {G : xG} {s0 : State} {b0 : Nat} (g : xG0 G s0 b0) {A : Nat → Prop} {S : xS} {ad : Nat × Nat → Nat} {z : xZ} (hW : mWF S) (hA : ∃ rk, rkOK S.2.1 rk ∧ ∀ i, rk i < 4) : Met l yX4_endDay (ws_ yX4_endDay cX4_endDay 4 (some .int)) ({ frames := 8, cells := 150, slots := 900, locals := 216 } : Room) (xP s0 A [.ref (ad (0, 0))] (fun H => xRM G A S ad z H)) (xQc (some (.int ((mEndDay S).1))) (fun _ H => xRM G A (mEndDay S).2 ad z H) A) 150 900 A := by
  refine Met.ofW (cc := cX4_endDay) (maxL := 4) (ret := (some .int)) (by decide) rfl ?_
  intro p e s m args below meth c s₁ B hml hv
  obtain ⟨rfl, hWK, hR⟩ := hv
  have hx := B.exec
  have hb := B.bytes
  have hr := B.returns
  have hts := atoms_spec (ws := ws_ yX4_endDay cX4_endDay 4 (some .int)) B.pre
  have hts : ∀ w ∈ lw_all, w.before _ s = true := fun w h => hts w (List.mem_cons_of_mem _ h)
  have hown : s.vm.findClass "LendlatheModel" = some m.cls := findClass_of_methodNamed B.named
  have hlocks := B.notSynchronized
  have hK := hWK.K g
  have F : CallFix p m c cX4_endDay 4 s _ lw_all "LendlatheModel" := ⟨hx, hb, hml, hown, hts⟩
  have hS : va_S A s.heap s.heap [] := va_S.rf
  have hl := lv_entry ([.ref (ad (0, 0))]) (n := 4) (Nat.le_of_ble_eq_true rfl)
  rw [lg_entry_eq]
  generalize (lg_sl ([.ref (ad (0, 0))]) ++ List.replicate (4 - (lg_sl ([.ref (ad (0, 0))])).length) Slot.unset).toArray = ls at hl ⊢
  have hl : lv_has ls 4 [(0, .ref (ad (0, 0)))] := hl
  have hn0 := hW.1
  have hn1 := hW.2.1
  have hn2 := hW.2.2.1
  have hn3 := hW.2.2.2.1
  have hn4 := hW.2.2.2.2.1
  refine lv_aload_n hx hb dX4_endDay_0 rfl (lv_at hl 0 rfl) ?_
  refine lv_aload_n hx hb dX4_endDay_1 rfl (lv_at hl 0 rfl) ?_
  refine g_X4_112 F hK (mw_0 hR) (v := .int (S.2.1 7 0 0)) rfl dX4_endDay_2 ?_
  refine lv_sipush (v := 900) hx hb dX4_endDay_5 (by decide) ?_
  refine lv_icmp_ne (tgt := 15) hx hb dX4_endDay_8 (by decide) (fun c_8 => ?_) (fun c_8 => ?_)
  · refine lv_iconst (v := 0) hx hb dX4_endDay_15 (by decide) ?_
    refine p_X4_87 F hK hS (mw_0 hR) (ma_0 hR) (v := .int 0) rfl rfl (Nat.le_of_ble_eq_true rfl) dX4_endDay_16 (fun H locs hat hof hS => ?_)
    have hR := ms_0_29 hR hof hat
    refine lv_aload_n hx hb dX4_endDay_19 rfl (lv_at hl 0 rfl) ?_
    refine g_X4_87 F hK (mw_0 hR) (v := .int 0) (by simp [fset, nset, lset]) dX4_endDay_20 ?_
    refine lv_if_le (tgt := 28) hx hb dX4_endDay_23 (by decide) (fun c_23 => ?_) (fun c_23 => (by first | exact absurd c_23 (by decide) | exact absurd (by decide) c_23))
    refine lv_iconst (v := 0) hx hb dX4_endDay_28 (by decide) ?_
    refine lv_istore_n (lv' := [(1, .int 0), (0, .ref (ad (0, 0)))]) hx hb dX4_endDay_29 rfl hl (by decide) rfl (fun ls hl => ?_)
    refine lv_iconst (v := 0) hx hb dX4_endDay_30 (by decide) ?_
    refine lv_istore_n (lv' := [(2, .int 0), (1, .int 0), (0, .ref (ad (0, 0)))]) hx hb dX4_endDay_31 rfl hl (by decide) rfl (fun ls hl => ?_)
    have L32 : ∀ (n : Nat) (k : Nat) (acc : Int32) (S1 : xS), S.1 2 0 - k < n → (k ≤ S.1 2 0) → (S1.1 = S.1) → (mWF S1) → (∃ rk, rkOK S1.2.1 rk ∧ ∀ i, rk i < 4) → (S1.2.1 7 0 0 = S.2.1 7 0 0) → (acc = mDayMany S k) → (S1 = mDay (thr S 0) k) → ∀ (H : Heap) (locs : List Loc), xRM G A S1 ad z H → va_S A s.heap H locs → ∀ (ls : Array Slot), lv_has ls 4 [(2, .int (nI k)), (1, .int acc), (0, .ref (ad (0, 0)))] → W p l e (headSpec (ws_ yX4_endDay cX4_endDay 4 (some .int)) ({ frames := 8, cells := 150, slots := 900, locals := 216 } : Room)).room s m ([.ref (ad (0, 0))] : List Value).toArray below meth c H locs k (6 * k) (MQ below (xQc (some (.int ((mEndDay S).1))) (fun _ H => xRM G A (mEndDay S).2 ad z H) A) ([.ref (ad (0, 0))] : List Value).toArray s 150 900 A) (F0 m 32 ls []) := by
      intro n32
      induction n32 with
      | zero =>
        intro k acc S1 hn32
        exact absurd hn32 (Nat.not_lt_zero _)
      | succ n32 ih32 =>
        intro k acc S1 hn32 hkn hN hWs hA1 h7 ea eS H locs hR hS ls hl
        have hN2 : S1.1 2 0 = S.1 2 0 := (by rw [hN])
        have h6k := hWs.2.2.2.2.2.2.1 k
        have eT : S1 = mDay (sF S 26 0 0 0) k := eS
        refine lv_iload_n hx hb dX4_endDay_32 rfl (lv_at hl 0 rfl) ?_
        refine lv_aload_n hx hb dX4_endDay_33 rfl (lv_at hl 2 rfl) ?_
        refine g_X4_101 F hK (mw_0 hR) (v := .int (nI (S1.1 2 0))) rfl dX4_endDay_34 ?_
        refine xn_ge (tgt := 203) k (S1.1 2 0) rfl rfl (by omega) (by omega) hx hb dX4_endDay_37 (by decide) (fun c_37 => ?_) (fun c_37 => ?_)
        · refine lv_aload_n hx hb dX4_endDay_203 rfl (lv_at hl 2 rfl) ?_
          refine lv_dup hx hb dX4_endDay_204 rfl ?_
          refine g_X4_112 F hK (mw_0 hR) (v := .int (S1.2.1 7 0 0)) rfl dX4_endDay_205 ?_
          refine lv_iconst (v := 1) hx hb dX4_endDay_208 (by decide) ?_
          refine lv_iadd hx hb dX4_endDay_209 ?_
          refine p_X4_112 F hK hS (mw_0 hR) (ma_0 hR) (v := .int ((S1.2.1 7 0 0) + 1)) rfl rfl (Nat.le_of_ble_eq_true rfl) dX4_endDay_210 (fun H locs hat hof hS => ?_)
          have hR := ms_0_7 hR hof hat
          refine lv_aload_n hx hb dX4_endDay_213 rfl (lv_at hl 2 rfl) ?_
          refine xc_C0 (va_runV (As := []) (rest := []) F (mX4_gives g (A := A) (S := (sF S1 7 0 0 ((S1.2.1 7 0 0) + 1))) (ad := ad) (z := z) hWs hA1) (cwV 0 hts (lw_V q1589 q1591 qs34 q80 q1592) rfl rfl rfl hdV_X4_gives ⟨Nat.le_of_ble_eq_true rfl, Nat.le_of_ble_eq_true rfl⟩) (xpreV (xrecv hK (mw_0 hR) rfl) hWK hS hR) rfl rfl hl.1 rfl (lv_room (Nat.le_of_ble_eq_true rfl)) dX4_endDay_214 ⟨by simp only [headSpec]; omega, by simp only [headSpec]; omega⟩) hS (fun H locs hR1 hz hk hS => ?_)
          have hR := hR1
          refine lv_iload_n hx hb dX4_endDay_217 rfl (lv_at hl 1 rfl) ?_
          have hk9 : k = S.1 2 0 := (by omega)
          subst hk9
          have e9 : mEndDay S = (acc, (mGives (sF S1 7 0 0 ((S1.2.1 7 0 0) + 1)))) := by simp [mEndDay, thr, c_8, c_37, ← ea, ← eT, h7]
          exact xr_Ci hx hb hr hlocks ((congrArg Prod.fst e9).symm) (by show xRM G A (mEndDay S).2 ad z H; rw [show (mEndDay S).2 = (mGives (sF S1 7 0 0 ((S1.2.1 7 0 0) + 1))) from congrArg Prod.snd e9]; exact hR) hS (by first | omega | decide) (by first | omega | decide) dX4_endDay_218
        · refine lv_aload_n hx hb dX4_endDay_40 rfl (lv_at hl 2 rfl) ?_
          refine g_X4_36 F hK (mw_0 hR) (v := .ref (ad (10, 0))) rfl dX4_endDay_41 ?_
          refine lv_iload_n hx hb dX4_endDay_44 rfl (lv_at hl 0 rfl) ?_
          refine x_iald hx hb hK (mw_10 hR) (v := .int (S1.2.1 12 k 0)) (xi_nI (n := 150) (by omega) (by omega)) (rfl) dX4_endDay_45 ?_
          refine lv_aload_n hx hb dX4_endDay_46 rfl (lv_at hl 2 rfl) ?_
          refine g_X4_112 F hK (mw_0 hR) (v := .int (S1.2.1 7 0 0)) rfl dX4_endDay_47 ?_
          refine lv_icmp_ne (tgt := 165) hx hb dX4_endDay_50 (by decide) (fun c_50 => ?_) (fun c_50 => ?_)
          · refine lv_aload_n hx hb dX4_endDay_165 rfl (lv_at hl 2 rfl) ?_
            refine g_X4_36 F hK (mw_0 hR) (v := .ref (ad (10, 0))) rfl dX4_endDay_166 ?_
            refine lv_iload_n hx hb dX4_endDay_169 rfl (lv_at hl 0 rfl) ?_
            refine x_iald hx hb hK (mw_10 hR) (v := .int (S1.2.1 12 k 0)) (xi_nI (n := 150) (by omega) (by omega)) (rfl) dX4_endDay_170 ?_
            refine lv_aload_n hx hb dX4_endDay_171 rfl (lv_at hl 2 rfl) ?_
            refine g_X4_112 F hK (mw_0 hR) (v := .int (S1.2.1 7 0 0)) rfl dX4_endDay_172 ?_
            refine lv_icmp_ne (tgt := 197) hx hb dX4_endDay_175 (by decide) (fun c_175 => ?_) (fun c_175 => ?_)
            · refine lv_iinc (v := nI (k + 1)) (lv' := [(2, .int (nI (k + 1))), (1, .int acc), (0, .ref (ad (0, 0)))]) hx hb dX4_endDay_197 hl (k := 0) rfl (nI_1 _) (by decide) rfl (fun ls hl => ?_)
              refine lv_goto (tgt := 32) hx hb dX4_endDay_200 (by decide) ?_
              refine W.widen (k := k + 1) (n := 6 * (k + 1)) (by omega) (by omega) ?_
              exact ih32 (k + 1) acc S1 (by omega) (by omega) hN hWs hA1 h7 (by rw [ea]; simp [mDayMany, sumI, ← eS, c_8, c_50, c_175]) (by rw [mDay, ← eS]; simp [mDayStep, c_8, c_50, c_175]) _ _ hR hS ls (lv_sub hl [0, 1, 2] rfl)
            · exact absurd c_175 c_50
          · refine lv_aload_n hx hb dX4_endDay_53 rfl (lv_at hl 2 rfl) ?_
            refine g_X4_49 F hK (mw_0 hR) (v := .ref (ad (14, 0))) rfl dX4_endDay_54 ?_
            refine lv_iload_n hx hb dX4_endDay_57 rfl (lv_at hl 0 rfl) ?_
            refine x_cald hx hb hK (mw_14 hR) (v := .int (S1.2.1 16 k 0)) (xi_nI (n := 150) (by omega) (by omega)) (rfl) dX4_endDay_58 ?_
            refine lv_bipush (v := 98) hx hb dX4_endDay_59 (by decide) ?_
            refine lv_icmp_ne (tgt := 165) hx hb dX4_endDay_61 (by decide) (fun c_61 => ?_) (fun c_61 => ?_)
            · refine lv_aload_n hx hb dX4_endDay_165 rfl (lv_at hl 2 rfl) ?_
              refine g_X4_36 F hK (mw_0 hR) (v := .ref (ad (10, 0))) rfl dX4_endDay_166 ?_
              refine lv_iload_n hx hb dX4_endDay_169 rfl (lv_at hl 0 rfl) ?_
              refine x_iald hx hb hK (mw_10 hR) (v := .int (S1.2.1 12 k 0)) (xi_nI (n := 150) (by omega) (by omega)) (rfl) dX4_endDay_170 ?_
              refine lv_aload_n hx hb dX4_endDay_171 rfl (lv_at hl 2 rfl) ?_
              refine g_X4_112 F hK (mw_0 hR) (v := .int (S1.2.1 7 0 0)) rfl dX4_endDay_172 ?_
              refine lv_icmp_ne (tgt := 197) hx hb dX4_endDay_175 (by decide) (fun c_175 => ?_) (fun c_175 => ?_)
              · exact absurd c_50 c_175
              · refine lv_aload_n hx hb dX4_endDay_178 rfl (lv_at hl 2 rfl) ?_
                refine g_X4_49 F hK (mw_0 hR) (v := .ref (ad (14, 0))) rfl dX4_endDay_179 ?_
                refine lv_iload_n hx hb dX4_endDay_182 rfl (lv_at hl 0 rfl) ?_
                refine x_cald hx hb hK (mw_14 hR) (v := .int (S1.2.1 16 k 0)) (xi_nI (n := 150) (by omega) (by omega)) (rfl) dX4_endDay_183 ?_
                refine lv_bipush (v := 119) hx hb dX4_endDay_184 (by decide) ?_
                refine lv_icmp_ne (tgt := 197) hx hb dX4_endDay_186 (by decide) (fun c_186 => ?_) (fun c_186 => ?_)
                · refine lv_iinc (v := nI (k + 1)) (lv' := [(2, .int (nI (k + 1))), (1, .int acc), (0, .ref (ad (0, 0)))]) hx hb dX4_endDay_197 hl (k := 0) rfl (nI_1 _) (by decide) rfl (fun ls hl => ?_)
                  refine lv_goto (tgt := 32) hx hb dX4_endDay_200 (by decide) ?_
                  refine W.widen (k := k + 1) (n := 6 * (k + 1)) (by omega) (by omega) ?_
                  exact ih32 (k + 1) acc S1 (by omega) (by omega) hN hWs hA1 h7 (by rw [ea]; simp [mDayMany, sumI, ← eS, c_8, c_50, c_61, c_175, c_186]) (by rw [mDay, ← eS]; simp [mDayStep, c_8, c_50, c_61, c_175, c_186]) _ _ hR hS ls (lv_sub hl [0, 1, 2] rfl)
                · refine lv_aload_n hx hb dX4_endDay_189 rfl (lv_at hl 2 rfl) ?_
                  refine g_X4_49 F hK (mw_0 hR) (v := .ref (ad (14, 0))) rfl dX4_endDay_190 ?_
                  refine lv_iload_n hx hb dX4_endDay_193 rfl (lv_at hl 0 rfl) ?_
                  refine lv_bipush (v := 120) hx hb dX4_endDay_194 (by decide) ?_
                  refine x_cast hx hb hK hS (mw_14 hR) (ma_14 hR) (xi_nI (n := 150) (by omega) (by omega)) rfl dX4_endDay_196 (fun H locs hat hof hS => ?_)
                  have hR := ms_14_a hR hof hat
                  refine lv_iinc (v := nI (k + 1)) (lv' := [(2, .int (nI (k + 1))), (1, .int acc), (0, .ref (ad (0, 0)))]) hx hb dX4_endDay_197 hl (k := 0) rfl (nI_1 _) (by decide) rfl (fun ls hl => ?_)
                  refine lv_goto (tgt := 32) hx hb dX4_endDay_200 (by decide) ?_
                  refine W.widen (k := k + 1) (n := 6 * (k + 1)) (by omega) (by omega) ?_
                  exact ih32 (k + 1) acc (sF S1 16 k 0 120) (by omega) (by omega) hN (mWF_st hWs k rfl) hA1 h7 (by rw [ea]; simp [mDayMany, sumI, ← eS, c_8, c_50, c_61, c_175, c_186]) (by rw [mDay, ← eS]; simp [mDayStep, c_8, c_50, c_61, c_175, c_186]) _ _ hR hS ls (lv_sub hl [0, 1, 2] rfl)
            · refine lv_aload_n hx hb dX4_endDay_64 rfl (lv_at hl 2 rfl) ?_
              refine g_X4_49 F hK (mw_0 hR) (v := .ref (ad (14, 0))) rfl dX4_endDay_65 ?_
              refine lv_iload_n hx hb dX4_endDay_68 rfl (lv_at hl 0 rfl) ?_
              refine lv_bipush (v := 100) hx hb dX4_endDay_69 (by decide) ?_
              refine x_cast hx hb hK hS (mw_14 hR) (ma_14 hR) (xi_nI (n := 150) (by omega) (by omega)) rfl dX4_endDay_71 (fun H locs hat hof hS => ?_)
              have hR := ms_14_a hR hof hat
              refine lv_aload_n hx hb dX4_endDay_72 rfl (lv_at hl 2 rfl) ?_
              refine g_X4_52 F hK (mw_0 hR) (v := .ref (ad (15, 0))) rfl dX4_endDay_73 ?_
              refine lv_iload_n hx hb dX4_endDay_76 rfl (lv_at hl 0 rfl) ?_
              refine lv_aload_n hx hb dX4_endDay_77 rfl (lv_at hl 2 rfl) ?_
              refine lv_aload_n hx hb dX4_endDay_78 rfl (lv_at hl 2 rfl) ?_
              refine g_X4_9 F hK (mw_0 hR) (v := .ref (ad (1, 0))) rfl dX4_endDay_79 ?_
              refine lv_aload_n hx hb dX4_endDay_82 rfl (lv_at hl 2 rfl) ?_
              refine g_X4_33 F hK (mw_0 hR) (v := .ref (ad (9, 0))) rfl dX4_endDay_83 ?_
              refine lv_iload_n hx hb dX4_endDay_86 rfl (lv_at hl 0 rfl) ?_
              refine x_iald hx hb hK (mw_9 hR) (v := .int (S1.2.1 11 k 0)) (xi_nI (n := 150) (by omega) (by omega)) (rfl) dX4_endDay_87 ?_
              refine x_iald hx hb hK (mw_1 hR) (v := .int (S1.2.1 0 ((S1.2.1 11 k 0).toNatClampNeg) 0)) (xi.up (xi_of (hWs.2.2.2.2.2.2.2.2.2.1 k)) (by omega)) (rfl) dX4_endDay_88 ?_
              refine lv_aload_n hx hb dX4_endDay_89 rfl (lv_at hl 2 rfl) ?_
              refine g_X4_42 F hK (mw_0 hR) (v := .ref (ad (12, 0))) rfl dX4_endDay_90 ?_
              refine lv_iload_n hx hb dX4_endDay_93 rfl (lv_at hl 0 rfl) ?_
              refine x_iald hx hb hK (mw_12 hR) (v := .int (S1.2.1 14 k 0)) (xi_nI (n := 150) (by omega) (by omega)) (rfl) dX4_endDay_94 ?_
              refine xc_C (va_runV (As := [.int (S1.2.1 0 ((S1.2.1 11 k 0).toNatClampNeg) 0), .int (S1.2.1 14 k 0)]) (rest := [.int (nI k), .ref (ad (15, 0))]) F (mX4_cost g (A := A) (S := (sF S1 16 k 0 100)) (ad := ad) (z := z) (S1.2.1 14 k 0) (xi.up (xi_of (hWs.2.2.2.2.2.2.2.1 ((S1.2.1 11 k 0).toNatClampNeg))) (by omega)) (mWF_st hWs k (by first | rfl | assumption))) (cwV 2 hts (lw_V q1664 q1666 qs46 q80 q1667) rfl rfl rfl hdV_X4_cost ⟨Nat.le_of_ble_eq_true rfl, Nat.le_of_ble_eq_true rfl⟩) (xpreV (xrecv hK (mw_0 hR) rfl) hWK hS hR) rfl rfl hl.1 rfl (lv_room (Nat.le_of_ble_eq_true rfl)) dX4_endDay_95 ⟨by simp only [headSpec]; omega, by simp only [headSpec]; omega⟩) hS (fun H locs hR1 hz hk hS => ?_)
              have hR := hR1
              refine x_topi (show mCost (sF S1 16 k 0 100) ((S1.2.1 0 ((S1.2.1 11 k 0).toNatClampNeg) 0).toNatClampNeg) (S1.2.1 14 k 0) = mCost S1 ((S1.2.1 0 ((S1.2.1 11 k 0).toNatClampNeg) 0).toNatClampNeg) (S1.2.1 14 k 0) from mCost_c (fun _ => rfl) (fun _ => rfl) rfl) ?_
              refine x_iast hx hb hK hS (mw_15 hR) (ma_15 hR) (xi_nI (n := 150) (by omega) (by omega)) dX4_endDay_98 (fun H locs hat hof hS => ?_)
              have hR := ms_15_a hR hof hat
              refine lv_iconst (v := 0) hx hb dX4_endDay_99 (by decide) ?_
              refine lv_istore_n (lv' := [(3, .int 0), (2, .int (nI k)), (1, .int acc), (0, .ref (ad (0, 0)))]) hx hb dX4_endDay_100 rfl hl (by decide) rfl (fun ls hl => ?_)
              have L101 : ∀ (n : Nat) (j : Nat) (dv : Int32), S1.1 6 k - j < n → (j ≤ S1.1 6 k) → (dv = mCostE S1 k + mExtra S1 k j) → ∀ (H : Heap) (locs : List Loc), xRM G A (sF (sF S1 16 k 0 100) 17 k 0 dv) ad z H → va_S A s.heap H locs → ∀ (ls : Array Slot), lv_has ls 4 [(3, .int (nI j)), (2, .int (nI k)), (1, .int acc), (0, .ref (ad (0, 0)))] → W p l e (headSpec (ws_ yX4_endDay cX4_endDay 4 (some .int)) ({ frames := 8, cells := 150, slots := 900, locals := 216 } : Room)).room s m ([.ref (ad (0, 0))] : List Value).toArray below meth c H locs (k + 1) (6 * k + 6) (MQ below (xQc (some (.int ((mEndDay S).1))) (fun _ H => xRM G A (mEndDay S).2 ad z H) A) ([.ref (ad (0, 0))] : List Value).toArray s 150 900 A) (F0 m 101 ls []) := by
                intro n101
                induction n101 with
                | zero =>
                  intro j dv hn101
                  exact absurd hn101 (Nat.not_lt_zero _)
                | succ n101 ih101 =>
                  intro j dv hn101 hj ed H locs hR hS ls hl
                  refine lv_iload_n hx hb dX4_endDay_101 rfl (lv_at hl 0 rfl) ?_
                  refine lv_aload_n hx hb dX4_endDay_102 rfl (lv_at hl 3 rfl) ?_
                  refine g_X4_55 F hK (mw_0 hR) (v := .ref (ad (16, 0))) rfl dX4_endDay_103 ?_
                  refine lv_iload_n hx hb dX4_endDay_106 rfl (lv_at hl 1 rfl) ?_
                  refine x_iald hx hb hK (mw_16 hR) (v := .int (nI (S1.1 6 k))) (xi_nI (n := 150) (by omega) (by omega)) (rfl) dX4_endDay_107 ?_
                  refine xn_ge (tgt := 159) j (S1.1 6 k) rfl rfl (by omega) (by omega) hx hb dX4_endDay_108 (by decide) (fun c_108 => ?_) (fun c_108 => ?_)
                  · refine lv_iinc (v := acc + 1) (lv' := [(1, .int (acc + 1)), (3, .int (nI j)), (2, .int (nI k)), (0, .ref (ad (0, 0)))]) hx hb dX4_endDay_159 hl (k := 2) rfl (rfl) (by decide) rfl (fun ls hl => ?_)
                    refine lv_goto (tgt := 197) hx hb dX4_endDay_162 (by decide) ?_
                    refine lv_iinc (v := nI (k + 1)) (lv' := [(2, .int (nI (k + 1))), (1, .int (acc + 1)), (3, .int (nI j)), (0, .ref (ad (0, 0)))]) hx hb dX4_endDay_197 hl (k := 2) rfl (nI_1 _) (by decide) rfl (fun ls hl => ?_)
                    refine lv_goto (tgt := 32) hx hb dX4_endDay_200 (by decide) ?_
                    have hj9 : j = S1.1 6 k := (by omega)
                    subst hj9
                    refine W.widen (k := k + 1) (n := 6 * (k + 1)) (by omega) (by omega) ?_
                    exact ih32 (k + 1) (acc + 1) (sF (sF S1 16 k 0 100) 17 k 0 dv) (by omega) (by omega) hN (mWF_st hWs k rfl) hA1 h7 (by rw [ea]; simp [mDayMany, sumI, ← eS, c_8, c_50, c_61]) (by rw [mDay, ← eS]; simp [mDayStep, c_8, c_50, c_61, ed]) _ _ hR hS ls (lv_sub hl [0, 1, 3] rfl)
                  · refine lv_aload_n hx hb dX4_endDay_111 rfl (lv_at hl 3 rfl) ?_
                    refine g_X4_52 F hK (mw_0 hR) (v := .ref (ad (15, 0))) rfl dX4_endDay_112 ?_
                    refine lv_iload_n hx hb dX4_endDay_115 rfl (lv_at hl 1 rfl) ?_
                    refine lv_dup2_11 hx hb dX4_endDay_116 rfl rfl ?_
                    refine x_iald hx hb hK (mw_15 hR) (v := .int dv) (xi_nI (n := 150) (by omega) (by omega)) ((by simp [fset, nset, lset])) dX4_endDay_117 ?_
                    refine lv_aload_n hx hb dX4_endDay_118 rfl (lv_at hl 3 rfl) ?_
                    refine g_X4_61 F hK (mw_0 hR) (v := .ref (ad (19, 0))) rfl dX4_endDay_119 ?_
                    refine lv_iload_n hx hb dX4_endDay_122 rfl (lv_at hl 1 rfl) ?_
                    refine x_aald hx hb hK (mw_19 hR) rfl rfl (v := .ref (ad (20, k))) (xi_nI (n := 150) (by omega) (by omega)) (rfl) dX4_endDay_123 ?_
                    refine lv_iload_n hx hb dX4_endDay_124 rfl (lv_at hl 0 rfl) ?_
                    refine x_iald hx hb hK (mw_20 hR (by omega)) (v := .int (S1.2.1 19 k j)) (xi_nI (n := 5) (by omega) (by omega)) (rfl) dX4_endDay_125 ?_
                    refine lv_aload_n hx hb dX4_endDay_126 rfl (lv_at hl 3 rfl) ?_
                    refine g_X4_70 F hK (mw_0 hR) (v := .ref (ad (23, 0))) rfl dX4_endDay_127 ?_
                    refine lv_aload_n hx hb dX4_endDay_130 rfl (lv_at hl 3 rfl) ?_
                    refine g_X4_64 F hK (mw_0 hR) (v := .ref (ad (21, 0))) rfl dX4_endDay_131 ?_
                    refine lv_aload_n hx hb dX4_endDay_134 rfl (lv_at hl 3 rfl) ?_
                    refine g_X4_58 F hK (mw_0 hR) (v := .ref (ad (17, 0))) rfl dX4_endDay_135 ?_
                    refine lv_iload_n hx hb dX4_endDay_138 rfl (lv_at hl 1 rfl) ?_
                    refine x_aald hx hb hK (mw_17 hR) rfl rfl (v := .ref (ad (18, k))) (xi_nI (n := 150) (by omega) (by omega)) (rfl) dX4_endDay_139 ?_
                    refine lv_iload_n hx hb dX4_endDay_140 rfl (lv_at hl 0 rfl) ?_
                    refine x_iald hx hb hK (mw_18 hR (by omega)) (v := .int (S1.2.1 18 k j)) (xi_nI (n := 5) (by omega) (by omega)) (rfl) dX4_endDay_141 ?_
                    refine x_iald hx hb hK (mw_21 hR) (v := .int (S1.2.1 20 ((S1.2.1 18 k j).toNatClampNeg) 0)) (xi.up (xi_of (hWs.2.2.2.2.2.2.2.2.2.2.1 k j)) (by omega)) (rfl) dX4_endDay_142 ?_
                    refine x_iald hx hb hK (mw_23 hR) (v := .int (S1.2.1 6 ((S1.2.1 20 ((S1.2.1 18 k j).toNatClampNeg) 0).toNatClampNeg) 0)) (xi.up (xi_of (hWs.2.2.2.2.2.2.2.2.2.2.2.1 ((S1.2.1 18 k j).toNatClampNeg))) (by omega)) (rfl) dX4_endDay_143 ?_
                    refine lv_imul hx hb dX4_endDay_144 ?_
                    refine lv_bipush (v := 99) hx hb dX4_endDay_145 (by decide) ?_
                    refine lv_iadd hx hb dX4_endDay_147 ?_
                    refine lv_bipush (v := 100) hx hb dX4_endDay_148 (by decide) ?_
                    refine lv_idiv hx hb dX4_endDay_150 (by decide) ?_
                    refine lv_iadd hx hb dX4_endDay_151 ?_
                    refine x_iast hx hb hK hS (mw_15 hR) (ma_15 hR) (xi_nI (n := 150) (by omega) (by omega)) dX4_endDay_152 (fun H locs hat hof hS => ?_)
                    have hR := ms_15_a hR hof hat
                    rw [sF_sF] at hR
                    refine lv_iinc (v := nI (j + 1)) (lv' := [(3, .int (nI (j + 1))), (2, .int (nI k)), (1, .int acc), (0, .ref (ad (0, 0)))]) hx hb dX4_endDay_153 hl (k := 0) rfl (nI_1 _) (by decide) rfl (fun ls hl => ?_)
                    refine lv_goto (tgt := 101) hx hb dX4_endDay_156 (by decide) ?_
                    exact ih101 (j + 1) (dv + ((((S1.2.1 19 k j) * (S1.2.1 6 ((S1.2.1 20 ((S1.2.1 18 k j).toNatClampNeg) 0).toNatClampNeg) 0)) + 99) / 100)) (by omega) (by omega) (by rw [ed]; simp [mExtra, sumI, Int32.add_assoc]) _ _ hR hS ls (lv_sub hl [0, 1, 2, 3] rfl)
              exact L101 (S1.1 6 k + 1) 0 _ (by omega) (Nat.zero_le _) (by simp [mExtra, sumI, mCostE]) _ _ hR hS ls (lv_sub hl [0, 1, 2, 3] rfl)
    exact L32 (S.1 2 0 + 1) 0 0 (sF S 26 0 0 0) (by omega) (by omega) rfl hW hA rfl rfl rfl _ _ hR hS ls (lv_sub hl [0, 1, 2] rfl)
  · refine lv_iconst (v := 1) hx hb dX4_endDay_11 (by decide) ?_
    refine lv_goto (tgt := 16) hx hb dX4_endDay_12 (by decide) ?_
    refine p_X4_87 F hK hS (mw_0 hR) (ma_0 hR) (v := .int 1) rfl rfl (Nat.le_of_ble_eq_true rfl) dX4_endDay_16 (fun H locs hat hof hS => ?_)
    have hR := ms_0_29 hR hof hat
    refine lv_aload_n hx hb dX4_endDay_19 rfl (lv_at hl 0 rfl) ?_
    refine g_X4_87 F hK (mw_0 hR) (v := .int 1) (by simp [fset, nset, lset]) dX4_endDay_20 ?_
    refine lv_if_le (tgt := 28) hx hb dX4_endDay_23 (by decide) (fun c_23 => (by first | exact absurd c_23 (by decide) | exact absurd (by decide) c_23)) (fun c_23 => ?_)
    refine lv_iconst (v := 0) hx hb dX4_endDay_26 (by decide) ?_
    have e9 : mEndDay S = (0, (sF S 26 0 0 1)) := by simp [mEndDay, thr, c_8]
    exact xr_Ci hx hb hr hlocks ((congrArg Prod.fst e9).symm) (by show xRM G A (mEndDay S).2 ad z H; rw [show (mEndDay S).2 = (sF S 26 0 0 1) from congrArg Prod.snd e9]; exact hR) hS (by first | omega | decide) (by first | omega | decide) dX4_endDay_27

