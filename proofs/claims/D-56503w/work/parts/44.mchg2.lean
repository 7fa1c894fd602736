/-! contracts (printed by gen/mcon3.py) -/
set_option maxRecDepth 100000
set_option maxHeartbeats 4000000 in
theorem mX4_gives {l : Launch} {G : xG} {s0 : State} {b0 : Nat} (g : xG0 G s0 b0) {A : Nat → Prop} {S : xS} {ad : Nat × Nat → Nat} {z : xZ} (hW : mWF S) (hA : ∃ rk, rkOK S.2.1 rk ∧ ∀ i, rk i < 4) : Met l yX4_gives (ws_ yX4_gives cX4_gives 2 none) ({ frames := 7, cells := 0, slots := 0, locals := 195 } : Room) (xP s0 A [.ref (ad (0, 0))] (fun H => xRM G A S ad z H)) (xQc none (fun _ H => xRM G A (mGives S) ad z H) A) 0 0 A := by
  refine Met.ofW (cc := cX4_gives) (maxL := 2) (ret := none) (by decide) rfl ?_
  intro p e s m args below meth c s₁ B hml hv
  obtain ⟨rfl, hWK, hR⟩ := hv
  have hx := B.exec
  have hb := B.bytes
  have hr := B.returns
  have hts := atoms_spec (ws := ws_ yX4_gives cX4_gives 2 none) B.pre
  have hts : ∀ w ∈ lw_all, w.before _ s = true := fun w h => hts w (List.mem_cons_of_mem _ h)
  have hown : s.vm.findClass "LendlatheModel" = some m.cls := findClass_of_methodNamed B.named
  have hlocks := B.notSynchronized
  have hK := hWK.K g
  have F : CallFix p m c cX4_gives 2 s _ lw_all "LendlatheModel" := ⟨hx, hb, hml, hown, hts⟩
  have hS : va_S A s.heap s.heap [] := va_S.rf
  have hl := lv_entry ([.ref (ad (0, 0))]) (n := 2) (Nat.le_of_ble_eq_true rfl)
  rw [lg_entry_eq]
  generalize (lg_sl ([.ref (ad (0, 0))]) ++ List.replicate (2 - (lg_sl ([.ref (ad (0, 0))])).length) Slot.unset).toArray = ls at hl ⊢
  have hl : lv_has ls 2 [(0, .ref (ad (0, 0)))] := hl
  have hn0 := hW.1
  have hn1 := hW.2.1
  have hn2 := hW.2.2.1
  have hn3 := hW.2.2.2.1
  have hn4 := hW.2.2.2.2.1
  refine lv_iconst (v := 0) hx hb dX4_gives_0 (by decide) ?_
  refine lv_istore_n (lv' := [(1, .int 0), (0, .ref (ad (0, 0)))]) hx hb dX4_gives_1 rfl hl (by decide) rfl (fun ls hl => ?_)
  have L2 : ∀ (n : Nat) (fu : Nat) (S1 : xS) (k : Nat), fu * 151 + (150 - k) < n → (k ≤ S1.1 2 0) → (mWF S1) → (∃ rk, rkOK S1.2.1 rk ∧ ∀ i, rk i < 4) → (mWait S1 (S1.1 2 0) ≤ fu) → (∀ j, j < k → mCand S1 j = false) → (mGivesN fu S1 = mGives S) → ∀ (H : Heap) (locs : List Loc), xRM G A S1 ad z H → va_S A s.heap H locs → ∀ (ls : Array Slot), lv_has ls 2 [(1, .int (nI k)), (0, .ref (ad (0, 0)))] → W p l e (headSpec (ws_ yX4_gives cX4_gives 2 none) ({ frames := 7, cells := 0, slots := 0, locals := 195 } : Room)).room s m ([.ref (ad (0, 0))] : List Value).toArray below meth c H locs 0 0 (MQ below (xQc none (fun _ H => xRM G A (mGives S) ad z H) A) ([.ref (ad (0, 0))] : List Value).toArray s 0 0 A) (F0 m 2 ls []) := by
    intro n2
    induction n2 with
    | zero =>
      intro fu S1 k hn2
      exact absurd hn2 (Nat.not_lt_zero _)
    | succ n2 ih2 =>
      intro fu S1 k hn2 hk0 hWs hA1 hw hc hG H locs hR hS ls hl
      have hn2s := hWs.2.2.1
      refine lv_iload_n hx hb dX4_gives_2 rfl (lv_at hl 0 rfl) ?_
      refine lv_aload_n hx hb dX4_gives_3 rfl (lv_at hl 1 rfl) ?_
      refine g_X4_101 F hK (mw_0 hR) (v := .int (nI (S1.1 2 0))) rfl dX4_gives_4 ?_
      refine xn_ge (tgt := 85) k (S1.1 2 0) rfl rfl (by omega) (by omega) hx hb dX4_gives_7 (by decide) (fun c_7 => ?_) (fun c_7 => ?_)
      · have e9 : mGives S = S1 := hG.symm.trans (mGives_done (fun j hj => hc j (by omega)))
        exact xr_Cv hx hb hr hlocks (by show xRM G A (mGives S) ad z H; rw [e9]; exact hR) hS (by first | omega | decide) (by first | omega | decide) dX4_gives_85
      · refine lv_aload_n hx hb dX4_gives_10 rfl (lv_at hl 1 rfl) ?_
        refine g_X4_49 F hK (mw_0 hR) (v := .ref (ad (14, 0))) rfl dX4_gives_11 ?_
        refine lv_iload_n hx hb dX4_gives_14 rfl (lv_at hl 0 rfl) ?_
        refine x_cald hx hb hK (mw_14 hR) (v := .int (S1.2.1 16 k 0)) (xi_nI (n := 150) (by omega) (by omega)) (rfl) dX4_gives_15 ?_
        refine lv_bipush (v := 119) hx hb dX4_gives_16 (by decide) ?_
        refine lv_icmp_ne (tgt := 79) hx hb dX4_gives_18 (by decide) (fun c_18 => ?_) (fun c_18 => ?_)
        · refine lv_iinc (v := nI (k + 1)) (lv' := [(1, .int (nI (k + 1))), (0, .ref (ad (0, 0)))]) hx hb dX4_gives_79 hl (k := 0) rfl (nI_1 _) (by decide) rfl (fun ls hl => ?_)
          refine lv_goto (tgt := 2) hx hb dX4_gives_82 (by decide) ?_
          exact ih2 fu S1 (k + 1) (by omega) (by omega) hWs hA1 hw (lt_s hc (by simp [mCand, mLetE, c_18])) hG _ _ hR hS ls (lv_sub hl [0, 1] rfl)
        · refine lv_aload_n hx hb dX4_gives_21 rfl (lv_at hl 1 rfl) ?_
          refine lv_aload_n hx hb dX4_gives_22 rfl (lv_at hl 1 rfl) ?_
          refine g_X4_30 F hK (mw_0 hR) (v := .ref (ad (8, 0))) rfl dX4_gives_23 ?_
          refine lv_iload_n hx hb dX4_gives_26 rfl (lv_at hl 0 rfl) ?_
          refine x_iald hx hb hK (mw_8 hR) (v := .int (S1.2.1 10 k 0)) (xi_nI (n := 150) (by omega) (by omega)) (rfl) dX4_gives_27 ?_
          refine lv_aload_n hx hb dX4_gives_28 rfl (lv_at hl 1 rfl) ?_
          refine g_X4_33 F hK (mw_0 hR) (v := .ref (ad (9, 0))) rfl dX4_gives_29 ?_
          refine lv_iload_n hx hb dX4_gives_32 rfl (lv_at hl 0 rfl) ?_
          refine x_iald hx hb hK (mw_9 hR) (v := .int (S1.2.1 11 k 0)) (xi_nI (n := 150) (by omega) (by omega)) (rfl) dX4_gives_33 ?_
          refine lv_aload_n hx hb dX4_gives_34 rfl (lv_at hl 1 rfl) ?_
          refine g_X4_36 F hK (mw_0 hR) (v := .ref (ad (10, 0))) rfl dX4_gives_35 ?_
          refine lv_iload_n hx hb dX4_gives_38 rfl (lv_at hl 0 rfl) ?_
          refine x_iald hx hb hK (mw_10 hR) (v := .int (S1.2.1 12 k 0)) (xi_nI (n := 150) (by omega) (by omega)) (rfl) dX4_gives_39 ?_
          refine lv_aload_n hx hb dX4_gives_40 rfl (lv_at hl 1 rfl) ?_
          refine g_X4_39 F hK (mw_0 hR) (v := .ref (ad (11, 0))) rfl dX4_gives_41 ?_
          refine lv_iload_n hx hb dX4_gives_44 rfl (lv_at hl 0 rfl) ?_
          refine x_iald hx hb hK (mw_11 hR) (v := .int (S1.2.1 13 k 0)) (xi_nI (n := 150) (by omega) (by omega)) (rfl) dX4_gives_45 ?_
          refine lv_aload_n hx hb dX4_gives_46 rfl (lv_at hl 1 rfl) ?_
          refine g_X4_42 F hK (mw_0 hR) (v := .ref (ad (12, 0))) rfl dX4_gives_47 ?_
          refine lv_iload_n hx hb dX4_gives_50 rfl (lv_at hl 0 rfl) ?_
          refine x_iald hx hb hK (mw_12 hR) (v := .int (S1.2.1 14 k 0)) (xi_nI (n := 150) (by omega) (by omega)) (rfl) dX4_gives_51 ?_
          refine lv_aload_n hx hb dX4_gives_52 rfl (lv_at hl 1 rfl) ?_
          refine g_X4_45 F hK (mw_0 hR) (v := .ref (ad (13, 0))) rfl dX4_gives_53 ?_
          refine lv_iload_n hx hb dX4_gives_56 rfl (lv_at hl 0 rfl) ?_
          refine x_cald hx hb hK (mw_13 hR) (v := .int (S1.2.1 15 k 0)) (xi_nI (n := 150) (by omega) (by omega)) (rfl) dX4_gives_57 ?_
          refine xc_P (va_runV (As := [.int (S1.2.1 10 k 0), .int (S1.2.1 11 k 0), .int (S1.2.1 12 k 0), .int (S1.2.1 13 k 0), .int (S1.2.1 14 k 0), .int (S1.2.1 15 k 0)]) (rest := []) F (mX4_letter g (A := A) (S := S1) (ad := ad) (z := z) (S1.2.1 12 k 0) (S1.2.1 13 k 0) (S1.2.1 14 k 0) (S1.2.1 15 k 0) (xi.up (xi_of (hWs.2.2.2.2.2.2.2.2.1 k)) (by omega)) (xi.up (xi_of (hWs.2.2.2.2.2.2.2.2.2.1 k)) (by omega)) hWs hA1) (cwV 6 hts (lw_V q1593 q1595 qs35 q80 q1596) rfl rfl rfl hdV_X4_letter ⟨Nat.le_of_ble_eq_true rfl, Nat.le_of_ble_eq_true rfl⟩) (xpreV (xrecv hK (mw_0 hR) rfl) hWK hS hR) rfl rfl hl.1 rfl (lv_room (Nat.le_of_ble_eq_true rfl)) dX4_gives_58 ⟨Nat.le_of_ble_eq_true rfl, Nat.le_of_ble_eq_true rfl⟩) ?_
          refine lv_bipush (v := 111) hx hb dX4_gives_61 (by decide) ?_
          refine lv_icmp_ne (tgt := 79) hx hb dX4_gives_63 (by decide) (fun c_63 => ?_) (fun c_63 => ?_)
          · refine lv_iinc (v := nI (k + 1)) (lv' := [(1, .int (nI (k + 1))), (0, .ref (ad (0, 0)))]) hx hb dX4_gives_79 hl (k := 0) rfl (nI_1 _) (by decide) rfl (fun ls hl => ?_)
            refine lv_goto (tgt := 2) hx hb dX4_gives_82 (by decide) ?_
            exact ih2 fu S1 (k + 1) (by omega) (by omega) hWs hA1 hw (lt_s hc (by simp [mCand, mLetE, c_18, c_63])) hG _ _ hR hS ls (lv_sub hl [0, 1] rfl)
          · refine lv_aload_n hx hb dX4_gives_66 rfl (lv_at hl 1 rfl) ?_
            refine g_X4_49 F hK (mw_0 hR) (v := .ref (ad (14, 0))) rfl dX4_gives_67 ?_
            refine lv_iload_n hx hb dX4_gives_70 rfl (lv_at hl 0 rfl) ?_
            refine lv_bipush (v := 98) hx hb dX4_gives_71 (by decide) ?_
            refine x_cast hx hb hK hS (mw_14 hR) (ma_14 hR) (xi_nI (n := 150) (by omega) (by omega)) rfl dX4_gives_73 (fun H locs hat hof hS => ?_)
            have hR := ms_14_a hR hof hat
            refine lv_iconst (v := 0) hx hb dX4_gives_74 (by decide) ?_
            refine lv_istore_n (lv' := [(1, .int 0), (0, .ref (ad (0, 0)))]) hx hb dX4_gives_75 rfl hl (by decide) rfl (fun ls hl => ?_)
            refine lv_goto (tgt := 2) hx hb dX4_gives_76 (by decide) ?_
            obtain ⟨f1, rfl, hw1, hG1⟩ := mGives_step c_7 c_18 c_63 hc hw
            exact ih2 f1 (sF S1 16 k 0 98) 0 (by omega) (Nat.zero_le _) (mWF_st hWs k rfl) hA1 hw1 (fun j hj => absurd hj (Nat.not_lt_zero _)) (hG1.symm.trans hG) _ _ hR hS ls (lv_sub hl [0, 1] rfl)
  exact L2 (mWait S (S.1 2 0) * 151 + 151) (mWait S (S.1 2 0)) S 0 (by omega) (Nat.zero_le _) hW hA (Nat.le_refl _) (fun j hj => absurd hj (Nat.not_lt_zero _)) rfl _ _ hR hS ls (lv_sub hl [0, 1] rfl)

set_option maxHeartbeats 4000000 in
theorem mX4_adds {l : Launch} {G : xG} {s0 : State} {b0 : Nat} (g : xG0 G s0 b0) {A : Nat → Prop} {S : xS} {ad : Nat × Nat → Nat} {z : xZ} (member machine day start minutes work state : Int32) (hlt : S.1 2 0 < 150) (hwc : narrow .char (.int work) = .int work) (hsc : narrow .char (.int state) = .int state) : Met l yX4_adds (ws_ yX4_adds cX4_adds 8 (some .int)) ({ frames := 0, cells := 0, slots := 0, locals := 0 } : Room) (xP s0 A [.ref (ad (0, 0)), .int member, .int machine, .int day, .int start, .int minutes, .int work, .int state] (fun H => xRM G A S ad z H)) (xQc (some (.int ((mAdds S member machine day start minutes work state).1))) (fun _ H => xRM G A (mAdds S member machine day start minutes work state).2 ad z H) A) 0 0 A := by
  refine Met.ofW (cc := cX4_adds) (maxL := 8) (ret := (some .int)) (by decide) rfl ?_
  intro p e s m args below meth c s₁ B hml hv
  obtain ⟨rfl, hWK, hR⟩ := hv
  have hx := B.exec
  have hb := B.bytes
  have hr := B.returns
  have hts := atoms_spec (ws := ws_ yX4_adds cX4_adds 8 (some .int)) B.pre
  have hts : ∀ w ∈ lw_all, w.before _ s = true := fun w h => hts w (List.mem_cons_of_mem _ h)
  have hown : s.vm.findClass "LendlatheModel" = some m.cls := findClass_of_methodNamed B.named
  have hlocks := B.notSynchronized
  have hK := hWK.K g
  have F : CallFix p m c cX4_adds 8 s _ lw_all "LendlatheModel" := ⟨hx, hb, hml, hown, hts⟩
  have hS : va_S A s.heap s.heap [] := va_S.rf
  have hl := lv_entry ([.ref (ad (0, 0)), .int member, .int machine, .int day, .int start, .int minutes, .int work, .int state]) (n := 8) (Nat.le_of_ble_eq_true rfl)
  rw [lg_entry_eq]
  generalize (lg_sl ([.ref (ad (0, 0)), .int member, .int machine, .int day, .int start, .int minutes, .int work, .int state]) ++ List.replicate (8 - (lg_sl ([.ref (ad (0, 0)), .int member, .int machine, .int day, .int start, .int minutes, .int work, .int state])).length) Slot.unset).toArray = ls at hl ⊢
  have hl : lv_has ls 8 [(0, .ref (ad (0, 0))), (1, .int member), (2, .int machine), (3, .int day), (4, .int start), (5, .int minutes), (6, .int work), (7, .int state)] := hl
  refine lv_aload_n hx hb dX4_adds_0 rfl (lv_at hl 0 rfl) ?_
  refine g_X4_30 F hK (mw_0 hR) (v := .ref (ad (8, 0))) rfl dX4_adds_1 ?_
  refine lv_aload_n hx hb dX4_adds_4 rfl (lv_at hl 0 rfl) ?_
  refine g_X4_101 F hK (mw_0 hR) (v := .int (nI (S.1 2 0))) rfl dX4_adds_5 ?_
  refine lv_iload_n hx hb dX4_adds_8 rfl (lv_at hl 1 rfl) ?_
  refine x_iast hx hb hK hS (mw_8 hR) (ma_8 hR) (xi_nI (n := 150) (by omega) (by omega)) dX4_adds_9 (fun H locs hat hof hS => ?_)
  have hR := ms_8_a hR hof hat
  refine lv_aload_n hx hb dX4_adds_10 rfl (lv_at hl 0 rfl) ?_
  refine g_X4_33 F hK (mw_0 hR) (v := .ref (ad (9, 0))) rfl dX4_adds_11 ?_
  refine lv_aload_n hx hb dX4_adds_14 rfl (lv_at hl 0 rfl) ?_
  refine g_X4_101 F hK (mw_0 hR) (v := .int (nI (S.1 2 0))) rfl dX4_adds_15 ?_
  refine lv_iload_n hx hb dX4_adds_18 rfl (lv_at hl 2 rfl) ?_
  refine x_iast hx hb hK hS (mw_9 hR) (ma_9 hR) (xi_nI (n := 150) (by omega) (by omega)) dX4_adds_19 (fun H locs hat hof hS => ?_)
  have hR := ms_9_a hR hof hat
  refine lv_aload_n hx hb dX4_adds_20 rfl (lv_at hl 0 rfl) ?_
  refine g_X4_36 F hK (mw_0 hR) (v := .ref (ad (10, 0))) rfl dX4_adds_21 ?_
  refine lv_aload_n hx hb dX4_adds_24 rfl (lv_at hl 0 rfl) ?_
  refine g_X4_101 F hK (mw_0 hR) (v := .int (nI (S.1 2 0))) rfl dX4_adds_25 ?_
  refine lv_iload_n hx hb dX4_adds_28 rfl (lv_at hl 3 rfl) ?_
  refine x_iast hx hb hK hS (mw_10 hR) (ma_10 hR) (xi_nI (n := 150) (by omega) (by omega)) dX4_adds_29 (fun H locs hat hof hS => ?_)
  have hR := ms_10_a hR hof hat
  refine lv_aload_n hx hb dX4_adds_30 rfl (lv_at hl 0 rfl) ?_
  refine g_X4_39 F hK (mw_0 hR) (v := .ref (ad (11, 0))) rfl dX4_adds_31 ?_
  refine lv_aload_n hx hb dX4_adds_34 rfl (lv_at hl 0 rfl) ?_
  refine g_X4_101 F hK (mw_0 hR) (v := .int (nI (S.1 2 0))) rfl dX4_adds_35 ?_
  refine lv_iload hx hb dX4_adds_38 (lv_at hl 4 rfl) ?_
  refine x_iast hx hb hK hS (mw_11 hR) (ma_11 hR) (xi_nI (n := 150) (by omega) (by omega)) dX4_adds_40 (fun H locs hat hof hS => ?_)
  have hR := ms_11_a hR hof hat
  refine lv_aload_n hx hb dX4_adds_41 rfl (lv_at hl 0 rfl) ?_
  refine g_X4_42 F hK (mw_0 hR) (v := .ref (ad (12, 0))) rfl dX4_adds_42 ?_
  refine lv_aload_n hx hb dX4_adds_45 rfl (lv_at hl 0 rfl) ?_
  refine g_X4_101 F hK (mw_0 hR) (v := .int (nI (S.1 2 0))) rfl dX4_adds_46 ?_
  refine lv_iload hx hb dX4_adds_49 (lv_at hl 5 rfl) ?_
  refine x_iast hx hb hK hS (mw_12 hR) (ma_12 hR) (xi_nI (n := 150) (by omega) (by omega)) dX4_adds_51 (fun H locs hat hof hS => ?_)
  have hR := ms_12_a hR hof hat
  refine lv_aload_n hx hb dX4_adds_52 rfl (lv_at hl 0 rfl) ?_
  refine g_X4_45 F hK (mw_0 hR) (v := .ref (ad (13, 0))) rfl dX4_adds_53 ?_
  refine lv_aload_n hx hb dX4_adds_56 rfl (lv_at hl 0 rfl) ?_
  refine g_X4_101 F hK (mw_0 hR) (v := .int (nI (S.1 2 0))) rfl dX4_adds_57 ?_
  refine lv_iload hx hb dX4_adds_60 (lv_at hl 6 rfl) ?_
  refine x_cast hx hb hK hS (mw_13 hR) (ma_13 hR) (xi_nI (n := 150) (by omega) (by omega)) hwc dX4_adds_62 (fun H locs hat hof hS => ?_)
  have hR := ms_13_a hR hof hat
  refine lv_aload_n hx hb dX4_adds_63 rfl (lv_at hl 0 rfl) ?_
  refine g_X4_49 F hK (mw_0 hR) (v := .ref (ad (14, 0))) rfl dX4_adds_64 ?_
  refine lv_aload_n hx hb dX4_adds_67 rfl (lv_at hl 0 rfl) ?_
  refine g_X4_101 F hK (mw_0 hR) (v := .int (nI (S.1 2 0))) rfl dX4_adds_68 ?_
  refine lv_iload hx hb dX4_adds_71 (lv_at hl 7 rfl) ?_
  refine x_cast hx hb hK hS (mw_14 hR) (ma_14 hR) (xi_nI (n := 150) (by omega) (by omega)) hsc dX4_adds_73 (fun H locs hat hof hS => ?_)
  have hR := ms_14_a hR hof hat
  refine lv_aload_n hx hb dX4_adds_74 rfl (lv_at hl 0 rfl) ?_
  refine lv_dup hx hb dX4_adds_75 rfl ?_
  refine g_X4_101 F hK (mw_0 hR) (v := .int (nI (S.1 2 0))) rfl dX4_adds_76 ?_
  refine lv_iconst (v := 1) hx hb dX4_adds_79 (by decide) ?_
  refine lv_iadd hx hb dX4_adds_80 ?_
  refine x_topi (nI_1 _) ?_
  refine p_X4_101 F hK hS (mw_0 hR) (ma_0 hR) (v := .int (nI (S.1 2 0 + 1))) rfl rfl (Nat.le_of_ble_eq_true rfl) dX4_adds_81 (fun H locs hat hof hS => ?_)
  have hR := ms_0_19 hR hof hat
  refine lv_aload_n hx hb dX4_adds_84 rfl (lv_at hl 0 rfl) ?_
  refine g_X4_101 F hK (mw_0 hR) (v := .int (nI (S.1 2 0 + 1))) (by simp [fset, nset, lset]) dX4_adds_85 ?_
  refine lv_iconst (v := 1) hx hb dX4_adds_88 (by decide) ?_
  refine lv_isub hx hb dX4_adds_89 ?_
  have e9 : mAdds S member machine day start minutes work state = ((nI (S.1 2 0 + 1)) - 1, (sN (sF (sF (sF (sF (sF (sF (sF S 10 (S.1 2 0) 0 member) 11 (S.1 2 0) 0 machine) 12 (S.1 2 0) 0 day) 13 (S.1 2 0) 0 start) 14 (S.1 2 0) 0 minutes) 15 (S.1 2 0) 0 work) 16 (S.1 2 0) 0 state) 2 0 (S.1 2 0 + 1))) := by simp [mAdds]
  exact xr_Ci hx hb hr hlocks ((congrArg Prod.fst e9).symm) (by show xRM G A (mAdds S member machine day start minutes work state).2 ad z H; rw [show (mAdds S member machine day start minutes work state).2 = (sN (sF (sF (sF (sF (sF (sF (sF S 10 (S.1 2 0) 0 member) 11 (S.1 2 0) 0 machine) 12 (S.1 2 0) 0 day) 13 (S.1 2 0) 0 start) 14 (S.1 2 0) 0 minutes) 15 (S.1 2 0) 0 work) 16 (S.1 2 0) 0 state) 2 0 (S.1 2 0 + 1)) from congrArg Prod.snd e9]; exact hR) hS (by first | omega | decide) (by first | omega | decide) dX4_adds_90

set_option maxHeartbeats 4000000 in
theorem mX4_cost {l : Launch} {G : xG} {s0 : State} {b0 : Nat} (g : xG0 G s0 b0) {A : Nat → Prop} {S : xS} {ad : Nat × Nat → Nat} {z : xZ} (minutes : Int32) {kind : Int32} {ki : Nat} (h_kind : xi kind ki 4) (hW : mWF S) : Met l yX4_cost (ws_ yX4_cost cX4_cost 9 (some .int)) ({ frames := 1, cells := 1, slots := 6, locals := 15 } : Room) (xP s0 A [.ref (ad (0, 0)), .int kind, .int minutes] (fun H => xRM G A S ad z H)) (xQc (some (.int (mCost S ki minutes))) (fun _ H => xRM G A S ad z H) A) 1 6 A := by
  refine Met.ofW (cc := cX4_cost) (maxL := 9) (ret := (some .int)) (by decide) rfl ?_
  intro p e s m args below meth c s₁ B hml hv
  obtain ⟨rfl, hWK, hR⟩ := hv
  have hx := B.exec
  have hb := B.bytes
  have hr := B.returns
  have hts := atoms_spec (ws := ws_ yX4_cost cX4_cost 9 (some .int)) B.pre
  have hts : ∀ w ∈ lw_all, w.before _ s = true := fun w h => hts w (List.mem_cons_of_mem _ h)
  have hown : s.vm.findClass "LendlatheModel" = some m.cls := findClass_of_methodNamed B.named
  have hlocks := B.notSynchronized
  have hK := hWK.K g
  have F : CallFix p m c cX4_cost 9 s _ lw_all "LendlatheModel" := ⟨hx, hb, hml, hown, hts⟩
  have hS : va_S A s.heap s.heap [] := va_S.rf
  have hl := lv_entry ([.ref (ad (0, 0)), .int kind, .int minutes]) (n := 9) (Nat.le_of_ble_eq_true rfl)
  rw [lg_entry_eq]
  generalize (lg_sl ([.ref (ad (0, 0)), .int kind, .int minutes]) ++ List.replicate (9 - (lg_sl ([.ref (ad (0, 0)), .int kind, .int minutes])).length) Slot.unset).toArray = ls at hl ⊢
  have hl : lv_has ls 9 [(0, .ref (ad (0, 0))), (1, .int kind), (2, .int minutes)] := hl
  have hn0 := hW.1
  have hn1 := hW.2.1
  have hn2 := hW.2.2.1
  have hn3 := hW.2.2.2.1
  have hn4 := hW.2.2.2.2.1
  have h5 := hW.2.2.2.2.2.1 ki h_kind.lt
  refine lv_iload_n hx hb dX4_cost_0 rfl (lv_at hl 2 rfl) ?_
  refine lv_istore_n (lv' := [(3, .int minutes), (0, .ref (ad (0, 0))), (1, .int kind), (2, .int minutes)]) hx hb dX4_cost_1 rfl hl (by decide) rfl (fun ls hl => ?_)
  refine lv_bipush (v := 6) hx hb dX4_cost_2 (by decide) ?_
  refine x_newa hx hb hK (ty := .int) (t := 0) rfl rfl (hts _ q112) (n := 6) (dv := .int 0) (by decide) (by decide) rfl (by decide) (Nat.le_of_ble_eq_true rfl) (Nat.le_of_ble_eq_true rfl) dX4_cost_4 (fun H1 hat hz hg => ?_)
  have hA_q4 : A (Array.size s.heap) := hWK.2.2.2.1 _ hS.1
  have hfr_q4 := hR.fresh
  have hR := hR.grow hg
  have hS := hg.S hS
  clear hz hg
  generalize Array.size s.heap = q4 at hat hA_q4 hfr_q4 ⊢
  have hq_q4 := hat
  generalize H1 = H at hR hS hq_q4 ⊢
  refine lv_astore (lv' := [(4, .ref q4), (3, .int minutes), (0, .ref (ad (0, 0))), (1, .int kind), (2, .int minutes)]) hx hb dX4_cost_6 hl (by decide) rfl (fun ls hl => ?_)
  refine lv_aload_n hx hb dX4_cost_8 rfl (lv_at hl 2 rfl) ?_
  refine g_X4_81 F hK (mw_0 hR) (v := .ref (ad (28, 0))) rfl dX4_cost_9 ?_
  refine lv_iload_n hx hb dX4_cost_12 rfl (lv_at hl 3 rfl) ?_
  refine x_iald hx hb hK (mw_28 hR) (v := .int (nI (S.1 5 ki))) (xi.up h_kind (by omega)) (rfl) dX4_cost_13 ?_
  refine lv_iconst (v := 1) hx hb dX4_cost_14 (by decide) ?_
  refine lv_isub hx hb dX4_cost_15 ?_
  refine lv_istore (lv' := [(5, .int ((nI (S.1 5 ki)) - 1)), (4, .ref q4), (3, .int minutes), (0, .ref (ad (0, 0))), (1, .int kind), (2, .int minutes)]) hx hb dX4_cost_16 hl (by decide) rfl (fun ls hl => ?_)
  have L18 : ∀ (n : Nat) (k : Nat) (x : Int32) (nv : Int32) (f : Nat → Int32), k < n → (k ≤ S.1 5 ki) → (x = nI k - 1) → (mAsk S ki (S.1 5 ki) k (nv, f) = mAsk S ki (S.1 5 ki) (S.1 5 ki) (minutes, fun _ => 0)) → ∀ (H : Heap) (locs : List Loc), xRM G A S ad z H → xat G q4 (xA 0 6 (fun k => .int (f k))) H → va_S A s.heap H locs → ∀ (ls : Array Slot), lv_has ls 9 [(5, .int x), (4, .ref q4), (3, .int nv), (0, .ref (ad (0, 0))), (1, .int kind), (2, .int minutes)] → W p l e (headSpec (ws_ yX4_cost cX4_cost 9 (some .int)) ({ frames := 1, cells := 1, slots := 6, locals := 15 } : Room)).room s m ([.ref (ad (0, 0)), .int kind, .int minutes] : List Value).toArray below meth c H locs 1 6 (MQ below (xQc (some (.int (mCost S ki minutes))) (fun _ H => xRM G A S ad z H) A) ([.ref (ad (0, 0)), .int kind, .int minutes] : List Value).toArray s 1 6 A) (F0 m 18 ls []) := by
    intro n18
    induction n18 with
    | zero =>
      intro k x nv f hn18
      exact absurd hn18 (Nat.not_lt_zero _)
    | succ n18 ih18 =>
      intro k x nv f hn18 hk6 ex ef H locs hR hq_q4 hS ls hl
      refine lv_iload hx hb dX4_cost_18 (lv_at hl 0 rfl) ?_
      refine lv_if_lt (tgt := 71) hx hb dX4_cost_20 (by decide) (fun c_20 => ?_) (fun c_20 => ?_)
      · have hk0 := mAsk_zero ex (by omega) c_20
        subst hk0
        have ef0 : f 0 = (mAsk S ki (S.1 5 ki) (S.1 5 ki) (minutes, fun _ => 0)).2 0 := by rw [← ef]; rfl
        refine lv_aload_n hx hb dX4_cost_71 rfl (lv_at hl 3 rfl) ?_
        refine g_X4_78 F hK (mw_0 hR) (v := .ref (ad (26, 0))) rfl dX4_cost_72 ?_
        refine lv_iload_n hx hb dX4_cost_75 rfl (lv_at hl 4 rfl) ?_
        refine x_aald hx hb hK (mw_26 hR) rfl rfl (v := .ref (ad (27, ki))) (xi.up h_kind (by omega)) (rfl) dX4_cost_76 ?_
        refine lv_iconst (v := 0) hx hb dX4_cost_77 (by decide) ?_
        refine x_iald hx hb hK (mw_27 hR (by have := (h_kind).lt; omega)) (v := .int (S.2.1 23 ki 0)) (⟨by unfold vp_in; decide, by decide⟩ : xi 0 0 6) (rfl) dX4_cost_78 ?_
        refine lv_aload hx hb dX4_cost_79 (lv_at hl 1 rfl) ?_
        refine lv_iconst (v := 0) hx hb dX4_cost_81 (by decide) ?_
        refine x_iald hx hb hK hq_q4 (v := .int (f 0)) (⟨by unfold vp_in; decide, by decide⟩ : xi 0 0 6) (rfl) dX4_cost_82 ?_
        refine lv_imul hx hb dX4_cost_83 ?_
        refine lv_istore (lv' := [(5, .int ((S.2.1 23 ki 0) * (f 0))), (4, .ref q4), (3, .int nv), (0, .ref (ad (0, 0))), (1, .int kind), (2, .int minutes)]) hx hb dX4_cost_84 hl (by decide) rfl (fun ls hl => ?_)
        refine lv_iconst (v := 1) hx hb dX4_cost_86 (by decide) ?_
        refine lv_istore (lv' := [(6, .int 1), (5, .int ((S.2.1 23 ki 0) * (f 0))), (4, .ref q4), (3, .int nv), (0, .ref (ad (0, 0))), (1, .int kind), (2, .int minutes)]) hx hb dX4_cost_87 hl (by decide) rfl (fun ls hl => ?_)
        have L89 : ∀ (n : Nat) (k : Nat) (am : Int32), S.1 5 ki - k < n → (k + 1 ≤ S.1 5 ki) → (am = mAmt S ki (S.2.1 23 ki 0 * (mAsk S ki (S.1 5 ki) (S.1 5 ki) (minutes, fun _ => 0)).2 0) k) → ∀ (H : Heap) (locs : List Loc), xRM G A S ad z H → va_S A s.heap H locs → ∀ (ls : Array Slot), lv_has ls 9 [(6, .int (nI (k + 1))), (5, .int am), (0, .ref (ad (0, 0))), (1, .int kind)] → W p l e (headSpec (ws_ yX4_cost cX4_cost 9 (some .int)) ({ frames := 1, cells := 1, slots := 6, locals := 15 } : Room)).room s m ([.ref (ad (0, 0)), .int kind, .int minutes] : List Value).toArray below meth c H locs 1 6 (MQ below (xQc (some (.int (mCost S ki minutes))) (fun _ H => xRM G A S ad z H) A) ([.ref (ad (0, 0)), .int kind, .int minutes] : List Value).toArray s 1 6 A) (F0 m 89 ls []) := by
          intro n89
          induction n89 with
          | zero =>
            intro k am hn89
            exact absurd hn89 (Nat.not_lt_zero _)
          | succ n89 ih89 =>
            intro k am hn89 hk6 ea H locs hR hS ls hl
            refine lv_iload hx hb dX4_cost_89 (lv_at hl 0 rfl) ?_
            refine lv_aload_n hx hb dX4_cost_91 rfl (lv_at hl 2 rfl) ?_
            refine g_X4_81 F hK (mw_0 hR) (v := .ref (ad (28, 0))) rfl dX4_cost_92 ?_
            refine lv_iload_n hx hb dX4_cost_95 rfl (lv_at hl 3 rfl) ?_
            refine x_iald hx hb hK (mw_28 hR) (v := .int (nI (S.1 5 ki))) (xi.up h_kind (by omega)) (rfl) dX4_cost_96 ?_
            refine xn_ge (tgt := 185) (k + 1) (S.1 5 ki) rfl rfl (by omega) (by omega) hx hb dX4_cost_97 (by decide) (fun c_97 => ?_) (fun c_97 => ?_)
            · refine lv_iload hx hb dX4_cost_185 (lv_at hl 1 rfl) ?_
              have hk9 : k = S.1 5 ki - 1 := (by omega)
              subst hk9
              exact xr_Ci hx hb hr hlocks (by rw [ea]; rfl) (hR) hS (by first | omega | decide) (by first | omega | decide) dX4_cost_187
            · refine lv_aload_n hx hb dX4_cost_100 rfl (lv_at hl 2 rfl) ?_
              refine g_X4_75 F hK (mw_0 hR) (v := .ref (ad (24, 0))) rfl dX4_cost_101 ?_
              refine lv_iload_n hx hb dX4_cost_104 rfl (lv_at hl 3 rfl) ?_
              refine x_aald hx hb hK (mw_24 hR) rfl rfl (v := .ref (ad (25, ki))) (xi.up h_kind (by omega)) (rfl) dX4_cost_105 ?_
              refine lv_iload hx hb dX4_cost_106 (lv_at hl 0 rfl) ?_
              refine x_cald hx hb hK (mw_25 hR (by have := (h_kind).lt; omega)) (v := .int (S.2.1 24 ki (k + 1))) (xi_nI (n := 6) (by omega) (by omega)) (rfl) dX4_cost_108 ?_
              refine lv_istore (lv' := [(7, .int (S.2.1 24 ki (k + 1))), (6, .int (nI (k + 1))), (5, .int am), (0, .ref (ad (0, 0))), (1, .int kind)]) hx hb dX4_cost_109 hl (by decide) rfl (fun ls hl => ?_)
              refine lv_aload_n hx hb dX4_cost_111 rfl (lv_at hl 3 rfl) ?_
              refine g_X4_78 F hK (mw_0 hR) (v := .ref (ad (26, 0))) rfl dX4_cost_112 ?_
              refine lv_iload_n hx hb dX4_cost_115 rfl (lv_at hl 4 rfl) ?_
              refine x_aald hx hb hK (mw_26 hR) rfl rfl (v := .ref (ad (27, ki))) (xi.up h_kind (by omega)) (rfl) dX4_cost_116 ?_
              refine lv_iload hx hb dX4_cost_117 (lv_at hl 1 rfl) ?_
              refine x_iald hx hb hK (mw_27 hR (by have := (h_kind).lt; omega)) (v := .int (S.2.1 23 ki (k + 1))) (xi_nI (n := 6) (by omega) (by omega)) (rfl) dX4_cost_119 ?_
              refine lv_istore (lv' := [(8, .int (S.2.1 23 ki (k + 1))), (7, .int (S.2.1 24 ki (k + 1))), (6, .int (nI (k + 1))), (5, .int am), (0, .ref (ad (0, 0))), (1, .int kind)]) hx hb dX4_cost_120 hl (by decide) rfl (fun ls hl => ?_)
              refine lv_iload hx hb dX4_cost_122 (lv_at hl 1 rfl) ?_
              refine lv_bipush (v := 102) hx hb dX4_cost_124 (by decide) ?_
              refine lv_icmp_ne (tgt := 137) hx hb dX4_cost_126 (by decide) (fun c_126 => ?_) (fun c_126 => ?_)
              · refine lv_iload hx hb dX4_cost_137 (lv_at hl 1 rfl) ?_
                refine lv_bipush (v := 99) hx hb dX4_cost_139 (by decide) ?_
                refine lv_icmp_ne (tgt := 154) hx hb dX4_cost_141 (by decide) (fun c_141 => ?_) (fun c_141 => ?_)
                · refine lv_iload hx hb dX4_cost_154 (lv_at hl 1 rfl) ?_
                  refine lv_bipush (v := 112) hx hb dX4_cost_156 (by decide) ?_
                  refine lv_icmp_ne (tgt := 175) hx hb dX4_cost_158 (by decide) (fun c_158 => ?_) (fun c_158 => ?_)
                  · refine lv_iload hx hb dX4_cost_175 (lv_at hl 3 rfl) ?_
                    refine lv_istore (lv' := [(5, .int am), (8, .int (S.2.1 23 ki (k + 1))), (7, .int (S.2.1 24 ki (k + 1))), (6, .int (nI (k + 1))), (0, .ref (ad (0, 0))), (1, .int kind)]) hx hb dX4_cost_177 hl (by decide) rfl (fun ls hl => ?_)
                    refine lv_iinc (v := nI (k + 1 + 1)) (lv' := [(6, .int (nI (k + 1 + 1))), (5, .int am), (8, .int (S.2.1 23 ki (k + 1))), (7, .int (S.2.1 24 ki (k + 1))), (0, .ref (ad (0, 0))), (1, .int kind)]) hx hb dX4_cost_179 hl (k := 3) rfl (nI_1 _) (by decide) rfl (fun ls hl => ?_)
                    refine lv_goto (tgt := 89) hx hb dX4_cost_182 (by decide) ?_
                    exact ih89 (k + 1) am (by omega) (by omega) (by rw [ea]; simp [mAmt, mLay, c_126, c_141, c_158]) _ _ hR hS ls (lv_sub hl [0, 1, 4, 5] rfl)
                  · refine lv_iload hx hb dX4_cost_161 (lv_at hl 3 rfl) ?_
                    refine lv_iload hx hb dX4_cost_163 (lv_at hl 3 rfl) ?_
                    refine lv_iload hx hb dX4_cost_165 (lv_at hl 0 rfl) ?_
                    refine lv_imul hx hb dX4_cost_167 ?_
                    refine lv_bipush (v := 100) hx hb dX4_cost_168 (by decide) ?_
                    refine lv_idiv hx hb dX4_cost_170 (by decide) ?_
                    refine lv_isub hx hb dX4_cost_171 ?_
                    refine lv_goto (tgt := 177) hx hb dX4_cost_172 (by decide) ?_
                    refine lv_istore (lv' := [(5, .int (am - ((am * (S.2.1 23 ki (k + 1))) / 100))), (8, .int (S.2.1 23 ki (k + 1))), (7, .int (S.2.1 24 ki (k + 1))), (6, .int (nI (k + 1))), (0, .ref (ad (0, 0))), (1, .int kind)]) hx hb dX4_cost_177 hl (by decide) rfl (fun ls hl => ?_)
                    refine lv_iinc (v := nI (k + 1 + 1)) (lv' := [(6, .int (nI (k + 1 + 1))), (5, .int (am - ((am * (S.2.1 23 ki (k + 1))) / 100))), (8, .int (S.2.1 23 ki (k + 1))), (7, .int (S.2.1 24 ki (k + 1))), (0, .ref (ad (0, 0))), (1, .int kind)]) hx hb dX4_cost_179 hl (k := 3) rfl (nI_1 _) (by decide) rfl (fun ls hl => ?_)
                    refine lv_goto (tgt := 89) hx hb dX4_cost_182 (by decide) ?_
                    exact ih89 (k + 1) (am - ((am * (S.2.1 23 ki (k + 1))) / 100)) (by omega) (by omega) (by rw [ea]; simp [mAmt, mLay, c_126, c_141, c_158]) _ _ hR hS ls (lv_sub hl [0, 1, 4, 5] rfl)
                · refine lv_iload hx hb dX4_cost_144 (lv_at hl 3 rfl) ?_
                  refine lv_iload hx hb dX4_cost_146 (lv_at hl 0 rfl) ?_
                  refine va_mmin hx hb (hml.trans hl.1.symm) hown (hts _ q1669) (hts _ q248) (hts _ q70) (hts _ q249) (Nat.le_of_ble_eq_true rfl) (Nat.le_of_ble_eq_true rfl) (Nat.le_of_ble_eq_true rfl) (Nat.le_of_ble_eq_true rfl) dX4_cost_148 ?_
                  refine lv_goto (tgt := 177) hx hb dX4_cost_151 (by decide) ?_
                  refine lv_istore (lv' := [(5, .int (if (S.2.1 23 ki (k + 1)) < am then (S.2.1 23 ki (k + 1)) else am)), (8, .int (S.2.1 23 ki (k + 1))), (7, .int (S.2.1 24 ki (k + 1))), (6, .int (nI (k + 1))), (0, .ref (ad (0, 0))), (1, .int kind)]) hx hb dX4_cost_177 hl (by decide) rfl (fun ls hl => ?_)
                  refine lv_iinc (v := nI (k + 1 + 1)) (lv' := [(6, .int (nI (k + 1 + 1))), (5, .int (if (S.2.1 23 ki (k + 1)) < am then (S.2.1 23 ki (k + 1)) else am)), (8, .int (S.2.1 23 ki (k + 1))), (7, .int (S.2.1 24 ki (k + 1))), (0, .ref (ad (0, 0))), (1, .int kind)]) hx hb dX4_cost_179 hl (k := 3) rfl (nI_1 _) (by decide) rfl (fun ls hl => ?_)
                  refine lv_goto (tgt := 89) hx hb dX4_cost_182 (by decide) ?_
                  exact ih89 (k + 1) (if (S.2.1 23 ki (k + 1)) < am then (S.2.1 23 ki (k + 1)) else am) (by omega) (by omega) (by rw [ea]; simp [mAmt, mLay, c_126, c_141]) _ _ hR hS ls (lv_sub hl [0, 1, 4, 5] rfl)
              · refine lv_iload hx hb dX4_cost_129 (lv_at hl 3 rfl) ?_
                refine lv_iload hx hb dX4_cost_131 (lv_at hl 0 rfl) ?_
                refine lv_iadd hx hb dX4_cost_133 ?_
                refine lv_goto (tgt := 177) hx hb dX4_cost_134 (by decide) ?_
                refine lv_istore (lv' := [(5, .int (am + (S.2.1 23 ki (k + 1)))), (8, .int (S.2.1 23 ki (k + 1))), (7, .int (S.2.1 24 ki (k + 1))), (6, .int (nI (k + 1))), (0, .ref (ad (0, 0))), (1, .int kind)]) hx hb dX4_cost_177 hl (by decide) rfl (fun ls hl => ?_)
                refine lv_iinc (v := nI (k + 1 + 1)) (lv' := [(6, .int (nI (k + 1 + 1))), (5, .int (am + (S.2.1 23 ki (k + 1)))), (8, .int (S.2.1 23 ki (k + 1))), (7, .int (S.2.1 24 ki (k + 1))), (0, .ref (ad (0, 0))), (1, .int kind)]) hx hb dX4_cost_179 hl (k := 3) rfl (nI_1 _) (by decide) rfl (fun ls hl => ?_)
                refine lv_goto (tgt := 89) hx hb dX4_cost_182 (by decide) ?_
                exact ih89 (k + 1) (am + (S.2.1 23 ki (k + 1))) (by omega) (by omega) (by rw [ea]; simp [mAmt, mLay, c_126]) _ _ hR hS ls (lv_sub hl [0, 1, 4, 5] rfl)
        exact L89 (S.1 5 ki + 1) 0 _ (by omega) (by omega) (by rw [ef0]; rfl) _ _ hR hS ls (lv_sub hl [0, 1, 4, 5] rfl)
      · obtain ⟨j, rfl, rfl⟩ := mAsk_down ex (by omega) c_20
        refine lv_iload_n hx hb dX4_cost_23 rfl (lv_at hl 2 rfl) ?_
        refine lv_aload_n hx hb dX4_cost_24 rfl (lv_at hl 3 rfl) ?_
        refine g_X4_75 F hK (mw_0 hR) (v := .ref (ad (24, 0))) rfl dX4_cost_25 ?_
        refine lv_iload_n hx hb dX4_cost_28 rfl (lv_at hl 4 rfl) ?_
        refine x_aald hx hb hK (mw_24 hR) rfl rfl (v := .ref (ad (25, ki))) (xi.up h_kind (by omega)) (rfl) dX4_cost_29 ?_
        refine lv_iload hx hb dX4_cost_30 (lv_at hl 0 rfl) ?_
        refine x_cald hx hb hK (mw_25 hR (by have := (h_kind).lt; omega)) (v := .int (S.2.1 24 ki j)) (xi_nI (n := 6) (by omega) (by omega)) (rfl) dX4_cost_32 ?_
        refine lv_bipush (v := 100) hx hb dX4_cost_33 (by decide) ?_
        refine lv_icmp_ne (tgt := 56) hx hb dX4_cost_35 (by decide) (fun c_35 => ?_) (fun c_35 => ?_)
        · refine lv_iconst (v := 0) hx hb dX4_cost_56 (by decide) ?_
          refine lv_iadd hx hb dX4_cost_57 ?_
          refine lv_istore_n (lv' := [(3, .int (nv + 0)), (5, .int (nI j)), (4, .ref q4), (0, .ref (ad (0, 0))), (1, .int kind), (2, .int minutes)]) hx hb dX4_cost_58 rfl hl (by decide) rfl (fun ls hl => ?_)
          refine lv_aload hx hb dX4_cost_59 (lv_at hl 2 rfl) ?_
          refine lv_iload hx hb dX4_cost_61 (lv_at hl 1 rfl) ?_
          refine lv_iload_n hx hb dX4_cost_63 rfl (lv_at hl 0 rfl) ?_
          refine x_iast hx hb hK hS hq_q4 hA_q4 (xi_nI (n := 6) (by omega) (by omega)) dX4_cost_64 (fun H locs hat hof hS => ?_)
          have hq_q4 := xat.setI hat
          have hR := hR.off (mfr hfr_q4) hof
          refine lv_iinc (v := (nI j) + (-1)) (lv' := [(5, .int ((nI j) + (-1))), (3, .int (nv + 0)), (4, .ref q4), (0, .ref (ad (0, 0))), (1, .int kind), (2, .int minutes)]) hx hb dX4_cost_65 hl (k := 1) rfl (rfl) (by decide) rfl (fun ls hl => ?_)
          refine lv_goto (tgt := 18) hx hb dX4_cost_68 (by decide) ?_
          exact ih18 j _ (nv + 0) (upd f j (nv + 0)) (by omega) (by omega) (nI_m1 j) (by rw [← ef]; simp [mAsk, c_20, c_35]) _ _ hR hq_q4 hS ls (lv_sub hl [0, 2, 1, 3, 4, 5] rfl)
        · refine lv_iconst (v := 0) hx hb dX4_cost_38 (by decide) ?_
          refine lv_iload_n hx hb dX4_cost_39 rfl (lv_at hl 2 rfl) ?_
          refine lv_aload_n hx hb dX4_cost_40 rfl (lv_at hl 3 rfl) ?_
          refine g_X4_78 F hK (mw_0 hR) (v := .ref (ad (26, 0))) rfl dX4_cost_41 ?_
          refine lv_iload_n hx hb dX4_cost_44 rfl (lv_at hl 4 rfl) ?_
          refine x_aald hx hb hK (mw_26 hR) rfl rfl (v := .ref (ad (27, ki))) (xi.up h_kind (by omega)) (rfl) dX4_cost_45 ?_
          refine lv_iload hx hb dX4_cost_46 (lv_at hl 0 rfl) ?_
          refine x_iald hx hb hK (mw_27 hR (by have := (h_kind).lt; omega)) (v := .int (S.2.1 23 ki j)) (xi_nI (n := 6) (by omega) (by omega)) (rfl) dX4_cost_48 ?_
          refine lv_isub hx hb dX4_cost_49 ?_
          refine va_mmax hx hb (hml.trans hl.1.symm) hown (hts _ q1668) (hts _ q230) (hts _ q70) (hts _ q231) (Nat.le_of_ble_eq_true rfl) (Nat.le_of_ble_eq_true rfl) (Nat.le_of_ble_eq_true rfl) (Nat.le_of_ble_eq_true rfl) dX4_cost_50 ?_
          refine lv_goto (tgt := 57) hx hb dX4_cost_53 (by decide) ?_
          refine lv_iadd hx hb dX4_cost_57 ?_
          refine lv_istore_n (lv' := [(3, .int (nv + (if 0 < (nv - (S.2.1 23 ki j)) then (nv - (S.2.1 23 ki j)) else 0))), (5, .int (nI j)), (4, .ref q4), (0, .ref (ad (0, 0))), (1, .int kind), (2, .int minutes)]) hx hb dX4_cost_58 rfl hl (by decide) rfl (fun ls hl => ?_)
          refine lv_aload hx hb dX4_cost_59 (lv_at hl 2 rfl) ?_
          refine lv_iload hx hb dX4_cost_61 (lv_at hl 1 rfl) ?_
          refine lv_iload_n hx hb dX4_cost_63 rfl (lv_at hl 0 rfl) ?_
          refine x_iast hx hb hK hS hq_q4 hA_q4 (xi_nI (n := 6) (by omega) (by omega)) dX4_cost_64 (fun H locs hat hof hS => ?_)
          have hq_q4 := xat.setI hat
          have hR := hR.off (mfr hfr_q4) hof
          refine lv_iinc (v := (nI j) + (-1)) (lv' := [(5, .int ((nI j) + (-1))), (3, .int (nv + (if 0 < (nv - (S.2.1 23 ki j)) then (nv - (S.2.1 23 ki j)) else 0))), (4, .ref q4), (0, .ref (ad (0, 0))), (1, .int kind), (2, .int minutes)]) hx hb dX4_cost_65 hl (k := 1) rfl (rfl) (by decide) rfl (fun ls hl => ?_)
          refine lv_goto (tgt := 18) hx hb dX4_cost_68 (by decide) ?_
          exact ih18 j _ (nv + (if 0 < (nv - (S.2.1 23 ki j)) then (nv - (S.2.1 23 ki j)) else 0)) (upd f j (nv + (if 0 < (nv - (S.2.1 23 ki j)) then (nv - (S.2.1 23 ki j)) else 0))) (by omega) (by omega) (nI_m1 j) (by rw [← ef]; simp [mAsk, c_20, c_35]) _ _ hR hq_q4 hS ls (lv_sub hl [0, 2, 1, 3, 4, 5] rfl)
  exact L18 (S.1 5 ki + 1) (S.1 5 ki) _ minutes (fun _ => 0) (by omega) (by omega) rfl rfl _ _ hR hq_q4 hS ls (lv_sub hl [0, 1, 2, 3, 4, 5] rfl)

