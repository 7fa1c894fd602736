/-! contracts (printed by gen/mx3.py) -/
set_option maxRecDepth 100000
set_option maxHeartbeats 4000000 in
theorem xX1_soonN {l : Launch} {G : xG} {s0 : State} {b0 : Nat} (g1 : xG1 l G s0 b0) {A : Nat → Prop} {S : xS} {ad : Nat × Nat → Nat} {z : xZ} (start work : Int32) : Met l yX1_comesTooSoon (ws_ yX1_comesTooSoon cX1_comesTooSoon 4 (some .boolean)) ({ frames := 0, cells := 0, slots := 0, locals := 0 } : Room) (xP s0 A [.ref (ad (0, 0)), .null, .int start, .int work] (fun H => xRX G A S ad z H)) (xQp (some (.int (bI (xSoon S.2.1 start work none))))) 0 0 (fun _ => False) := by
  refine Met.ofW (cc := cX1_comesTooSoon) (maxL := 4) (ret := (some .boolean)) (by decide) rfl ?_
  intro p e s m args below meth c s₁ B hml hv
  obtain ⟨rfl, hWK, hR⟩ := hv
  have g := g1.1
  have hx := B.exec
  have hb := B.bytes
  have hr := B.returns
  have hts := atoms_spec (ws := ws_ yX1_comesTooSoon cX1_comesTooSoon 4 (some .boolean)) B.pre
  have hts : ∀ w ∈ lw_all, w.before _ s = true := fun w h => hts w (List.mem_cons_of_mem _ h)
  have hown : s.vm.findClass "Lendlathe" = some m.cls := findClass_of_methodNamed B.named
  have hlocks := B.notSynchronized
  have hK := hWK.K g
  have F : CallFix p m c cX1_comesTooSoon 4 s _ lw_all "Lendlathe" := ⟨hx, hb, hml, hown, hts⟩
  have hS : va_S A s.heap s.heap [] := va_S.rf
  have hl := lv_entry ([.ref (ad (0, 0)), .null, .int start, .int work]) (n := 4) (Nat.le_of_ble_eq_true rfl)
  rw [lg_entry_eq]
  generalize (lg_sl ([.ref (ad (0, 0)), .null, .int start, .int work]) ++ List.replicate (4 - (lg_sl ([.ref (ad (0, 0)), .null, .int start, .int work])).length) Slot.unset).toArray = ls at hl ⊢
  have hl : lv_has ls 4 [(0, .ref (ad (0, 0))), (1, .null), (2, .int start), (3, .int work)] := hl
  refine lv_aload_nN hx hb dX1_comesTooSoon_0 rfl (lv_at hl 1 rfl) ?_
  refine lv_ifnullN (tgt := 30) hx hb dX1_comesTooSoon_1 (by decide) ?_
  refine lv_iconst (v := 0) hx hb dX1_comesTooSoon_30 (by decide) ?_
  exact xr_Pz hx hb hr hlocks ((bI_f (by first | rfl | simp [xSoon])).symm) dX1_comesTooSoon_31

set_option maxHeartbeats 4000000 in
theorem xX1_soonR {l : Launch} {G : xG} {s0 : State} {b0 : Nat} (g1 : xG1 l G s0 b0) {A : Nat → Prop} {S : xS} {ad : Nat × Nat → Nat} {z : xZ} (en : Nat) (start work : Int32) (he : en < S.1 2 0) (hW : xW S) : Met l yX1_comesTooSoon (ws_ yX1_comesTooSoon cX1_comesTooSoon 4 (some .boolean)) ({ frames := 4, cells := 0, slots := 0, locals := 87 } : Room) (xP s0 A [.ref (ad (0, 0)), .ref (ad (23, en)), .int start, .int work] (fun H => xRX G A S ad z H)) (xQp (some (.int (bI (xSoon S.2.1 start work (some en)))))) 0 0 (fun _ => False) := by
  refine Met.ofW (cc := cX1_comesTooSoon) (maxL := 4) (ret := (some .boolean)) (by decide) rfl ?_
  intro p e s m args below meth c s₁ B hml hv
  obtain ⟨rfl, hWK, hR⟩ := hv
  have g := g1.1
  have hx := B.exec
  have hb := B.bytes
  have hr := B.returns
  have hts := atoms_spec (ws := ws_ yX1_comesTooSoon cX1_comesTooSoon 4 (some .boolean)) B.pre
  have hts : ∀ w ∈ lw_all, w.before _ s = true := fun w h => hts w (List.mem_cons_of_mem _ h)
  have hown : s.vm.findClass "Lendlathe" = some m.cls := findClass_of_methodNamed B.named
  have hlocks := B.notSynchronized
  have hK := hWK.K g
  have F : CallFix p m c cX1_comesTooSoon 4 s _ lw_all "Lendlathe" := ⟨hx, hb, hml, hown, hts⟩
  have hS : va_S A s.heap s.heap [] := va_S.rf
  have hl := lv_entry ([.ref (ad (0, 0)), .ref (ad (23, en)), .int start, .int work]) (n := 4) (Nat.le_of_ble_eq_true rfl)
  rw [lg_entry_eq]
  generalize (lg_sl ([.ref (ad (0, 0)), .ref (ad (23, en)), .int start, .int work]) ++ List.replicate (4 - (lg_sl ([.ref (ad (0, 0)), .ref (ad (23, en)), .int start, .int work])).length) Slot.unset).toArray = ls at hl ⊢
  have hl : lv_has ls 4 [(0, .ref (ad (0, 0))), (1, .ref (ad (23, en))), (2, .int start), (3, .int work)] := hl
  have hn0 := hW.1.1
  have hn1 := hW.1.2.1
  have hn2 := hW.1.2.2.1
  have hn3 := hW.1.2.2.2.1
  have hn4 := hW.1.2.2.2.2
  refine lv_aload_n hx hb dX1_comesTooSoon_0 rfl (lv_at hl 1 rfl) ?_
  refine lv_ifnull hx hb dX1_comesTooSoon_1 ?_
  refine lv_iload_n hx hb dX1_comesTooSoon_4 rfl (lv_at hl 2 rfl) ?_
  refine lv_aload_n hx hb dX1_comesTooSoon_5 rfl (lv_at hl 1 rfl) ?_
  refine xc_P (va_runU (As := []) (rest := [.int start]) F (xX7_end g1 (A := A) (S := S) (ad := ad) (z := z) en he) (va_cwU (x := ⟨"Lendlathe$Entry", "end", "()I"⟩) (C := "Lendlathe$Entry") (owner := "Lendlathe$Stay") 0 hts (lw_U q599 q600 q602 q522 q88 q525) rfl rfl rfl rfl (by decide +kernel) ⟨Nat.le_of_ble_eq_true rfl, Nat.le_of_ble_eq_true rfl⟩) (xpreV (xrecv hK (xw_23 hR he) rfl) hWK hS hR) rfl rfl hl.1 rfl (lv_room (Nat.le_of_ble_eq_true rfl)) dX1_comesTooSoon_6 ⟨Nat.le_of_ble_eq_true rfl, Nat.le_of_ble_eq_true rfl⟩) ?_
  refine lv_isub hx hb dX1_comesTooSoon_9 ?_
  refine lv_aload_n hx hb dX1_comesTooSoon_10 rfl (lv_at hl 0 rfl) ?_
  refine lv_aload_n hx hb dX1_comesTooSoon_11 rfl (lv_at hl 1 rfl) ?_
  refine g_X1_194 F hK (xw_23 hR he) (v := .int (S.2.1 11 en 0)) rfl dX1_comesTooSoon_12 ?_
  refine lv_aload_n hx hb dX1_comesTooSoon_15 rfl (lv_at hl 1 rfl) ?_
  refine g_X1_181 F hWK g hK (xw_23 hR he) (v := .int (S.2.1 15 en 0)) rfl dX1_comesTooSoon_16 ?_
  refine lv_iload_n hx hb dX1_comesTooSoon_19 rfl (lv_at hl 3 rfl) ?_
  refine xc_P (va_runV (As := [.int (S.2.1 11 en 0), .int (S.2.1 15 en 0), .int work]) (rest := [.int (start - (mEnd S.2.1 en))]) F (xX1_setup g1 (A := A) (S := S) (ad := ad) (z := z) (S.2.1 15 en 0) work (xi.up (xi_of (hW.mac (e := en) (by first | assumption | omega))) (by first | omega | exact Nat.le_refl _)) hW) (cwV 3 hts (lw_V q591 q593 qs5 q56 q594) rfl rfl rfl hdV_X1_setup ⟨Nat.le_of_ble_eq_true rfl, Nat.le_of_ble_eq_true rfl⟩) (xpreV (xrecv hK (xw_0 hR) rfl) hWK hS hR) rfl rfl hl.1 rfl (lv_room (Nat.le_of_ble_eq_true rfl)) dX1_comesTooSoon_20 ⟨Nat.le_of_ble_eq_true rfl, Nat.le_of_ble_eq_true rfl⟩) ?_
  refine lv_icmp_ge (tgt := 30) hx hb dX1_comesTooSoon_23 (by decide) (fun c_23 => ?_) (fun c_23 => ?_)
  · have n_23 := Int32.not_lt.mpr c_23
    refine lv_iconst (v := 0) hx hb dX1_comesTooSoon_30 (by decide) ?_
    exact xr_Pz hx hb hr hlocks ((bI_f (by first | rfl | simp [xSoon, c_23, n_23])).symm) dX1_comesTooSoon_31
  · have n_23 := Int32.not_le.mp c_23
    refine lv_iconst (v := 1) hx hb dX1_comesTooSoon_26 (by decide) ?_
    refine lv_goto (tgt := 31) hx hb dX1_comesTooSoon_27 (by decide) ?_
    exact xr_Pz hx hb hr hlocks ((bI_t (by first | rfl | simp [xSoon, c_23, n_23])).symm) dX1_comesTooSoon_31

set_option maxHeartbeats 4000000 in
theorem xX1_isBusy {l : Launch} {G : xG} {s0 : State} {b0 : Nat} (g1 : xG1 l G s0 b0) {A : Nat → Prop} {S : xS} {ad : Nat × Nat → Nat} {z : xZ} (member on start minutes work : Int32) {machine : Int32} {mac : Nat} (h_machine : xi machine mac (S.1 0 0)) (hW : xW S) : Met l yX1_isBusy (ws_ yX1_isBusy cX1_isBusy 11 (some .boolean)) ({ frames := 5, cells := 0, slots := 0, locals := 110 } : Room) (xP s0 A [.ref (ad (0, 0)), .int member, .int machine, .int on, .int start, .int minutes, .int work] (fun H => xRX G A S ad z H)) (xQc (some (.int (bI (xBusy S machine on start minutes work)))) (fun _ H => ∃ z9, xRX G A S ad z9 H) A) 0 0 A := by
  refine Met.ofW (cc := cX1_isBusy) (maxL := 11) (ret := (some .boolean)) (by decide) rfl ?_
  intro p e s m args below meth c s₁ B hml hv
  obtain ⟨rfl, hWK, hR⟩ := hv
  have g := g1.1
  have hx := B.exec
  have hb := B.bytes
  have hr := B.returns
  have hts := atoms_spec (ws := ws_ yX1_isBusy cX1_isBusy 11 (some .boolean)) B.pre
  have hts : ∀ w ∈ lw_all, w.before _ s = true := fun w h => hts w (List.mem_cons_of_mem _ h)
  have hown : s.vm.findClass "Lendlathe" = some m.cls := findClass_of_methodNamed B.named
  have hlocks := B.notSynchronized
  have hK := hWK.K g
  have F : CallFix p m c cX1_isBusy 11 s _ lw_all "Lendlathe" := ⟨hx, hb, hml, hown, hts⟩
  have hS : va_S A s.heap s.heap [] := va_S.rf
  have hl := lv_entry ([.ref (ad (0, 0)), .int member, .int machine, .int on, .int start, .int minutes, .int work]) (n := 11) (Nat.le_of_ble_eq_true rfl)
  rw [lg_entry_eq]
  generalize (lg_sl ([.ref (ad (0, 0)), .int member, .int machine, .int on, .int start, .int minutes, .int work]) ++ List.replicate (11 - (lg_sl ([.ref (ad (0, 0)), .int member, .int machine, .int on, .int start, .int minutes, .int work])).length) Slot.unset).toArray = ls at hl ⊢
  have hl : lv_has ls 11 [(0, .ref (ad (0, 0))), (1, .int member), (2, .int machine), (3, .int on), (4, .int start), (5, .int minutes), (6, .int work)] := hl
  have hn0 := hW.1.1
  have hn1 := hW.1.2.1
  have hn2 := hW.1.2.2.1
  have hn3 := hW.1.2.2.2.1
  have hn4 := hW.1.2.2.2.2
  refine lv_iload hx hb dX1_isBusy_0 (lv_at hl 4 rfl) ?_
  refine lv_iload hx hb dX1_isBusy_2 (lv_at hl 5 rfl) ?_
  refine lv_iadd hx hb dX1_isBusy_4 ?_
  refine lv_istore (lv' := [(7, .int (start + minutes)), (0, .ref (ad (0, 0))), (1, .int member), (2, .int machine), (3, .int on), (4, .int start), (5, .int minutes), (6, .int work)]) hx hb dX1_isBusy_5 hl (by decide) rfl (fun ls hl => ?_)
  refine lv_null hx hb dX1_isBusy_7 ?_
  refine lv_astoreN (lv' := [(8, .null), (7, .int (start + minutes)), (0, .ref (ad (0, 0))), (1, .int member), (2, .int machine), (3, .int on), (4, .int start), (5, .int minutes), (6, .int work)]) hx hb dX1_isBusy_8 hl (by decide) rfl (fun ls hl => ?_)
  refine lv_aload_n hx hb dX1_isBusy_10 rfl (lv_at hl 2 rfl) ?_
  refine g_X1_53 F hK (xw_0 hR) (v := .ref (ad (10, 0))) rfl dX1_isBusy_11 ?_
  refine lv_iload_n hx hb dX1_isBusy_14 rfl (lv_at hl 4 rfl) ?_
  refine lv_iload_n hx hb dX1_isBusy_15 rfl (lv_at hl 5 rfl) ?_
  refine xc_C (va_runV (As := [.int machine, .int on]) (rest := []) F (xX3_over g1 (A := A) (S := S) (ad := ad) (z := z) machine on hW) (cwV 2 hts (lw_V q529 q530 q531 q77 q532) rfl rfl rfl hdV_X3_over ⟨Nat.le_of_ble_eq_true rfl, Nat.le_of_ble_eq_true rfl⟩) (xpreV (xrecv hK (xw_10 hR) rfl) hWK hS hR) rfl rfl hl.1 rfl (lv_room (Nat.le_of_ble_eq_true rfl)) dX1_isBusy_16 ⟨Nat.le_of_ble_eq_true rfl, Nat.le_of_ble_eq_true rfl⟩) hS (fun H locs hR1 hz hk hS => ?_)
  obtain ⟨zo, hR, hrow⟩ := hR1
  have hlen : (xOverN S.2.1 machine on (S.1 2 0)).length ≤ 150 := Nat.le_trans (xOverN_len _ _ _ _) (by omega)
  obtain ⟨Lx, hLx⟩ : ∃ Lx, Lx = xOverN S.2.1 machine on (S.1 2 0) := ⟨_, rfl⟩
  rw [← hLx] at hrow hlen
  have hLlt : ∀ k en : Nat, Lx[k]? = some en → en < S.1 2 0 := fun k en hq => xOverN_at (by rw [← hLx]; exact hq)
  refine xc_C (va_runV (As := []) (rest := []) F (xX3_iterator g1 (A := A) (S := S) (ad := ad) (z := zo) ) (cwV 0 hts (lw_V q543 q544 q545 q77 q546) rfl rfl rfl hdV_X3_iterator ⟨Nat.le_of_ble_eq_true rfl, Nat.le_of_ble_eq_true rfl⟩) (xpreV (xrecv hK (xw_10 hR) rfl) hWK hS hR) rfl rfl hl.1 rfl (lv_room (Nat.le_of_ble_eq_true rfl)) dX1_isBusy_19 ⟨Nat.le_of_ble_eq_true rfl, Nat.le_of_ble_eq_true rfl⟩) hS (fun H locs hR1 hz hk hS => ?_)
  have hR := hR1
  refine lv_astore (lv' := [(9, .ref (ad (10, 0))), (8, .null), (7, .int (start + minutes)), (0, .ref (ad (0, 0))), (1, .int member), (2, .int machine), (3, .int on), (4, .int start), (5, .int minutes), (6, .int work)]) hx hb dX1_isBusy_22 hl (by decide) rfl (fun ls hl => ?_)
  have L24 : ∀ (n : Nat) (j : Nat) (z1 : xZ) (lv : Value) (la : Option Nat), Lx.length - j < n → (j ≤ Lx.length) → (xRow ad z1 Lx) → (z1.2.2 = nI j) → ((lv = .null ∧ la = none) ∨ ∃ a, a < S.1 2 0 ∧ lv = .ref (ad (23, a)) ∧ la = some a) → (xBusyL S.2.1 mac start (start + minutes) work (Lx.drop j) la = xBusyL S.2.1 mac start (start + minutes) work Lx none) → ∀ (H : Heap) (locs : List Loc), xRX G A S ad z1 H → va_S A s.heap H locs → ∀ (ls : Array Slot), lv_has ls 11 [(9, .ref (ad (10, 0))), (8, lv), (7, .int (start + minutes)), (0, .ref (ad (0, 0))), (1, .int member), (2, .int machine), (3, .int on), (4, .int start), (5, .int minutes), (6, .int work)] → W p l e (headSpec (ws_ yX1_isBusy cX1_isBusy 11 (some .boolean)) ({ frames := 5, cells := 0, slots := 0, locals := 110 } : Room)).room s m ([.ref (ad (0, 0)), .int member, .int machine, .int on, .int start, .int minutes, .int work] : List Value).toArray below meth c H locs 0 0 (MQ below (xQc (some (.int (bI (xBusy S machine on start minutes work)))) (fun _ H => ∃ z9, xRX G A S ad z9 H) A) ([.ref (ad (0, 0)), .int member, .int machine, .int on, .int start, .int minutes, .int work] : List Value).toArray s 0 0 A) (F0 m 24 ls []) := by
    intro n24
    induction n24 with
    | zero =>
      intro j z1 lv la hn24
      exact absurd hn24 (Nat.not_lt_zero _)
    | succ n24 ih24 =>
      intro j z1 lv la hn24 hjl hrow hj hlast hbz H locs hR hS ls hl
      refine lv_aload hx hb dX1_isBusy_24 (lv_at hl 0 rfl) ?_
      refine xc5_P (va_runF (As := []) (rest := []) (xClassAt hK (ci := 3) rfl) F (xX3_hasNext g1 (A := A) (S := S) (ad := ad) (z := z1) ) (va_cwF (x := ⟨"java/util/Iterator", "hasNext", "()Z"⟩) (C := "Lendlathe$Walk") 0 hts (lw_F q548 q552 q554 q77 q556) rfl rfl rfl (xnW hWK g (by decide) q550 q549 q555 q553 q551) (by decide +kernel) ⟨Nat.le_of_ble_eq_true rfl, Nat.le_of_ble_eq_true rfl⟩) (xpreV (xrecv hK (xw_10 hR) rfl) hWK hS hR) rfl rfl hl.1 rfl (lv_room (Nat.le_of_ble_eq_true rfl)) dX1_isBusy_26 ⟨Nat.le_of_ble_eq_true rfl, Nat.le_of_ble_eq_true rfl⟩) ?_
      refine x_ifeq (tgt := 119) hx hb dX1_isBusy_31 (by decide) (fun c_31 => ?_) (fun c_31 => ?_)
      · have c_31 := of_decide_eq_false c_31
        have hje := walk_end hj hrow.1 hjl hlen c_31
        have hed : Lx.drop j = [] := by rw [hje]; exact List.drop_length
        rcases hlast with ⟨rfl, rfl⟩ | ⟨a, han, rfl, rfl⟩
        · refine lv_aload_n hx hb dX1_isBusy_119 rfl (lv_at hl 3 rfl) ?_
          refine lv_aloadN hx hb dX1_isBusy_120 (lv_at hl 1 rfl) ?_
          refine lv_iload hx hb dX1_isBusy_122 (lv_at hl 7 rfl) ?_
          refine lv_iload hx hb dX1_isBusy_124 (lv_at hl 9 rfl) ?_
          refine xc_P (va_runV (As := [.null, .int start, .int work]) (rest := []) F (xX1_soonN g1 (A := A) (S := S) (ad := ad) (z := z1) start work) (cwV 3 hts (lw_V q595 q597 qs6 q56 q598) rfl rfl rfl hdV_X1_comesTooSoon ⟨Nat.le_of_ble_eq_true rfl, Nat.le_of_ble_eq_true rfl⟩) (xpreV (xrecv hK (xw_0 hR) rfl) hWK hS hR) rfl rfl hl.1 rfl (lv_room (Nat.le_of_ble_eq_true rfl)) dX1_isBusy_126 ⟨Nat.le_of_ble_eq_true rfl, Nat.le_of_ble_eq_true rfl⟩) ?_
          have hB : xBusy S machine on start minutes work = xBusyL S.2.1 mac start (start + minutes) work (Lx.drop j) none := by unfold xBusy; rw [h_machine.2, ← hLx, hbz]
          exact xr_Cz hx hb hr hlocks (congrArg bI (by rw [hB, hed]; rfl)) (⟨_, hR⟩) hS (by first | omega | decide) (by first | omega | decide) dX1_isBusy_129
        · refine lv_aload_n hx hb dX1_isBusy_119 rfl (lv_at hl 3 rfl) ?_
          refine lv_aload hx hb dX1_isBusy_120 (lv_at hl 1 rfl) ?_
          refine lv_iload hx hb dX1_isBusy_122 (lv_at hl 7 rfl) ?_
          refine lv_iload hx hb dX1_isBusy_124 (lv_at hl 9 rfl) ?_
          refine xc_P (va_runV (As := [.ref (ad (23, a)), .int start, .int work]) (rest := []) F (xX1_soonR g1 (A := A) (S := S) (ad := ad) (z := z1) a start work han hW) (cwV 3 hts (lw_V q595 q597 qs6 q56 q598) rfl rfl rfl hdV_X1_comesTooSoon ⟨Nat.le_of_ble_eq_true rfl, Nat.le_of_ble_eq_true rfl⟩) (xpreV (xrecv hK (xw_0 hR) rfl) hWK hS hR) rfl rfl hl.1 rfl (lv_room (Nat.le_of_ble_eq_true rfl)) dX1_isBusy_126 ⟨Nat.le_of_ble_eq_true rfl, Nat.le_of_ble_eq_true rfl⟩) ?_
          have hB : xBusy S machine on start minutes work = xBusyL S.2.1 mac start (start + minutes) work (Lx.drop j) (some a) := by unfold xBusy; rw [h_machine.2, ← hLx, hbz]
          exact xr_Cz hx hb hr hlocks (congrArg bI (by rw [hB, hed]; rfl)) (⟨_, hR⟩) hS (by first | omega | decide) (by first | omega | decide) dX1_isBusy_129
      · have c_31 := of_decide_eq_true c_31
        have hjl2 := walk_more hj hrow.1 ⟨hlen, hjl⟩ c_31
        obtain ⟨en, he⟩ : ∃ en, Lx[j]? = some en := ⟨_, List.getElem?_eq_getElem hjl2⟩
        have hen := hLlt j en he
        have hed := drop_at he
        rcases hlast with ⟨rfl, rfl⟩ | ⟨a, han, rfl, rfl⟩
        · refine lv_aload hx hb dX1_isBusy_34 (lv_at hl 0 rfl) ?_
          refine xc5_C (va_runF (As := []) (rest := []) (xClassAt hK (ci := 3) rfl) F (xX3_next g1 (A := A) (S := S) (ad := ad) (z := z1) j en Lx hrow hj he hen hlen) (va_cwF (x := ⟨"java/util/Iterator", "next", "()Ljava/lang/Object;"⟩) (C := "Lendlathe$Walk") 0 hts (lw_F q558 q561 q563 q77 q565) rfl rfl rfl (xnW hWK g (by decide) q560 q559 q564 q562 q551) (by decide +kernel) ⟨Nat.le_of_ble_eq_true rfl, Nat.le_of_ble_eq_true rfl⟩) (xpreV (xrecv hK (xw_10 hR) rfl) hWK hS hR) rfl rfl hl.1 rfl (lv_room (Nat.le_of_ble_eq_true rfl)) dX1_isBusy_36 ⟨Nat.le_of_ble_eq_true rfl, Nat.le_of_ble_eq_true rfl⟩) hS (fun H locs hR1 hz hk hS => ?_)
          have hR := hR1
          refine x_castO F hK rfl (xw_23 hR hen) (hts _ q514) dX1_isBusy_41 ?_
          refine lv_astore (lv' := [(10, .ref (ad (23, en))), (9, .ref (ad (10, 0))), (8, .null), (7, .int (start + minutes)), (0, .ref (ad (0, 0))), (1, .int member), (2, .int machine), (3, .int on), (4, .int start), (5, .int minutes), (6, .int work)]) hx hb dX1_isBusy_44 hl (by decide) rfl (fun ls hl => ?_)
          refine lv_aload hx hb dX1_isBusy_46 (lv_at hl 0 rfl) ?_
          refine lv_iload hx hb dX1_isBusy_48 (lv_at hl 8 rfl) ?_
          refine lv_iload hx hb dX1_isBusy_50 (lv_at hl 3 rfl) ?_
          refine xc_P (va_runU (As := [.int start, .int (start + minutes)]) (rest := []) F (xX7_overlaps g1 (A := A) (S := S) (ad := ad) (z := (z1.1, z1.2.1, nI (j + 1))) en start (start + minutes) hen) (va_cwU (x := ⟨"Lendlathe$Entry", "overlaps", "(II)Z"⟩) (C := "Lendlathe$Entry") (owner := "Lendlathe$Stay") 2 hts (lw_U q515 q516 q518 q519 q88 q520) rfl rfl rfl rfl (by decide +kernel) ⟨Nat.le_of_ble_eq_true rfl, Nat.le_of_ble_eq_true rfl⟩) (xpreV (xrecv hK (xw_23 hR hen) rfl) hWK hS hR) rfl rfl hl.1 rfl (lv_room (Nat.le_of_ble_eq_true rfl)) dX1_isBusy_52 ⟨Nat.le_of_ble_eq_true rfl, Nat.le_of_ble_eq_true rfl⟩) ?_
          refine x_ifeq (tgt := 60) hx hb dX1_isBusy_55 (by decide) (fun c_55 => ?_) (fun c_55 => ?_)
          · refine lv_aload hx hb dX1_isBusy_60 (lv_at hl 0 rfl) ?_
            refine g_X1_178 F hK (xw_23 hR hen) (v := .int (S.2.1 13 en 0)) rfl dX1_isBusy_62 ?_
            refine lv_iload hx hb dX1_isBusy_65 (lv_at hl 3 rfl) ?_
            refine lv_icmp_lt (tgt := 112) hx hb dX1_isBusy_67 (by decide) (fun c_67 => ?_) (fun c_67 => ?_)
            · have n_67 := Int32.not_le.mpr c_67
              refine lv_aload hx hb dX1_isBusy_112 (lv_at hl 0 rfl) ?_
              refine lv_astore (lv' := [(8, .ref (ad (23, en))), (10, .ref (ad (23, en))), (9, .ref (ad (10, 0))), (7, .int (start + minutes)), (0, .ref (ad (0, 0))), (1, .int member), (2, .int machine), (3, .int on), (4, .int start), (5, .int minutes), (6, .int work)]) hx hb dX1_isBusy_114 hl (by decide) rfl (fun ls hl => ?_)
              refine lv_goto (tgt := 24) hx hb dX1_isBusy_116 (by decide) ?_
              exact ih24 (j + 1) (z1.1, z1.2.1, nI (j + 1)) (.ref (ad (23, en))) (some en) (by omega) (by omega) ⟨hrow.1, hrow.2⟩ rfl (Or.inr ⟨en, hen, rfl, rfl⟩) (by rw [← hbz, hed]; simp [xBusyL, c_55, c_67, n_67]) _ _ hR hS ls (lv_sub hl [2, 0, 3, 4, 5, 6, 7, 8, 9, 10] rfl)
            · have n_67 := Int32.not_lt.mp c_67
              refine lv_aload hx hb dX1_isBusy_70 (lv_at hl 0 rfl) ?_
              refine g_X1_178 F hK (xw_23 hR hen) (v := .int (S.2.1 13 en 0)) rfl dX1_isBusy_72 ?_
              refine lv_iload hx hb dX1_isBusy_75 (lv_at hl 3 rfl) ?_
              refine lv_isub hx hb dX1_isBusy_77 ?_
              refine lv_aload_n hx hb dX1_isBusy_78 rfl (lv_at hl 4 rfl) ?_
              refine lv_iload_n hx hb dX1_isBusy_79 rfl (lv_at hl 6 rfl) ?_
              refine lv_aload hx hb dX1_isBusy_80 (lv_at hl 0 rfl) ?_
              refine g_X1_181 F hWK g hK (xw_23 hR hen) (v := .int (S.2.1 15 en 0)) rfl dX1_isBusy_82 ?_
              refine lv_iload hx hb dX1_isBusy_85 (lv_at hl 10 rfl) ?_
              refine xc_P (va_runV (As := [.int machine, .int (S.2.1 15 en 0), .int work]) (rest := [.int ((S.2.1 13 en 0) - (start + minutes))]) F (xX1_setup g1 (A := A) (S := S) (ad := ad) (z := (z1.1, z1.2.1, nI (j + 1))) (S.2.1 15 en 0) work (xi.up h_machine (by omega)) hW) (cwV 3 hts (lw_V q591 q593 qs5 q56 q594) rfl rfl rfl hdV_X1_setup ⟨Nat.le_of_ble_eq_true rfl, Nat.le_of_ble_eq_true rfl⟩) (xpreV (xrecv hK (xw_0 hR) rfl) hWK hS hR) rfl rfl hl.1 rfl (lv_room (Nat.le_of_ble_eq_true rfl)) dX1_isBusy_87 ⟨Nat.le_of_ble_eq_true rfl, Nat.le_of_ble_eq_true rfl⟩) ?_
              refine lv_icmp_lt (tgt := 106) hx hb dX1_isBusy_90 (by decide) (fun c_90 => ?_) (fun c_90 => ?_)
              · have n_90 := Int32.not_le.mpr c_90
                refine lv_iconst (v := 1) hx hb dX1_isBusy_106 (by decide) ?_
                refine lv_goto (tgt := 111) hx hb dX1_isBusy_107 (by decide) ?_
                have hB : xBusy S machine on start minutes work = xBusyL S.2.1 mac start (start + minutes) work (Lx.drop j) none := by unfold xBusy; rw [h_machine.2, ← hLx, hbz]
                exact xr_Cz hx hb hr hlocks ((by rw [hB, hed]; simp [xBusyL, bI, c_55, c_67, c_90, n_67, n_90])) (⟨_, hR⟩) hS (by first | omega | decide) (by first | omega | decide) dX1_isBusy_111
              · have n_90 := Int32.not_lt.mp c_90
                refine lv_aload_n hx hb dX1_isBusy_93 rfl (lv_at hl 4 rfl) ?_
                refine lv_aloadN hx hb dX1_isBusy_94 (lv_at hl 2 rfl) ?_
                refine lv_iload hx hb dX1_isBusy_96 (lv_at hl 8 rfl) ?_
                refine lv_iload hx hb dX1_isBusy_98 (lv_at hl 10 rfl) ?_
                refine xc_P (va_runV (As := [.null, .int start, .int work]) (rest := []) F (xX1_soonN g1 (A := A) (S := S) (ad := ad) (z := (z1.1, z1.2.1, nI (j + 1))) start work) (cwV 3 hts (lw_V q595 q597 qs6 q56 q598) rfl rfl rfl hdV_X1_comesTooSoon ⟨Nat.le_of_ble_eq_true rfl, Nat.le_of_ble_eq_true rfl⟩) (xpreV (xrecv hK (xw_0 hR) rfl) hWK hS hR) rfl rfl hl.1 rfl (lv_room (Nat.le_of_ble_eq_true rfl)) dX1_isBusy_100 ⟨Nat.le_of_ble_eq_true rfl, Nat.le_of_ble_eq_true rfl⟩) ?_
                refine x_ifeq (tgt := 110) hx hb dX1_isBusy_103 (by decide) (fun c_103 => ?_) (fun c_103 => ?_)
                · refine lv_iconst (v := 0) hx hb dX1_isBusy_110 (by decide) ?_
                  have hB : xBusy S machine on start minutes work = xBusyL S.2.1 mac start (start + minutes) work (Lx.drop j) none := by unfold xBusy; rw [h_machine.2, ← hLx, hbz]
                  exact xr_Cz hx hb hr hlocks ((by rw [hB, hed]; simp [xBusyL, bI, c_55, c_67, c_90, c_103, n_67, n_90])) (⟨_, hR⟩) hS (by first | omega | decide) (by first | omega | decide) dX1_isBusy_111
                · refine lv_iconst (v := 1) hx hb dX1_isBusy_106 (by decide) ?_
                  refine lv_goto (tgt := 111) hx hb dX1_isBusy_107 (by decide) ?_
                  have hB : xBusy S machine on start minutes work = xBusyL S.2.1 mac start (start + minutes) work (Lx.drop j) none := by unfold xBusy; rw [h_machine.2, ← hLx, hbz]
                  exact xr_Cz hx hb hr hlocks ((by rw [hB, hed]; simp [xBusyL, bI, c_55, c_67, c_90, c_103, n_67, n_90])) (⟨_, hR⟩) hS (by first | omega | decide) (by first | omega | decide) dX1_isBusy_111
          · refine lv_iconst (v := 1) hx hb dX1_isBusy_58 (by decide) ?_
            have hB : xBusy S machine on start minutes work = xBusyL S.2.1 mac start (start + minutes) work (Lx.drop j) none := by unfold xBusy; rw [h_machine.2, ← hLx, hbz]
            exact xr_Cz hx hb hr hlocks ((by rw [hB, hed]; simp [xBusyL, bI, c_55])) (⟨_, hR⟩) hS (by first | omega | decide) (by first | omega | decide) dX1_isBusy_59
        · refine lv_aload hx hb dX1_isBusy_34 (lv_at hl 0 rfl) ?_
          refine xc5_C (va_runF (As := []) (rest := []) (xClassAt hK (ci := 3) rfl) F (xX3_next g1 (A := A) (S := S) (ad := ad) (z := z1) j en Lx hrow hj he hen hlen) (va_cwF (x := ⟨"java/util/Iterator", "next", "()Ljava/lang/Object;"⟩) (C := "Lendlathe$Walk") 0 hts (lw_F q558 q561 q563 q77 q565) rfl rfl rfl (xnW hWK g (by decide) q560 q559 q564 q562 q551) (by decide +kernel) ⟨Nat.le_of_ble_eq_true rfl, Nat.le_of_ble_eq_true rfl⟩) (xpreV (xrecv hK (xw_10 hR) rfl) hWK hS hR) rfl rfl hl.1 rfl (lv_room (Nat.le_of_ble_eq_true rfl)) dX1_isBusy_36 ⟨Nat.le_of_ble_eq_true rfl, Nat.le_of_ble_eq_true rfl⟩) hS (fun H locs hR1 hz hk hS => ?_)
          have hR := hR1
          refine x_castO F hK rfl (xw_23 hR hen) (hts _ q514) dX1_isBusy_41 ?_
          refine lv_astore (lv' := [(10, .ref (ad (23, en))), (9, .ref (ad (10, 0))), (8, .ref (ad (23, a))), (7, .int (start + minutes)), (0, .ref (ad (0, 0))), (1, .int member), (2, .int machine), (3, .int on), (4, .int start), (5, .int minutes), (6, .int work)]) hx hb dX1_isBusy_44 hl (by decide) rfl (fun ls hl => ?_)
          refine lv_aload hx hb dX1_isBusy_46 (lv_at hl 0 rfl) ?_
          refine lv_iload hx hb dX1_isBusy_48 (lv_at hl 8 rfl) ?_
          refine lv_iload hx hb dX1_isBusy_50 (lv_at hl 3 rfl) ?_
          refine xc_P (va_runU (As := [.int start, .int (start + minutes)]) (rest := []) F (xX7_overlaps g1 (A := A) (S := S) (ad := ad) (z := (z1.1, z1.2.1, nI (j + 1))) en start (start + minutes) hen) (va_cwU (x := ⟨"Lendlathe$Entry", "overlaps", "(II)Z"⟩) (C := "Lendlathe$Entry") (owner := "Lendlathe$Stay") 2 hts (lw_U q515 q516 q518 q519 q88 q520) rfl rfl rfl rfl (by decide +kernel) ⟨Nat.le_of_ble_eq_true rfl, Nat.le_of_ble_eq_true rfl⟩) (xpreV (xrecv hK (xw_23 hR hen) rfl) hWK hS hR) rfl rfl hl.1 rfl (lv_room (Nat.le_of_ble_eq_true rfl)) dX1_isBusy_52 ⟨Nat.le_of_ble_eq_true rfl, Nat.le_of_ble_eq_true rfl⟩) ?_
          refine x_ifeq (tgt := 60) hx hb dX1_isBusy_55 (by decide) (fun c_55 => ?_) (fun c_55 => ?_)
          · refine lv_aload hx hb dX1_isBusy_60 (lv_at hl 0 rfl) ?_
            refine g_X1_178 F hK (xw_23 hR hen) (v := .int (S.2.1 13 en 0)) rfl dX1_isBusy_62 ?_
            refine lv_iload hx hb dX1_isBusy_65 (lv_at hl 3 rfl) ?_
            refine lv_icmp_lt (tgt := 112) hx hb dX1_isBusy_67 (by decide) (fun c_67 => ?_) (fun c_67 => ?_)
            · have n_67 := Int32.not_le.mpr c_67
              refine lv_aload hx hb dX1_isBusy_112 (lv_at hl 0 rfl) ?_
              refine lv_astore (lv' := [(8, .ref (ad (23, en))), (10, .ref (ad (23, en))), (9, .ref (ad (10, 0))), (7, .int (start + minutes)), (0, .ref (ad (0, 0))), (1, .int member), (2, .int machine), (3, .int on), (4, .int start), (5, .int minutes), (6, .int work)]) hx hb dX1_isBusy_114 hl (by decide) rfl (fun ls hl => ?_)
              refine lv_goto (tgt := 24) hx hb dX1_isBusy_116 (by decide) ?_
              exact ih24 (j + 1) (z1.1, z1.2.1, nI (j + 1)) (.ref (ad (23, en))) (some en) (by omega) (by omega) ⟨hrow.1, hrow.2⟩ rfl (Or.inr ⟨en, hen, rfl, rfl⟩) (by rw [← hbz, hed]; simp [xBusyL, c_55, c_67, n_67]) _ _ hR hS ls (lv_sub hl [2, 0, 3, 4, 5, 6, 7, 8, 9, 10] rfl)
            · have n_67 := Int32.not_lt.mp c_67
              refine lv_aload hx hb dX1_isBusy_70 (lv_at hl 0 rfl) ?_
              refine g_X1_178 F hK (xw_23 hR hen) (v := .int (S.2.1 13 en 0)) rfl dX1_isBusy_72 ?_
              refine lv_iload hx hb dX1_isBusy_75 (lv_at hl 3 rfl) ?_
              refine lv_isub hx hb dX1_isBusy_77 ?_
              refine lv_aload_n hx hb dX1_isBusy_78 rfl (lv_at hl 4 rfl) ?_
              refine lv_iload_n hx hb dX1_isBusy_79 rfl (lv_at hl 6 rfl) ?_
              refine lv_aload hx hb dX1_isBusy_80 (lv_at hl 0 rfl) ?_
              refine g_X1_181 F hWK g hK (xw_23 hR hen) (v := .int (S.2.1 15 en 0)) rfl dX1_isBusy_82 ?_
              refine lv_iload hx hb dX1_isBusy_85 (lv_at hl 10 rfl) ?_
              refine xc_P (va_runV (As := [.int machine, .int (S.2.1 15 en 0), .int work]) (rest := [.int ((S.2.1 13 en 0) - (start + minutes))]) F (xX1_setup g1 (A := A) (S := S) (ad := ad) (z := (z1.1, z1.2.1, nI (j + 1))) (S.2.1 15 en 0) work (xi.up h_machine (by omega)) hW) (cwV 3 hts (lw_V q591 q593 qs5 q56 q594) rfl rfl rfl hdV_X1_setup ⟨Nat.le_of_ble_eq_true rfl, Nat.le_of_ble_eq_true rfl⟩) (xpreV (xrecv hK (xw_0 hR) rfl) hWK hS hR) rfl rfl hl.1 rfl (lv_room (Nat.le_of_ble_eq_true rfl)) dX1_isBusy_87 ⟨Nat.le_of_ble_eq_true rfl, Nat.le_of_ble_eq_true rfl⟩) ?_
              refine lv_icmp_lt (tgt := 106) hx hb dX1_isBusy_90 (by decide) (fun c_90 => ?_) (fun c_90 => ?_)
              · have n_90 := Int32.not_le.mpr c_90
                refine lv_iconst (v := 1) hx hb dX1_isBusy_106 (by decide) ?_
                refine lv_goto (tgt := 111) hx hb dX1_isBusy_107 (by decide) ?_
                have hB : xBusy S machine on start minutes work = xBusyL S.2.1 mac start (start + minutes) work (Lx.drop j) (some a) := by unfold xBusy; rw [h_machine.2, ← hLx, hbz]
                exact xr_Cz hx hb hr hlocks ((by rw [hB, hed]; simp [xBusyL, bI, c_55, c_67, c_90, n_67, n_90])) (⟨_, hR⟩) hS (by first | omega | decide) (by first | omega | decide) dX1_isBusy_111
              · have n_90 := Int32.not_lt.mp c_90
                refine lv_aload_n hx hb dX1_isBusy_93 rfl (lv_at hl 4 rfl) ?_
                refine lv_aload hx hb dX1_isBusy_94 (lv_at hl 2 rfl) ?_
                refine lv_iload hx hb dX1_isBusy_96 (lv_at hl 8 rfl) ?_
                refine lv_iload hx hb dX1_isBusy_98 (lv_at hl 10 rfl) ?_
                refine xc_P (va_runV (As := [.ref (ad (23, a)), .int start, .int work]) (rest := []) F (xX1_soonR g1 (A := A) (S := S) (ad := ad) (z := (z1.1, z1.2.1, nI (j + 1))) a start work han hW) (cwV 3 hts (lw_V q595 q597 qs6 q56 q598) rfl rfl rfl hdV_X1_comesTooSoon ⟨Nat.le_of_ble_eq_true rfl, Nat.le_of_ble_eq_true rfl⟩) (xpreV (xrecv hK (xw_0 hR) rfl) hWK hS hR) rfl rfl hl.1 rfl (lv_room (Nat.le_of_ble_eq_true rfl)) dX1_isBusy_100 ⟨Nat.le_of_ble_eq_true rfl, Nat.le_of_ble_eq_true rfl⟩) ?_
                refine x_ifeq (tgt := 110) hx hb dX1_isBusy_103 (by decide) (fun c_103 => ?_) (fun c_103 => ?_)
                · refine lv_iconst (v := 0) hx hb dX1_isBusy_110 (by decide) ?_
                  have hB : xBusy S machine on start minutes work = xBusyL S.2.1 mac start (start + minutes) work (Lx.drop j) (some a) := by unfold xBusy; rw [h_machine.2, ← hLx, hbz]
                  exact xr_Cz hx hb hr hlocks ((by rw [hB, hed]; simp [xBusyL, bI, c_55, c_67, c_90, c_103, n_67, n_90])) (⟨_, hR⟩) hS (by first | omega | decide) (by first | omega | decide) dX1_isBusy_111
                · refine lv_iconst (v := 1) hx hb dX1_isBusy_106 (by decide) ?_
                  refine lv_goto (tgt := 111) hx hb dX1_isBusy_107 (by decide) ?_
                  have hB : xBusy S machine on start minutes work = xBusyL S.2.1 mac start (start + minutes) work (Lx.drop j) (some a) := by unfold xBusy; rw [h_machine.2, ← hLx, hbz]
                  exact xr_Cz hx hb hr hlocks ((by rw [hB, hed]; simp [xBusyL, bI, c_55, c_67, c_90, c_103, n_67, n_90])) (⟨_, hR⟩) hS (by first | omega | decide) (by first | omega | decide) dX1_isBusy_111
          · refine lv_iconst (v := 1) hx hb dX1_isBusy_58 (by decide) ?_
            have hB : xBusy S machine on start minutes work = xBusyL S.2.1 mac start (start + minutes) work (Lx.drop j) (some a) := by unfold xBusy; rw [h_machine.2, ← hLx, hbz]
            exact xr_Cz hx hb hr hlocks ((by rw [hB, hed]; simp [xBusyL, bI, c_55])) (⟨_, hR⟩) hS (by first | omega | decide) (by first | omega | decide) dX1_isBusy_59
  exact L24 (Lx.length + 1) 0 (zo.1, zo.2.1, 0) .null none (by omega) (Nat.zero_le _) ⟨hrow.1, hrow.2⟩ rfl (Or.inl ⟨rfl, rfl⟩) rfl _ _ hR hS ls (lv_sub hl [0, 1, 2, 3, 4, 5, 6, 7, 8, 9] rfl)

set_option maxHeartbeats 4000000 in
theorem xX1_state {l : Launch} {G : xG} {s0 : State} {b0 : Nat} (g1 : xG1 l G s0 b0) {A : Nat → Prop} {S : xS} {ad : Nat × Nat → Nat} {z : xZ} (minute : Int32) (L : List Nat) (hW : xW S) (hrow : xRow ad z L) (hlen : L.length ≤ 150) (hLlt : ∀ k en : Nat, L[k]? = some en → en < S.1 2 0) : Met l yX1_state (ws_ yX1_state cX1_state 6 (some .char)) ({ frames := 4, cells := 0, slots := 0, locals := 87 } : Room) (xP s0 A [.ref (ad (0, 0)), .int minute] (fun H => xRX G A S ad z H)) (xQc (some (.int (xStateL S.2.1 minute L none))) (fun _ H => ∃ z9, xRX G A S ad z9 H ∧ xRow ad z9 L) A) 0 0 A := by
  refine Met.ofW (cc := cX1_state) (maxL := 6) (ret := (some .char)) (by decide) rfl ?_
  intro p e s m args below meth c s₁ B hml hv
  obtain ⟨rfl, hWK, hR⟩ := hv
  have g := g1.1
  have hx := B.exec
  have hb := B.bytes
  have hr := B.returns
  have hts := atoms_spec (ws := ws_ yX1_state cX1_state 6 (some .char)) B.pre
  have hts : ∀ w ∈ lw_all, w.before _ s = true := fun w h => hts w (List.mem_cons_of_mem _ h)
  have hown : s.vm.findClass "Lendlathe" = some m.cls := findClass_of_methodNamed B.named
  have hlocks := B.notSynchronized
  have hK := hWK.K g
  have F : CallFix p m c cX1_state 6 s _ lw_all "Lendlathe" := ⟨hx, hb, hml, hown, hts⟩
  have hS : va_S A s.heap s.heap [] := va_S.rf
  have hl := lv_entry ([.ref (ad (0, 0)), .int minute]) (n := 6) (Nat.le_of_ble_eq_true rfl)
  rw [lg_entry_eq]
  generalize (lg_sl ([.ref (ad (0, 0)), .int minute]) ++ List.replicate (6 - (lg_sl ([.ref (ad (0, 0)), .int minute])).length) Slot.unset).toArray = ls at hl ⊢
  have hl : lv_has ls 6 [(0, .ref (ad (0, 0))), (1, .int minute)] := hl
  have hn0 := hW.1.1
  have hn1 := hW.1.2.1
  have hn2 := hW.1.2.2.1
  have hn3 := hW.1.2.2.2.1
  have hn4 := hW.1.2.2.2.2
  obtain ⟨Lx, hL9⟩ : ∃ Lx, L = Lx := ⟨_, rfl⟩
  rw [hL9] at hrow hlen hLlt
  refine lv_null hx hb dX1_state_0 ?_
  refine lv_astore_nN (lv' := [(2, .null), (0, .ref (ad (0, 0))), (1, .int minute)]) hx hb dX1_state_1 rfl hl (by decide) rfl (fun ls hl => ?_)
  refine lv_aload_n hx hb dX1_state_2 rfl (lv_at hl 1 rfl) ?_
  refine g_X1_53 F hK (xw_0 hR) (v := .ref (ad (10, 0))) rfl dX1_state_3 ?_
  refine xc_C (va_runV (As := []) (rest := []) F (xX3_iterator g1 (A := A) (S := S) (ad := ad) (z := z) ) (cwV 0 hts (lw_V q543 q544 q545 q77 q546) rfl rfl rfl hdV_X3_iterator ⟨Nat.le_of_ble_eq_true rfl, Nat.le_of_ble_eq_true rfl⟩) (xpreV (xrecv hK (xw_10 hR) rfl) hWK hS hR) rfl rfl hl.1 rfl (lv_room (Nat.le_of_ble_eq_true rfl)) dX1_state_6 ⟨Nat.le_of_ble_eq_true rfl, Nat.le_of_ble_eq_true rfl⟩) hS (fun H locs hR1 hz hk hS => ?_)
  have hR := hR1
  refine lv_astore_n (lv' := [(3, .ref (ad (10, 0))), (2, .null), (0, .ref (ad (0, 0))), (1, .int minute)]) hx hb dX1_state_9 rfl hl (by decide) rfl (fun ls hl => ?_)
  have L10 : ∀ (n : Nat) (j : Nat) (z1 : xZ) (lv : Value) (la : Option Nat), Lx.length - j < n → (j ≤ Lx.length) → (xRow ad z1 Lx) → (z1.2.2 = nI j) → ((lv = .null ∧ la = none) ∨ ∃ a, a < S.1 2 0 ∧ lv = .ref (ad (23, a)) ∧ la = some a) → (xStateL S.2.1 minute (Lx.drop j) la = xStateL S.2.1 minute Lx none) → ∀ (H : Heap) (locs : List Loc), xRX G A S ad z1 H → va_S A s.heap H locs → ∀ (ls : Array Slot), lv_has ls 6 [(3, .ref (ad (10, 0))), (2, lv), (0, .ref (ad (0, 0))), (1, .int minute)] → W p l e (headSpec (ws_ yX1_state cX1_state 6 (some .char)) ({ frames := 4, cells := 0, slots := 0, locals := 87 } : Room)).room s m ([.ref (ad (0, 0)), .int minute] : List Value).toArray below meth c H locs 0 0 (MQ below (xQc (some (.int (xStateL S.2.1 minute L none))) (fun _ H => ∃ z9, xRX G A S ad z9 H ∧ xRow ad z9 L) A) ([.ref (ad (0, 0)), .int minute] : List Value).toArray s 0 0 A) (F0 m 10 ls []) := by
    intro n10
    induction n10 with
    | zero =>
      intro j z1 lv la hn10
      exact absurd hn10 (Nat.not_lt_zero _)
    | succ n10 ih10 =>
      intro j z1 lv la hn10 hjl hrow hj hlast hbz H locs hR hS ls hl
      refine lv_aload_n hx hb dX1_state_10 rfl (lv_at hl 0 rfl) ?_
      refine xc5_P (va_runF (As := []) (rest := []) (xClassAt hK (ci := 3) rfl) F (xX3_hasNext g1 (A := A) (S := S) (ad := ad) (z := z1) ) (va_cwF (x := ⟨"java/util/Iterator", "hasNext", "()Z"⟩) (C := "Lendlathe$Walk") 0 hts (lw_F q548 q552 q554 q77 q556) rfl rfl rfl (xnW hWK g (by decide) q550 q549 q555 q553 q551) (by decide +kernel) ⟨Nat.le_of_ble_eq_true rfl, Nat.le_of_ble_eq_true rfl⟩) (xpreV (xrecv hK (xw_10 hR) rfl) hWK hS hR) rfl rfl hl.1 rfl (lv_room (Nat.le_of_ble_eq_true rfl)) dX1_state_11 ⟨Nat.le_of_ble_eq_true rfl, Nat.le_of_ble_eq_true rfl⟩) ?_
      refine x_ifeq (tgt := 114) hx hb dX1_state_16 (by decide) (fun c_16 => ?_) (fun c_16 => ?_)
      · have c_16 := of_decide_eq_false c_16
        have hje := walk_end hj hrow.1 hjl hlen c_16
        have hed : Lx.drop j = [] := by rw [hje]; exact List.drop_length
        rcases hlast with ⟨rfl, rfl⟩ | ⟨a, han, rfl, rfl⟩
        · refine lv_bipush (v := 102) hx hb dX1_state_114 (by decide) ?_
          have hB : xStateL S.2.1 minute L none = xStateL S.2.1 minute (Lx.drop j) none := by rw [hL9, hbz]
          exact xr_Cc hx hb hr hlocks ((by rw [hB, hed]; simp [xStateL])) (⟨_, hR, by rw [hL9]; exact ⟨hrow.1, hrow.2⟩⟩) hS (by first | omega | decide) (by first | omega | decide) xStateL_nar dX1_state_116
        · refine lv_bipush (v := 102) hx hb dX1_state_114 (by decide) ?_
          have hB : xStateL S.2.1 minute L none = xStateL S.2.1 minute (Lx.drop j) (some a) := by rw [hL9, hbz]
          exact xr_Cc hx hb hr hlocks ((by rw [hB, hed]; simp [xStateL])) (⟨_, hR, by rw [hL9]; exact ⟨hrow.1, hrow.2⟩⟩) hS (by first | omega | decide) (by first | omega | decide) xStateL_nar dX1_state_116
      · have c_16 := of_decide_eq_true c_16
        have hjl2 := walk_more hj hrow.1 ⟨hlen, hjl⟩ c_16
        obtain ⟨en, he⟩ : ∃ en, Lx[j]? = some en := ⟨_, List.getElem?_eq_getElem hjl2⟩
        have hen := hLlt j en he
        have hed := drop_at he
        rcases hlast with ⟨rfl, rfl⟩ | ⟨a, han, rfl, rfl⟩
        · refine lv_aload_n hx hb dX1_state_19 rfl (lv_at hl 0 rfl) ?_
          refine xc5_C (va_runF (As := []) (rest := []) (xClassAt hK (ci := 3) rfl) F (xX3_next g1 (A := A) (S := S) (ad := ad) (z := z1) j en Lx hrow hj he hen hlen) (va_cwF (x := ⟨"java/util/Iterator", "next", "()Ljava/lang/Object;"⟩) (C := "Lendlathe$Walk") 0 hts (lw_F q558 q561 q563 q77 q565) rfl rfl rfl (xnW hWK g (by decide) q560 q559 q564 q562 q551) (by decide +kernel) ⟨Nat.le_of_ble_eq_true rfl, Nat.le_of_ble_eq_true rfl⟩) (xpreV (xrecv hK (xw_10 hR) rfl) hWK hS hR) rfl rfl hl.1 rfl (lv_room (Nat.le_of_ble_eq_true rfl)) dX1_state_20 ⟨Nat.le_of_ble_eq_true rfl, Nat.le_of_ble_eq_true rfl⟩) hS (fun H locs hR1 hz hk hS => ?_)
          have hR := hR1
          refine x_castO F hK rfl (xw_23 hR hen) (hts _ q514) dX1_state_25 ?_
          refine lv_astore (lv' := [(4, .ref (ad (23, en))), (3, .ref (ad (10, 0))), (2, .null), (0, .ref (ad (0, 0))), (1, .int minute)]) hx hb dX1_state_28 hl (by decide) rfl (fun ls hl => ?_)
          refine lv_iload_n hx hb dX1_state_30 rfl (lv_at hl 4 rfl) ?_
          refine lv_aload hx hb dX1_state_31 (lv_at hl 0 rfl) ?_
          refine g_X1_178 F hK (xw_23 hR hen) (v := .int (S.2.1 13 en 0)) rfl dX1_state_33 ?_
          refine lv_icmp_lt (tgt := 51) hx hb dX1_state_36 (by decide) (fun c_36 => ?_) (fun c_36 => ?_)
          · have n_36 := Int32.not_le.mpr c_36
            refine lv_aload_nN hx hb dX1_state_51 rfl (lv_at hl 2 rfl) ?_
            refine lv_ifnonnullN hx hb dX1_state_52 ?_
            refine lv_iconst (v := 0) hx hb dX1_state_55 (by decide) ?_
            refine lv_goto (tgt := 77) hx hb dX1_state_56 (by decide) ?_
            refine lv_istore (lv' := [(5, .int 0), (4, .ref (ad (23, en))), (3, .ref (ad (10, 0))), (2, .null), (0, .ref (ad (0, 0))), (1, .int minute)]) hx hb dX1_state_77 hl (by decide) rfl (fun ls hl => ?_)
            refine lv_iload_n hx hb dX1_state_79 rfl (lv_at hl 5 rfl) ?_
            refine lv_aload hx hb dX1_state_80 (lv_at hl 1 rfl) ?_
            refine g_X1_178 F hK (xw_23 hR hen) (v := .int (S.2.1 13 en 0)) rfl dX1_state_82 ?_
            refine lv_icmp_ge (tgt := 108) hx hb dX1_state_85 (by decide) (fun c_85 => ?_) (fun c_85 => ?_)
            · exact absurd c_36 (Int32.not_lt.mpr c_85)
            · have n_85 := Int32.not_le.mp c_85
              refine lv_iload_n hx hb dX1_state_88 rfl (lv_at hl 5 rfl) ?_
              refine lv_aload hx hb dX1_state_89 (lv_at hl 1 rfl) ?_
              refine g_X1_178 F hK (xw_23 hR hen) (v := .int (S.2.1 13 en 0)) rfl dX1_state_91 ?_
              refine lv_iload hx hb dX1_state_94 (lv_at hl 0 rfl) ?_
              refine lv_isub hx hb dX1_state_96 ?_
              refine lv_icmp_lt (tgt := 105) hx hb dX1_state_97 (by decide) (fun c_97 => ?_) (fun c_97 => ?_)
              · have n_97 := Int32.not_le.mpr c_97
                refine lv_bipush (v := 102) hx hb dX1_state_105 (by decide) ?_
                have hB : xStateL S.2.1 minute L none = xStateL S.2.1 minute (Lx.drop j) none := by rw [hL9, hbz]
                simp only [Int32.sub_zero] at c_97 n_97
                exact xr_Cc hx hb hr hlocks ((by rw [hB, hed]; simp [xStateL, c_36, c_85, c_97, n_36, n_85, n_97])) (⟨_, hR, by rw [hL9]; exact ⟨hrow.1, hrow.2⟩⟩) hS (by first | omega | decide) (by first | omega | decide) xStateL_nar dX1_state_107
              · have n_97 := Int32.not_lt.mp c_97
                refine lv_bipush (v := 115) hx hb dX1_state_100 (by decide) ?_
                refine lv_goto (tgt := 107) hx hb dX1_state_102 (by decide) ?_
                have hB : xStateL S.2.1 minute L none = xStateL S.2.1 minute (Lx.drop j) none := by rw [hL9, hbz]
                simp only [Int32.sub_zero] at c_97 n_97
                exact xr_Cc hx hb hr hlocks ((absurd n_85 c_97)) (⟨_, hR, by rw [hL9]; exact ⟨hrow.1, hrow.2⟩⟩) hS (by first | omega | decide) (by first | omega | decide) xStateL_nar dX1_state_107
          · have n_36 := Int32.not_lt.mp c_36
            refine lv_iload_n hx hb dX1_state_39 rfl (lv_at hl 4 rfl) ?_
            refine lv_aload hx hb dX1_state_40 (lv_at hl 0 rfl) ?_
            refine xc_P (va_runU (As := []) (rest := [.int minute]) F (xX7_end g1 (A := A) (S := S) (ad := ad) (z := (z1.1, z1.2.1, nI (j + 1))) en hen) (va_cwU (x := ⟨"Lendlathe$Entry", "end", "()I"⟩) (C := "Lendlathe$Entry") (owner := "Lendlathe$Stay") 0 hts (lw_U q599 q600 q602 q522 q88 q525) rfl rfl rfl rfl (by decide +kernel) ⟨Nat.le_of_ble_eq_true rfl, Nat.le_of_ble_eq_true rfl⟩) (xpreV (xrecv hK (xw_23 hR hen) rfl) hWK hS hR) rfl rfl hl.1 rfl (lv_room (Nat.le_of_ble_eq_true rfl)) dX1_state_42 ⟨Nat.le_of_ble_eq_true rfl, Nat.le_of_ble_eq_true rfl⟩) ?_
            refine lv_icmp_ge (tgt := 51) hx hb dX1_state_45 (by decide) (fun c_45 => ?_) (fun c_45 => ?_)
            · have n_45 := Int32.not_lt.mpr c_45
              refine lv_aload_nN hx hb dX1_state_51 rfl (lv_at hl 2 rfl) ?_
              refine lv_ifnonnullN hx hb dX1_state_52 ?_
              refine lv_iconst (v := 0) hx hb dX1_state_55 (by decide) ?_
              refine lv_goto (tgt := 77) hx hb dX1_state_56 (by decide) ?_
              refine lv_istore (lv' := [(5, .int 0), (4, .ref (ad (23, en))), (3, .ref (ad (10, 0))), (2, .null), (0, .ref (ad (0, 0))), (1, .int minute)]) hx hb dX1_state_77 hl (by decide) rfl (fun ls hl => ?_)
              refine lv_iload_n hx hb dX1_state_79 rfl (lv_at hl 5 rfl) ?_
              refine lv_aload hx hb dX1_state_80 (lv_at hl 1 rfl) ?_
              refine g_X1_178 F hK (xw_23 hR hen) (v := .int (S.2.1 13 en 0)) rfl dX1_state_82 ?_
              refine lv_icmp_ge (tgt := 108) hx hb dX1_state_85 (by decide) (fun c_85 => ?_) (fun c_85 => ?_)
              · have n_85 := Int32.not_lt.mpr c_85
                refine lv_aload hx hb dX1_state_108 (lv_at hl 1 rfl) ?_
                refine lv_astore_n (lv' := [(2, .ref (ad (23, en))), (5, .int 0), (4, .ref (ad (23, en))), (3, .ref (ad (10, 0))), (0, .ref (ad (0, 0))), (1, .int minute)]) hx hb dX1_state_110 rfl hl (by decide) rfl (fun ls hl => ?_)
                refine lv_goto (tgt := 10) hx hb dX1_state_111 (by decide) ?_
                exact ih10 (j + 1) (z1.1, z1.2.1, nI (j + 1)) (.ref (ad (23, en))) (some en) (by omega) (by omega) ⟨hrow.1, hrow.2⟩ rfl (Or.inr ⟨en, hen, rfl, rfl⟩) (by rw [← hbz, hed]; simp [xStateL, c_36, c_45, c_85, n_36, n_45, n_85]) _ _ hR hS ls (lv_sub hl [3, 0, 4, 5] rfl)
              · exact absurd (Int32.not_le.mp c_85) c_36
            · have n_45 := Int32.not_le.mp c_45
              refine lv_bipush (v := 98) hx hb dX1_state_48 (by decide) ?_
              have hB : xStateL S.2.1 minute L none = xStateL S.2.1 minute (Lx.drop j) none := by rw [hL9, hbz]
              exact xr_Cc hx hb hr hlocks ((by rw [hB, hed]; simp [xStateL, c_36, c_45, n_36, n_45])) (⟨_, hR, by rw [hL9]; exact ⟨hrow.1, hrow.2⟩⟩) hS (by first | omega | decide) (by first | omega | decide) xStateL_nar dX1_state_50
        · refine lv_aload_n hx hb dX1_state_19 rfl (lv_at hl 0 rfl) ?_
          refine xc5_C (va_runF (As := []) (rest := []) (xClassAt hK (ci := 3) rfl) F (xX3_next g1 (A := A) (S := S) (ad := ad) (z := z1) j en Lx hrow hj he hen hlen) (va_cwF (x := ⟨"java/util/Iterator", "next", "()Ljava/lang/Object;"⟩) (C := "Lendlathe$Walk") 0 hts (lw_F q558 q561 q563 q77 q565) rfl rfl rfl (xnW hWK g (by decide) q560 q559 q564 q562 q551) (by decide +kernel) ⟨Nat.le_of_ble_eq_true rfl, Nat.le_of_ble_eq_true rfl⟩) (xpreV (xrecv hK (xw_10 hR) rfl) hWK hS hR) rfl rfl hl.1 rfl (lv_room (Nat.le_of_ble_eq_true rfl)) dX1_state_20 ⟨Nat.le_of_ble_eq_true rfl, Nat.le_of_ble_eq_true rfl⟩) hS (fun H locs hR1 hz hk hS => ?_)
          have hR := hR1
          refine x_castO F hK rfl (xw_23 hR hen) (hts _ q514) dX1_state_25 ?_
          refine lv_astore (lv' := [(4, .ref (ad (23, en))), (3, .ref (ad (10, 0))), (2, .ref (ad (23, a))), (0, .ref (ad (0, 0))), (1, .int minute)]) hx hb dX1_state_28 hl (by decide) rfl (fun ls hl => ?_)
          refine lv_iload_n hx hb dX1_state_30 rfl (lv_at hl 4 rfl) ?_
          refine lv_aload hx hb dX1_state_31 (lv_at hl 0 rfl) ?_
          refine g_X1_178 F hK (xw_23 hR hen) (v := .int (S.2.1 13 en 0)) rfl dX1_state_33 ?_
          refine lv_icmp_lt (tgt := 51) hx hb dX1_state_36 (by decide) (fun c_36 => ?_) (fun c_36 => ?_)
          · have n_36 := Int32.not_le.mpr c_36
            refine lv_aload_n hx hb dX1_state_51 rfl (lv_at hl 2 rfl) ?_
            refine lv_ifnonnull (tgt := 59) hx hb dX1_state_52 (by decide) ?_
            refine lv_aload_n hx hb dX1_state_59 rfl (lv_at hl 3 rfl) ?_
            refine lv_aload hx hb dX1_state_60 (lv_at hl 0 rfl) ?_
            refine g_X1_194 F hK (xw_23 hR hen) (v := .int (S.2.1 11 en 0)) rfl dX1_state_62 ?_
            refine lv_aload_n hx hb dX1_state_65 rfl (lv_at hl 2 rfl) ?_
            refine g_X1_181 F hWK g hK (xw_23 hR han) (v := .int (S.2.1 15 a 0)) rfl dX1_state_66 ?_
            refine lv_aload hx hb dX1_state_69 (lv_at hl 0 rfl) ?_
            refine g_X1_181 F hWK g hK (xw_23 hR hen) (v := .int (S.2.1 15 en 0)) rfl dX1_state_71 ?_
            refine xc_P (va_runV (As := [.int (S.2.1 11 en 0), .int (S.2.1 15 a 0), .int (S.2.1 15 en 0)]) (rest := []) F (xX1_setup g1 (A := A) (S := S) (ad := ad) (z := (z1.1, z1.2.1, nI (j + 1))) (S.2.1 15 a 0) (S.2.1 15 en 0) (xi.up (xi_of (hW.mac (e := en) (by first | assumption | omega))) (by first | omega | exact Nat.le_refl _)) hW) (cwV 3 hts (lw_V q591 q593 qs5 q56 q594) rfl rfl rfl hdV_X1_setup ⟨Nat.le_of_ble_eq_true rfl, Nat.le_of_ble_eq_true rfl⟩) (xpreV (xrecv hK (xw_0 hR) rfl) hWK hS hR) rfl rfl hl.1 rfl (lv_room (Nat.le_of_ble_eq_true rfl)) dX1_state_74 ⟨Nat.le_of_ble_eq_true rfl, Nat.le_of_ble_eq_true rfl⟩) ?_
            refine lv_istore (lv' := [(5, .int (mSetup S.2.1 ((S.2.1 11 en 0).toNatClampNeg) (S.2.1 15 a 0) (S.2.1 15 en 0))), (4, .ref (ad (23, en))), (3, .ref (ad (10, 0))), (2, .ref (ad (23, a))), (0, .ref (ad (0, 0))), (1, .int minute)]) hx hb dX1_state_77 hl (by decide) rfl (fun ls hl => ?_)
            refine lv_iload_n hx hb dX1_state_79 rfl (lv_at hl 5 rfl) ?_
            refine lv_aload hx hb dX1_state_80 (lv_at hl 1 rfl) ?_
            refine g_X1_178 F hK (xw_23 hR hen) (v := .int (S.2.1 13 en 0)) rfl dX1_state_82 ?_
            refine lv_icmp_ge (tgt := 108) hx hb dX1_state_85 (by decide) (fun c_85 => ?_) (fun c_85 => ?_)
            · exact absurd c_36 (Int32.not_lt.mpr c_85)
            · have n_85 := Int32.not_le.mp c_85
              refine lv_iload_n hx hb dX1_state_88 rfl (lv_at hl 5 rfl) ?_
              refine lv_aload hx hb dX1_state_89 (lv_at hl 1 rfl) ?_
              refine g_X1_178 F hK (xw_23 hR hen) (v := .int (S.2.1 13 en 0)) rfl dX1_state_91 ?_
              refine lv_iload hx hb dX1_state_94 (lv_at hl 0 rfl) ?_
              refine lv_isub hx hb dX1_state_96 ?_
              refine lv_icmp_lt (tgt := 105) hx hb dX1_state_97 (by decide) (fun c_97 => ?_) (fun c_97 => ?_)
              · have n_97 := Int32.not_le.mpr c_97
                refine lv_bipush (v := 102) hx hb dX1_state_105 (by decide) ?_
                have hB : xStateL S.2.1 minute L none = xStateL S.2.1 minute (Lx.drop j) (some a) := by rw [hL9, hbz]
                exact xr_Cc hx hb hr hlocks ((by rw [hB, hed]; simp [xStateL, c_36, c_85, c_97, n_36, n_85, n_97])) (⟨_, hR, by rw [hL9]; exact ⟨hrow.1, hrow.2⟩⟩) hS (by first | omega | decide) (by first | omega | decide) xStateL_nar dX1_state_107
              · have n_97 := Int32.not_lt.mp c_97
                refine lv_bipush (v := 115) hx hb dX1_state_100 (by decide) ?_
                refine lv_goto (tgt := 107) hx hb dX1_state_102 (by decide) ?_
                have hB : xStateL S.2.1 minute L none = xStateL S.2.1 minute (Lx.drop j) (some a) := by rw [hL9, hbz]
                exact xr_Cc hx hb hr hlocks ((by rw [hB, hed]; simp [xStateL, c_36, c_85, c_97, n_36, n_85, n_97])) (⟨_, hR, by rw [hL9]; exact ⟨hrow.1, hrow.2⟩⟩) hS (by first | omega | decide) (by first | omega | decide) xStateL_nar dX1_state_107
          · have n_36 := Int32.not_lt.mp c_36
            refine lv_iload_n hx hb dX1_state_39 rfl (lv_at hl 4 rfl) ?_
            refine lv_aload hx hb dX1_state_40 (lv_at hl 0 rfl) ?_
            refine xc_P (va_runU (As := []) (rest := [.int minute]) F (xX7_end g1 (A := A) (S := S) (ad := ad) (z := (z1.1, z1.2.1, nI (j + 1))) en hen) (va_cwU (x := ⟨"Lendlathe$Entry", "end", "()I"⟩) (C := "Lendlathe$Entry") (owner := "Lendlathe$Stay") 0 hts (lw_U q599 q600 q602 q522 q88 q525) rfl rfl rfl rfl (by decide +kernel) ⟨Nat.le_of_ble_eq_true rfl, Nat.le_of_ble_eq_true rfl⟩) (xpreV (xrecv hK (xw_23 hR hen) rfl) hWK hS hR) rfl rfl hl.1 rfl (lv_room (Nat.le_of_ble_eq_true rfl)) dX1_state_42 ⟨Nat.le_of_ble_eq_true rfl, Nat.le_of_ble_eq_true rfl⟩) ?_
            refine lv_icmp_ge (tgt := 51) hx hb dX1_state_45 (by decide) (fun c_45 => ?_) (fun c_45 => ?_)
            · have n_45 := Int32.not_lt.mpr c_45
              refine lv_aload_n hx hb dX1_state_51 rfl (lv_at hl 2 rfl) ?_
              refine lv_ifnonnull (tgt := 59) hx hb dX1_state_52 (by decide) ?_
              refine lv_aload_n hx hb dX1_state_59 rfl (lv_at hl 3 rfl) ?_
              refine lv_aload hx hb dX1_state_60 (lv_at hl 0 rfl) ?_
              refine g_X1_194 F hK (xw_23 hR hen) (v := .int (S.2.1 11 en 0)) rfl dX1_state_62 ?_
              refine lv_aload_n hx hb dX1_state_65 rfl (lv_at hl 2 rfl) ?_
              refine g_X1_181 F hWK g hK (xw_23 hR han) (v := .int (S.2.1 15 a 0)) rfl dX1_state_66 ?_
              refine lv_aload hx hb dX1_state_69 (lv_at hl 0 rfl) ?_
              refine g_X1_181 F hWK g hK (xw_23 hR hen) (v := .int (S.2.1 15 en 0)) rfl dX1_state_71 ?_
              refine xc_P (va_runV (As := [.int (S.2.1 11 en 0), .int (S.2.1 15 a 0), .int (S.2.1 15 en 0)]) (rest := []) F (xX1_setup g1 (A := A) (S := S) (ad := ad) (z := (z1.1, z1.2.1, nI (j + 1))) (S.2.1 15 a 0) (S.2.1 15 en 0) (xi.up (xi_of (hW.mac (e := en) (by first | assumption | omega))) (by first | omega | exact Nat.le_refl _)) hW) (cwV 3 hts (lw_V q591 q593 qs5 q56 q594) rfl rfl rfl hdV_X1_setup ⟨Nat.le_of_ble_eq_true rfl, Nat.le_of_ble_eq_true rfl⟩) (xpreV (xrecv hK (xw_0 hR) rfl) hWK hS hR) rfl rfl hl.1 rfl (lv_room (Nat.le_of_ble_eq_true rfl)) dX1_state_74 ⟨Nat.le_of_ble_eq_true rfl, Nat.le_of_ble_eq_true rfl⟩) ?_
              refine lv_istore (lv' := [(5, .int (mSetup S.2.1 ((S.2.1 11 en 0).toNatClampNeg) (S.2.1 15 a 0) (S.2.1 15 en 0))), (4, .ref (ad (23, en))), (3, .ref (ad (10, 0))), (2, .ref (ad (23, a))), (0, .ref (ad (0, 0))), (1, .int minute)]) hx hb dX1_state_77 hl (by decide) rfl (fun ls hl => ?_)
              refine lv_iload_n hx hb dX1_state_79 rfl (lv_at hl 5 rfl) ?_
              refine lv_aload hx hb dX1_state_80 (lv_at hl 1 rfl) ?_
              refine g_X1_178 F hK (xw_23 hR hen) (v := .int (S.2.1 13 en 0)) rfl dX1_state_82 ?_
              refine lv_icmp_ge (tgt := 108) hx hb dX1_state_85 (by decide) (fun c_85 => ?_) (fun c_85 => ?_)
              · have n_85 := Int32.not_lt.mpr c_85
                refine lv_aload hx hb dX1_state_108 (lv_at hl 1 rfl) ?_
                refine lv_astore_n (lv' := [(2, .ref (ad (23, en))), (5, .int (mSetup S.2.1 ((S.2.1 11 en 0).toNatClampNeg) (S.2.1 15 a 0) (S.2.1 15 en 0))), (4, .ref (ad (23, en))), (3, .ref (ad (10, 0))), (0, .ref (ad (0, 0))), (1, .int minute)]) hx hb dX1_state_110 rfl hl (by decide) rfl (fun ls hl => ?_)
                refine lv_goto (tgt := 10) hx hb dX1_state_111 (by decide) ?_
                exact ih10 (j + 1) (z1.1, z1.2.1, nI (j + 1)) (.ref (ad (23, en))) (some en) (by omega) (by omega) ⟨hrow.1, hrow.2⟩ rfl (Or.inr ⟨en, hen, rfl, rfl⟩) (by rw [← hbz, hed]; simp [xStateL, c_36, c_45, c_85, n_36, n_45, n_85]) _ _ hR hS ls (lv_sub hl [3, 0, 4, 5] rfl)
              · exact absurd (Int32.not_le.mp c_85) c_36
            · have n_45 := Int32.not_le.mp c_45
              refine lv_bipush (v := 98) hx hb dX1_state_48 (by decide) ?_
              have hB : xStateL S.2.1 minute L none = xStateL S.2.1 minute (Lx.drop j) (some a) := by rw [hL9, hbz]
              exact xr_Cc hx hb hr hlocks ((by rw [hB, hed]; simp [xStateL, c_36, c_45, n_36, n_45])) (⟨_, hR, by rw [hL9]; exact ⟨hrow.1, hrow.2⟩⟩) hS (by first | omega | decide) (by first | omega | decide) xStateL_nar dX1_state_50
  exact L10 (Lx.length + 1) 0 (z.1, z.2.1, 0) .null none (by omega) (Nat.zero_le _) ⟨hrow.1, hrow.2⟩ rfl (Or.inl ⟨rfl, rfl⟩) rfl _ _ hR hS ls (lv_sub hl [0, 1, 2, 3] rfl)

set_option maxHeartbeats 4000000 in
theorem xX1_usedOn {l : Launch} {G : xG} {s0 : State} {b0 : Nat} (g1 : xG1 l G s0 b0) {A : Nat → Prop} {S : xS} {ad : Nat × Nat → Nat} {z : xZ} (machine on : Int32) (hW : xW S) : Met l yX1_usedOn (ws_ yX1_usedOn cX1_usedOn 6 (some .int)) ({ frames := 4, cells := 0, slots := 0, locals := 88 } : Room) (xP s0 A [.ref (ad (0, 0)), .int machine, .int on] (fun H => xRX G A S ad z H)) (xQc (some (.int (xUsed S machine on))) (fun _ H => ∃ z9, xRX G A S ad z9 H) A) 0 0 A := by
  refine Met.ofW (cc := cX1_usedOn) (maxL := 6) (ret := (some .int)) (by decide) rfl ?_
  intro p e s m args below meth c s₁ B hml hv
  obtain ⟨rfl, hWK, hR⟩ := hv
  have g := g1.1
  have hx := B.exec
  have hb := B.bytes
  have hr := B.returns
  have hts := atoms_spec (ws := ws_ yX1_usedOn cX1_usedOn 6 (some .int)) B.pre
  have hts : ∀ w ∈ lw_all, w.before _ s = true := fun w h => hts w (List.mem_cons_of_mem _ h)
  have hown : s.vm.findClass "Lendlathe" = some m.cls := findClass_of_methodNamed B.named
  have hlocks := B.notSynchronized
  have hK := hWK.K g
  have F : CallFix p m c cX1_usedOn 6 s _ lw_all "Lendlathe" := ⟨hx, hb, hml, hown, hts⟩
  have hS : va_S A s.heap s.heap [] := va_S.rf
  have hl := lv_entry ([.ref (ad (0, 0)), .int machine, .int on]) (n := 6) (Nat.le_of_ble_eq_true rfl)
  rw [lg_entry_eq]
  generalize (lg_sl ([.ref (ad (0, 0)), .int machine, .int on]) ++ List.replicate (6 - (lg_sl ([.ref (ad (0, 0)), .int machine, .int on])).length) Slot.unset).toArray = ls at hl ⊢
  have hl : lv_has ls 6 [(0, .ref (ad (0, 0))), (1, .int machine), (2, .int on)] := hl
  have hn0 := hW.1.1
  have hn1 := hW.1.2.1
  have hn2 := hW.1.2.2.1
  have hn3 := hW.1.2.2.2.1
  have hn4 := hW.1.2.2.2.2
  refine lv_iconst (v := 0) hx hb dX1_usedOn_0 (by decide) ?_
  refine lv_istore_n (lv' := [(3, .int 0), (0, .ref (ad (0, 0))), (1, .int machine), (2, .int on)]) hx hb dX1_usedOn_1 rfl hl (by decide) rfl (fun ls hl => ?_)
  refine lv_aload_n hx hb dX1_usedOn_2 rfl (lv_at hl 1 rfl) ?_
  refine g_X1_53 F hK (xw_0 hR) (v := .ref (ad (10, 0))) rfl dX1_usedOn_3 ?_
  refine lv_iload_n hx hb dX1_usedOn_6 rfl (lv_at hl 2 rfl) ?_
  refine lv_iload_n hx hb dX1_usedOn_7 rfl (lv_at hl 3 rfl) ?_
  refine xc_C (va_runV (As := [.int machine, .int on]) (rest := []) F (xX3_over g1 (A := A) (S := S) (ad := ad) (z := z) machine on hW) (cwV 2 hts (lw_V q529 q530 q531 q77 q532) rfl rfl rfl hdV_X3_over ⟨Nat.le_of_ble_eq_true rfl, Nat.le_of_ble_eq_true rfl⟩) (xpreV (xrecv hK (xw_10 hR) rfl) hWK hS hR) rfl rfl hl.1 rfl (lv_room (Nat.le_of_ble_eq_true rfl)) dX1_usedOn_8 ⟨Nat.le_of_ble_eq_true rfl, Nat.le_of_ble_eq_true rfl⟩) hS (fun H locs hR1 hz hk hS => ?_)
  obtain ⟨zo, hR, hrow⟩ := hR1
  have hlen : (xOverN S.2.1 machine on (S.1 2 0)).length ≤ 150 := Nat.le_trans (xOverN_len _ _ _ _) (by omega)
  obtain ⟨Lx, hLx⟩ : ∃ Lx, Lx = xOverN S.2.1 machine on (S.1 2 0) := ⟨_, rfl⟩
  rw [← hLx] at hrow hlen
  have hLlt : ∀ k en : Nat, Lx[k]? = some en → en < S.1 2 0 := fun k en hq => xOverN_at (by rw [← hLx]; exact hq)
  refine xc_C (va_runV (As := []) (rest := []) F (xX3_iterator g1 (A := A) (S := S) (ad := ad) (z := zo) ) (cwV 0 hts (lw_V q543 q544 q545 q77 q546) rfl rfl rfl hdV_X3_iterator ⟨Nat.le_of_ble_eq_true rfl, Nat.le_of_ble_eq_true rfl⟩) (xpreV (xrecv hK (xw_10 hR) rfl) hWK hS hR) rfl rfl hl.1 rfl (lv_room (Nat.le_of_ble_eq_true rfl)) dX1_usedOn_11 ⟨Nat.le_of_ble_eq_true rfl, Nat.le_of_ble_eq_true rfl⟩) hS (fun H locs hR1 hz hk hS => ?_)
  have hR := hR1
  refine lv_astore (lv' := [(4, .ref (ad (10, 0))), (3, .int 0), (0, .ref (ad (0, 0))), (1, .int machine), (2, .int on)]) hx hb dX1_usedOn_14 hl (by decide) rfl (fun ls hl => ?_)
  have L16 : ∀ (n : Nat) (j : Nat) (z1 : xZ) (acc : Int32), Lx.length - j < n → (j ≤ Lx.length) → (xRow ad z1 Lx) → (z1.2.2 = nI j) → (xUsedL S.2.1 (Lx.drop j) acc = xUsedL S.2.1 Lx 0) → ∀ (H : Heap) (locs : List Loc), xRX G A S ad z1 H → va_S A s.heap H locs → ∀ (ls : Array Slot), lv_has ls 6 [(4, .ref (ad (10, 0))), (3, .int acc), (0, .ref (ad (0, 0))), (1, .int machine), (2, .int on)] → W p l e (headSpec (ws_ yX1_usedOn cX1_usedOn 6 (some .int)) ({ frames := 4, cells := 0, slots := 0, locals := 88 } : Room)).room s m ([.ref (ad (0, 0)), .int machine, .int on] : List Value).toArray below meth c H locs 0 0 (MQ below (xQc (some (.int (xUsed S machine on))) (fun _ H => ∃ z9, xRX G A S ad z9 H) A) ([.ref (ad (0, 0)), .int machine, .int on] : List Value).toArray s 0 0 A) (F0 m 16 ls []) := by
    intro n16
    induction n16 with
    | zero =>
      intro j z1 acc hn16
      exact absurd hn16 (Nat.not_lt_zero _)
    | succ n16 ih16 =>
      intro j z1 acc hn16 hjl hrow hj hbz H locs hR hS ls hl
      refine lv_aload hx hb dX1_usedOn_16 (lv_at hl 0 rfl) ?_
      refine xc5_P (va_runF (As := []) (rest := []) (xClassAt hK (ci := 3) rfl) F (xX3_hasNext g1 (A := A) (S := S) (ad := ad) (z := z1) ) (va_cwF (x := ⟨"java/util/Iterator", "hasNext", "()Z"⟩) (C := "Lendlathe$Walk") 0 hts (lw_F q548 q552 q554 q77 q556) rfl rfl rfl (xnW hWK g (by decide) q550 q549 q555 q553 q551) (by decide +kernel) ⟨Nat.le_of_ble_eq_true rfl, Nat.le_of_ble_eq_true rfl⟩) (xpreV (xrecv hK (xw_10 hR) rfl) hWK hS hR) rfl rfl hl.1 rfl (lv_room (Nat.le_of_ble_eq_true rfl)) dX1_usedOn_18 ⟨Nat.le_of_ble_eq_true rfl, Nat.le_of_ble_eq_true rfl⟩) ?_
      refine x_ifeq (tgt := 49) hx hb dX1_usedOn_23 (by decide) (fun c_23 => ?_) (fun c_23 => ?_)
      · have c_23 := of_decide_eq_false c_23
        have hje := walk_end hj hrow.1 hjl hlen c_23
        have hed : Lx.drop j = [] := by rw [hje]; exact List.drop_length
        refine lv_iload_n hx hb dX1_usedOn_49 rfl (lv_at hl 1 rfl) ?_
        have hB : xUsed S machine on = acc := by unfold xUsed; rw [← hLx, ← hbz, hed]; rfl
        exact xr_Ci hx hb hr hlocks (hB.symm) (⟨_, hR⟩) hS (by first | omega | decide) (by first | omega | decide) dX1_usedOn_50
      · have c_23 := of_decide_eq_true c_23
        have hjl2 := walk_more hj hrow.1 ⟨hlen, hjl⟩ c_23
        obtain ⟨en, he⟩ : ∃ en, Lx[j]? = some en := ⟨_, List.getElem?_eq_getElem hjl2⟩
        have hen := hLlt j en he
        have hed := drop_at he
        refine lv_aload hx hb dX1_usedOn_26 (lv_at hl 0 rfl) ?_
        refine xc5_C (va_runF (As := []) (rest := []) (xClassAt hK (ci := 3) rfl) F (xX3_next g1 (A := A) (S := S) (ad := ad) (z := z1) j en Lx hrow hj he hen hlen) (va_cwF (x := ⟨"java/util/Iterator", "next", "()Ljava/lang/Object;"⟩) (C := "Lendlathe$Walk") 0 hts (lw_F q558 q561 q563 q77 q565) rfl rfl rfl (xnW hWK g (by decide) q560 q559 q564 q562 q551) (by decide +kernel) ⟨Nat.le_of_ble_eq_true rfl, Nat.le_of_ble_eq_true rfl⟩) (xpreV (xrecv hK (xw_10 hR) rfl) hWK hS hR) rfl rfl hl.1 rfl (lv_room (Nat.le_of_ble_eq_true rfl)) dX1_usedOn_28 ⟨Nat.le_of_ble_eq_true rfl, Nat.le_of_ble_eq_true rfl⟩) hS (fun H locs hR1 hz hk hS => ?_)
        have hR := hR1
        refine x_castO F hK rfl (xw_23 hR hen) (hts _ q514) dX1_usedOn_33 ?_
        refine lv_astore (lv' := [(5, .ref (ad (23, en))), (4, .ref (ad (10, 0))), (3, .int acc), (0, .ref (ad (0, 0))), (1, .int machine), (2, .int on)]) hx hb dX1_usedOn_36 hl (by decide) rfl (fun ls hl => ?_)
        refine lv_iload_n hx hb dX1_usedOn_38 rfl (lv_at hl 2 rfl) ?_
        refine lv_aload hx hb dX1_usedOn_39 (lv_at hl 0 rfl) ?_
        refine g_X1_296 F hK (xw_23 hR hen) (v := .int (S.2.1 14 en 0)) rfl dX1_usedOn_41 ?_
        refine lv_iadd hx hb dX1_usedOn_44 ?_
        refine lv_istore_n (lv' := [(3, .int (acc + (S.2.1 14 en 0))), (5, .ref (ad (23, en))), (4, .ref (ad (10, 0))), (0, .ref (ad (0, 0))), (1, .int machine), (2, .int on)]) hx hb dX1_usedOn_45 rfl hl (by decide) rfl (fun ls hl => ?_)
        refine lv_goto (tgt := 16) hx hb dX1_usedOn_46 (by decide) ?_
        exact ih16 (j + 1) (z1.1, z1.2.1, nI (j + 1)) (acc + (S.2.1 14 en 0)) (by omega) (by omega) ⟨hrow.1, hrow.2⟩ rfl (by rw [← hbz, hed]; rfl) _ _ hR hS ls (lv_sub hl [2, 0, 3, 4, 5] rfl)
  exact L16 (Lx.length + 1) 0 (zo.1, zo.2.1, 0) 0 (by omega) (Nat.zero_le _) ⟨hrow.1, hrow.2⟩ rfl rfl _ _ hR hS ls (lv_sub hl [0, 1, 2, 3, 4] rfl)

set_option maxHeartbeats 4000000 in
theorem xX1_usedBy {l : Launch} {G : xG} {s0 : State} {b0 : Nat} (g1 : xG1 l G s0 b0) {A : Nat → Prop} {S : xS} {ad : Nat × Nat → Nat} {z : xZ} (machine on : Int32) (hW : xW S) : Met l yX1_usedBy (ws_ yX1_usedBy cX1_usedBy 5 (some .int)) ({ frames := 5, cells := 0, slots := 0, locals := 112 } : Room) (xP s0 A [.ref (ad (0, 0)), .int machine, .int on] (fun H => xRX G A S ad z H)) (xQc (some (.int (xUsedBy S machine on))) (fun _ H => ∃ z9, xRX G A S ad z9 H) A) 0 0 A := by
  refine Met.ofW (cc := cX1_usedBy) (maxL := 5) (ret := (some .int)) (by decide) rfl ?_
  intro p e s m args below meth c s₁ B hml hv
  obtain ⟨rfl, hWK, hR⟩ := hv
  have g := g1.1
  have hx := B.exec
  have hb := B.bytes
  have hr := B.returns
  have hts := atoms_spec (ws := ws_ yX1_usedBy cX1_usedBy 5 (some .int)) B.pre
  have hts : ∀ w ∈ lw_all, w.before _ s = true := fun w h => hts w (List.mem_cons_of_mem _ h)
  have hown : s.vm.findClass "Lendlathe" = some m.cls := findClass_of_methodNamed B.named
  have hlocks := B.notSynchronized
  have hK := hWK.K g
  have F : CallFix p m c cX1_usedBy 5 s _ lw_all "Lendlathe" := ⟨hx, hb, hml, hown, hts⟩
  have hS : va_S A s.heap s.heap [] := va_S.rf
  have hl := lv_entry ([.ref (ad (0, 0)), .int machine, .int on]) (n := 5) (Nat.le_of_ble_eq_true rfl)
  rw [lg_entry_eq]
  generalize (lg_sl ([.ref (ad (0, 0)), .int machine, .int on]) ++ List.replicate (5 - (lg_sl ([.ref (ad (0, 0)), .int machine, .int on])).length) Slot.unset).toArray = ls at hl ⊢
  have hl : lv_has ls 5 [(0, .ref (ad (0, 0))), (1, .int machine), (2, .int on)] := hl
  have hn0 := hW.1.1
  have hn1 := hW.1.2.1
  have hn2 := hW.1.2.2.1
  have hn3 := hW.1.2.2.2.1
  have hn4 := hW.1.2.2.2.2
  refine lv_aload_n hx hb dX1_usedBy_0 rfl (lv_at hl 0 rfl) ?_
  refine g_X1_53 F hK (xw_0 hR) (v := .ref (ad (10, 0))) rfl dX1_usedBy_1 ?_
  refine lv_iload_n hx hb dX1_usedBy_4 rfl (lv_at hl 1 rfl) ?_
  refine lv_iload_n hx hb dX1_usedBy_5 rfl (lv_at hl 2 rfl) ?_
  refine xc_C (va_runV (As := [.int machine, .int on]) (rest := []) F (xX3_over g1 (A := A) (S := S) (ad := ad) (z := z) machine on hW) (cwV 2 hts (lw_V q529 q530 q531 q77 q532) rfl rfl rfl hdV_X3_over ⟨Nat.le_of_ble_eq_true rfl, Nat.le_of_ble_eq_true rfl⟩) (xpreV (xrecv hK (xw_10 hR) rfl) hWK hS hR) rfl rfl hl.1 rfl (lv_room (Nat.le_of_ble_eq_true rfl)) dX1_usedBy_6 ⟨Nat.le_of_ble_eq_true rfl, Nat.le_of_ble_eq_true rfl⟩) hS (fun H locs hR1 hz hk hS => ?_)
  obtain ⟨zo, hR, hrow⟩ := hR1
  have hlen : (xOverN S.2.1 machine on (S.1 2 0)).length ≤ 150 := Nat.le_trans (xOverN_len _ _ _ _) (by omega)
  obtain ⟨Lx, hLx⟩ : ∃ Lx, Lx = xOverN S.2.1 machine on (S.1 2 0) := ⟨_, rfl⟩
  rw [← hLx] at hrow hlen
  have hLlt : ∀ k en : Nat, Lx[k]? = some en → en < S.1 2 0 := fun k en hq => xOverN_at (by rw [← hLx]; exact hq)
  refine lv_pop hx hb dX1_usedBy_9 rfl ?_
  refine lv_iconst (v := 0) hx hb dX1_usedBy_10 (by decide) ?_
  refine lv_istore_n (lv' := [(3, .int 0), (0, .ref (ad (0, 0))), (1, .int machine), (2, .int on)]) hx hb dX1_usedBy_11 rfl hl (by decide) rfl (fun ls hl => ?_)
  refine lv_iconst (v := 0) hx hb dX1_usedBy_12 (by decide) ?_
  refine lv_istore (lv' := [(4, .int 0), (3, .int 0), (0, .ref (ad (0, 0))), (1, .int machine), (2, .int on)]) hx hb dX1_usedBy_13 hl (by decide) rfl (fun ls hl => ?_)
  have L15 : ∀ (n : Nat) (k : Nat) (z1 : xZ) (acc : Int32), 480 - k < n → (k ≤ 480) → (xRow ad z1 Lx) → (acc = sumI k (fun k => if xStateL S.2.1 (nI k) Lx none = 98 then 1 else 0)) → ∀ (H : Heap) (locs : List Loc), xRX G A S ad z1 H → va_S A s.heap H locs → ∀ (ls : Array Slot), lv_has ls 5 [(4, .int (nI k)), (3, .int acc), (0, .ref (ad (0, 0))), (1, .int machine), (2, .int on)] → W p l e (headSpec (ws_ yX1_usedBy cX1_usedBy 5 (some .int)) ({ frames := 5, cells := 0, slots := 0, locals := 112 } : Room)).room s m ([.ref (ad (0, 0)), .int machine, .int on] : List Value).toArray below meth c H locs 0 0 (MQ below (xQc (some (.int (xUsedBy S machine on))) (fun _ H => ∃ z9, xRX G A S ad z9 H) A) ([.ref (ad (0, 0)), .int machine, .int on] : List Value).toArray s 0 0 A) (F0 m 15 ls []) := by
    intro n15
    induction n15 with
    | zero =>
      intro k z1 acc hn15
      exact absurd hn15 (Nat.not_lt_zero _)
    | succ n15 ih15 =>
      intro k z1 acc hn15 hk4 hrow ea H locs hR hS ls hl
      refine lv_iload hx hb dX1_usedBy_15 (lv_at hl 0 rfl) ?_
      refine lv_sipush (v := 480) hx hb dX1_usedBy_17 (by decide) ?_
      refine xn_ge (tgt := 48) k 480 rfl (by decide) (by omega) (by omega) hx hb dX1_usedBy_20 (by decide) (fun c_20 => ?_) (fun c_20 => ?_)
      · have n_20 := Nat.not_lt.mpr c_20
        refine lv_iload_n hx hb dX1_usedBy_48 rfl (lv_at hl 1 rfl) ?_
        have hk9 : k = 480 := (by omega)
        subst hk9
        exact xr_Ci hx hb hr hlocks ((by rw [ea]; unfold xUsedBy; rw [← hLx])) (⟨_, hR⟩) hS (by first | omega | decide) (by first | omega | decide) dX1_usedBy_49
      · have n_20 := Nat.not_le.mpr c_20
        refine lv_iload_n hx hb dX1_usedBy_23 rfl (lv_at hl 1 rfl) ?_
        refine lv_aload_n hx hb dX1_usedBy_24 rfl (lv_at hl 2 rfl) ?_
        refine lv_iload hx hb dX1_usedBy_25 (lv_at hl 0 rfl) ?_
        refine xc_C (va_runV (As := [.int (nI k)]) (rest := [.int acc]) F (xX1_state g1 (A := A) (S := S) (ad := ad) (z := z1) (nI k) Lx hW hrow hlen hLlt) (cwV 1 hts (lw_V q742 q744 qs13 q56 q745) rfl rfl rfl hdV_X1_state ⟨Nat.le_of_ble_eq_true rfl, Nat.le_of_ble_eq_true rfl⟩) (xpreV (xrecv hK (xw_0 hR) rfl) hWK hS hR) rfl rfl hl.1 rfl (lv_room (Nat.le_of_ble_eq_true rfl)) dX1_usedBy_27 ⟨Nat.le_of_ble_eq_true rfl, Nat.le_of_ble_eq_true rfl⟩) hS (fun H locs hR1 hz hk hS => ?_)
        obtain ⟨zs, hR, hrow⟩ := hR1
        refine lv_bipush (v := 98) hx hb dX1_usedBy_30 (by decide) ?_
        refine lv_icmp_ne (tgt := 39) hx hb dX1_usedBy_32 (by decide) (fun c_32 => ?_) (fun c_32 => ?_)
        · refine lv_iconst (v := 0) hx hb dX1_usedBy_39 (by decide) ?_
          refine lv_iadd hx hb dX1_usedBy_40 ?_
          refine lv_istore_n (lv' := [(3, .int (acc + 0)), (4, .int (nI k)), (0, .ref (ad (0, 0))), (1, .int machine), (2, .int on)]) hx hb dX1_usedBy_41 rfl hl (by decide) rfl (fun ls hl => ?_)
          refine lv_iinc (v := nI (k + 1)) (lv' := [(4, .int (nI (k + 1))), (3, .int (acc + 0)), (0, .ref (ad (0, 0))), (1, .int machine), (2, .int on)]) hx hb dX1_usedBy_42 hl (k := 1) rfl (nI_1 _) (by decide) rfl (fun ls hl => ?_)
          refine lv_goto (tgt := 15) hx hb dX1_usedBy_45 (by decide) ?_
          exact ih15 (k + 1) zs (acc + 0) (by omega) (by omega) hrow (by rw [ea]; simp [sumI, c_32]) _ _ hR hS ls (lv_sub hl [0, 1, 2, 3, 4] rfl)
        · refine lv_iconst (v := 1) hx hb dX1_usedBy_35 (by decide) ?_
          refine lv_goto (tgt := 40) hx hb dX1_usedBy_36 (by decide) ?_
          refine lv_iadd hx hb dX1_usedBy_40 ?_
          refine lv_istore_n (lv' := [(3, .int (acc + 1)), (4, .int (nI k)), (0, .ref (ad (0, 0))), (1, .int machine), (2, .int on)]) hx hb dX1_usedBy_41 rfl hl (by decide) rfl (fun ls hl => ?_)
          refine lv_iinc (v := nI (k + 1)) (lv' := [(4, .int (nI (k + 1))), (3, .int (acc + 1)), (0, .ref (ad (0, 0))), (1, .int machine), (2, .int on)]) hx hb dX1_usedBy_42 hl (k := 1) rfl (nI_1 _) (by decide) rfl (fun ls hl => ?_)
          refine lv_goto (tgt := 15) hx hb dX1_usedBy_45 (by decide) ?_
          exact ih15 (k + 1) zs (acc + 1) (by omega) (by omega) hrow (by rw [ea]; simp [sumI, c_32]) _ _ hR hS ls (lv_sub hl [0, 1, 2, 3, 4] rfl)
  exact L15 481 0 zo 0 (by omega) (by omega) hrow rfl _ _ hR hS ls (lv_sub hl [0, 1, 2, 3, 4] rfl)

set_option maxHeartbeats 4000000 in
theorem xX1_isElsewhere {l : Launch} {G : xG} {s0 : State} {b0 : Nat} (g1 : xG1 l G s0 b0) {A : Nat → Prop} {S : xS} {ad : Nat × Nat → Nat} {z : xZ} (member machine on start minutes work : Int32) (hW : xW S) : Met l yX1_isElsewhere (ws_ yX1_isElsewhere cX1_isElsewhere 9 (some .boolean)) ({ frames := 3, cells := 0, slots := 0, locals := 64 } : Room) (xP s0 A [.ref (ad (0, 0)), .int member, .int machine, .int on, .int start, .int minutes, .int work] (fun H => xRX G A S ad z H)) (xQp (some (.int (bI (xElse S member on start minutes))))) 0 0 (fun _ => False) := by
  refine Met.ofW (cc := cX1_isElsewhere) (maxL := 9) (ret := (some .boolean)) (by decide) rfl ?_
  intro p e s m args below meth c s₁ B hml hv
  obtain ⟨rfl, hWK, hR⟩ := hv
  have g := g1.1
  have hx := B.exec
  have hb := B.bytes
  have hr := B.returns
  have hts := atoms_spec (ws := ws_ yX1_isElsewhere cX1_isElsewhere 9 (some .boolean)) B.pre
  have hts : ∀ w ∈ lw_all, w.before _ s = true := fun w h => hts w (List.mem_cons_of_mem _ h)
  have hown : s.vm.findClass "Lendlathe" = some m.cls := findClass_of_methodNamed B.named
  have hlocks := B.notSynchronized
  have hK := hWK.K g
  have F : CallFix p m c cX1_isElsewhere 9 s _ lw_all "Lendlathe" := ⟨hx, hb, hml, hown, hts⟩
  have hS : va_S A s.heap s.heap [] := va_S.rf
  have hl := lv_entry ([.ref (ad (0, 0)), .int member, .int machine, .int on, .int start, .int minutes, .int work]) (n := 9) (Nat.le_of_ble_eq_true rfl)
  rw [lg_entry_eq]
  generalize (lg_sl ([.ref (ad (0, 0)), .int member, .int machine, .int on, .int start, .int minutes, .int work]) ++ List.replicate (9 - (lg_sl ([.ref (ad (0, 0)), .int member, .int machine, .int on, .int start, .int minutes, .int work])).length) Slot.unset).toArray = ls at hl ⊢
  have hl : lv_has ls 9 [(0, .ref (ad (0, 0))), (1, .int member), (2, .int machine), (3, .int on), (4, .int start), (5, .int minutes), (6, .int work)] := hl
  have hn0 := hW.1.1
  have hn1 := hW.1.2.1
  have hn2 := hW.1.2.2.1
  have hn3 := hW.1.2.2.2.1
  have hn4 := hW.1.2.2.2.2
  refine lv_iconst (v := 0) hx hb dX1_isElsewhere_0 (by decide) ?_
  refine lv_istore (lv' := [(7, .int 0), (0, .ref (ad (0, 0))), (1, .int member), (2, .int machine), (3, .int on), (4, .int start), (5, .int minutes), (6, .int work)]) hx hb dX1_isElsewhere_1 hl (by decide) rfl (fun ls hl => ?_)
  have L3 : ∀ (n : Nat) (k : Nat), S.1 2 0 - k < n → (k ≤ S.1 2 0) → (false = anyN k (fun en => decide (S.2.1 10 en 0 = member) && decide (S.2.1 16 en 0 = 98) && decide (S.2.1 12 en 0 = on) && xOv S.2.1 en start (start + minutes))) → ∀ (ls : Array Slot), lv_has ls 9 [(7, .int (nI k)), (0, .ref (ad (0, 0))), (1, .int member), (3, .int on), (4, .int start), (5, .int minutes)] → W p l e (headSpec (ws_ yX1_isElsewhere cX1_isElsewhere 9 (some .boolean)) ({ frames := 3, cells := 0, slots := 0, locals := 64 } : Room)).room s m ([.ref (ad (0, 0)), .int member, .int machine, .int on, .int start, .int minutes, .int work] : List Value).toArray below meth c s.heap [] 0 0 (MQ below (xQp (some (.int (bI (xElse S member on start minutes))))) ([.ref (ad (0, 0)), .int member, .int machine, .int on, .int start, .int minutes, .int work] : List Value).toArray s 0 0 (fun _ => False)) (F0 m 3 ls []) := by
    intro n3
    induction n3 with
    | zero =>
      intro k hn3
      exact absurd hn3 (Nat.not_lt_zero _)
    | succ n3 ih3 =>
      intro k hn3 hkn eb ls hl
      refine lv_iload hx hb dX1_isElsewhere_3 (lv_at hl 0 rfl) ?_
      refine lv_aload_n hx hb dX1_isElsewhere_5 rfl (lv_at hl 1 rfl) ?_
      refine g_X1_36 F hK (xw_0 hR) (v := .ref (ad (5, 0))) rfl dX1_isElsewhere_6 ?_
      refine xc_P (va_runV (As := []) (rest := [.int (nI k)]) F (xJ2_size_23 g1 (A := A) (S := S) (ad := ad) (z := z) ) (cwV 0 hts (lw_V q510 q511 q512 q60 q513) rfl rfl rfl hdV_J2_size ⟨Nat.le_of_ble_eq_true rfl, Nat.le_of_ble_eq_true rfl⟩) (xpreV (xrecv hK (xw_5 hR) rfl) hWK hS hR) rfl rfl hl.1 rfl (lv_room (Nat.le_of_ble_eq_true rfl)) dX1_isElsewhere_9 ⟨Nat.le_of_ble_eq_true rfl, Nat.le_of_ble_eq_true rfl⟩) ?_
      refine xn_ge (tgt := 80) k (S.1 2 0) rfl rfl (by omega) (by omega) hx hb dX1_isElsewhere_12 (by decide) (fun c_12 => ?_) (fun c_12 => ?_)
      · have n_12 := Nat.not_lt.mpr c_12
        refine lv_iconst (v := 0) hx hb dX1_isElsewhere_80 (by decide) ?_
        exact xr_Pz hx hb hr hlocks ((bI_f (by have hk9 : k = S.1 2 0 := (by omega); subst hk9; exact eb.symm)).symm) dX1_isElsewhere_81
      · have n_12 := Nat.not_le.mpr c_12
        refine lv_aload_n hx hb dX1_isElsewhere_15 rfl (lv_at hl 1 rfl) ?_
        refine g_X1_36 F hK (xw_0 hR) (v := .ref (ad (5, 0))) rfl dX1_isElsewhere_16 ?_
        refine lv_iload hx hb dX1_isElsewhere_19 (lv_at hl 0 rfl) ?_
        refine xc_P (va_runV (As := [.int (nI k)]) (rest := []) F (xJ2_get_23 g1 (A := A) (S := S) (ad := ad) (z := z) (xi_nI (n := (S.1 2 0)) (by omega) (by omega)) (by first | assumption | omega)) (cwV 1 hts (lw_V q486 q487 q488 q60 q489) rfl rfl rfl hdV_J2_get ⟨Nat.le_of_ble_eq_true rfl, Nat.le_of_ble_eq_true rfl⟩) (xpreV (xrecv hK (xw_5 hR) rfl) hWK hS hR) rfl rfl hl.1 rfl (lv_room (Nat.le_of_ble_eq_true rfl)) dX1_isElsewhere_21 ⟨Nat.le_of_ble_eq_true rfl, Nat.le_of_ble_eq_true rfl⟩) ?_
        refine x_castO F hK rfl (xw_23 hR (xi_nI (n := (S.1 2 0)) (by omega) (by omega)).lt) (hts _ q514) dX1_isElsewhere_24 ?_
        refine lv_astore (lv' := [(8, .ref (ad (23, k))), (7, .int (nI k)), (0, .ref (ad (0, 0))), (1, .int member), (3, .int on), (4, .int start), (5, .int minutes)]) hx hb dX1_isElsewhere_27 hl (by decide) rfl (fun ls hl => ?_)
        refine lv_aload hx hb dX1_isElsewhere_29 (lv_at hl 0 rfl) ?_
        refine g_X1_147 F hK (xw_23 hR (xi_nI (n := (S.1 2 0)) (by omega) (by omega)).lt) (v := .int (S.2.1 10 k 0)) rfl dX1_isElsewhere_31 ?_
        refine lv_iload_n hx hb dX1_isElsewhere_34 rfl (lv_at hl 3 rfl) ?_
        refine lv_icmp_ne (tgt := 74) hx hb dX1_isElsewhere_35 (by decide) (fun c_35 => ?_) (fun c_35 => ?_)
        · refine lv_iinc (v := nI (k + 1)) (lv' := [(7, .int (nI (k + 1))), (8, .ref (ad (23, k))), (0, .ref (ad (0, 0))), (1, .int member), (3, .int on), (4, .int start), (5, .int minutes)]) hx hb dX1_isElsewhere_74 hl (k := 1) rfl (nI_1 _) (by decide) rfl (fun ls hl => ?_)
          refine lv_goto (tgt := 3) hx hb dX1_isElsewhere_77 (by decide) ?_
          exact ih3 (k + 1) (by omega) (by omega) (by simp [anyN, ← eb, c_35]) ls (lv_sub hl [0, 2, 3, 4, 5, 6] rfl)
        · refine lv_aload hx hb dX1_isElsewhere_38 (lv_at hl 0 rfl) ?_
          refine g_X1_150 F hWK g hK (xw_23 hR (xi_nI (n := (S.1 2 0)) (by omega) (by omega)).lt) (v := .int (S.2.1 16 k 0)) rfl dX1_isElsewhere_40 ?_
          refine lv_bipush (v := 98) hx hb dX1_isElsewhere_43 (by decide) ?_
          refine lv_icmp_ne (tgt := 74) hx hb dX1_isElsewhere_45 (by decide) (fun c_45 => ?_) (fun c_45 => ?_)
          · refine lv_iinc (v := nI (k + 1)) (lv' := [(7, .int (nI (k + 1))), (8, .ref (ad (23, k))), (0, .ref (ad (0, 0))), (1, .int member), (3, .int on), (4, .int start), (5, .int minutes)]) hx hb dX1_isElsewhere_74 hl (k := 1) rfl (nI_1 _) (by decide) rfl (fun ls hl => ?_)
            refine lv_goto (tgt := 3) hx hb dX1_isElsewhere_77 (by decide) ?_
            exact ih3 (k + 1) (by omega) (by omega) (by simp [anyN, ← eb, c_35, c_45]) ls (lv_sub hl [0, 2, 3, 4, 5, 6] rfl)
          · refine lv_aload hx hb dX1_isElsewhere_48 (lv_at hl 0 rfl) ?_
            refine g_X1_154 F hK (xw_23 hR (xi_nI (n := (S.1 2 0)) (by omega) (by omega)).lt) (v := .int (S.2.1 12 k 0)) rfl dX1_isElsewhere_50 ?_
            refine lv_iload_n hx hb dX1_isElsewhere_53 rfl (lv_at hl 4 rfl) ?_
            refine lv_icmp_ne (tgt := 74) hx hb dX1_isElsewhere_54 (by decide) (fun c_54 => ?_) (fun c_54 => ?_)
            · refine lv_iinc (v := nI (k + 1)) (lv' := [(7, .int (nI (k + 1))), (8, .ref (ad (23, k))), (0, .ref (ad (0, 0))), (1, .int member), (3, .int on), (4, .int start), (5, .int minutes)]) hx hb dX1_isElsewhere_74 hl (k := 1) rfl (nI_1 _) (by decide) rfl (fun ls hl => ?_)
              refine lv_goto (tgt := 3) hx hb dX1_isElsewhere_77 (by decide) ?_
              exact ih3 (k + 1) (by omega) (by omega) (by simp [anyN, ← eb, c_35, c_45, c_54]) ls (lv_sub hl [0, 2, 3, 4, 5, 6] rfl)
            · refine lv_aload hx hb dX1_isElsewhere_57 (lv_at hl 0 rfl) ?_
              refine lv_iload hx hb dX1_isElsewhere_59 (lv_at hl 5 rfl) ?_
              refine lv_iload hx hb dX1_isElsewhere_61 (lv_at hl 5 rfl) ?_
              refine lv_iload hx hb dX1_isElsewhere_63 (lv_at hl 6 rfl) ?_
              refine lv_iadd hx hb dX1_isElsewhere_65 ?_
              refine xc_P (va_runU (As := [.int start, .int (start + minutes)]) (rest := []) F (xX7_overlaps g1 (A := A) (S := S) (ad := ad) (z := z) k start (start + minutes) ((xi_nI (n := (S.1 2 0)) (by omega) (by omega)).lt)) (va_cwU (x := ⟨"Lendlathe$Entry", "overlaps", "(II)Z"⟩) (C := "Lendlathe$Entry") (owner := "Lendlathe$Stay") 2 hts (lw_U q515 q516 q518 q519 q88 q520) rfl rfl rfl rfl (by decide +kernel) ⟨Nat.le_of_ble_eq_true rfl, Nat.le_of_ble_eq_true rfl⟩) (xpreV (xrecv hK (xw_23 hR (xi_nI (n := (S.1 2 0)) (by omega) (by omega)).lt) rfl) hWK hS hR) rfl rfl hl.1 rfl (lv_room (Nat.le_of_ble_eq_true rfl)) dX1_isElsewhere_66 ⟨Nat.le_of_ble_eq_true rfl, Nat.le_of_ble_eq_true rfl⟩) ?_
              refine x_ifeq (tgt := 74) hx hb dX1_isElsewhere_69 (by decide) (fun c_69 => ?_) (fun c_69 => ?_)
              · refine lv_iinc (v := nI (k + 1)) (lv' := [(7, .int (nI (k + 1))), (8, .ref (ad (23, k))), (0, .ref (ad (0, 0))), (1, .int member), (3, .int on), (4, .int start), (5, .int minutes)]) hx hb dX1_isElsewhere_74 hl (k := 1) rfl (nI_1 _) (by decide) rfl (fun ls hl => ?_)
                refine lv_goto (tgt := 3) hx hb dX1_isElsewhere_77 (by decide) ?_
                exact ih3 (k + 1) (by omega) (by omega) (by simp [anyN, ← eb, c_35, c_45, c_54, c_69]) ls (lv_sub hl [0, 2, 3, 4, 5, 6] rfl)
              · refine lv_iconst (v := 1) hx hb dX1_isElsewhere_72 (by decide) ?_
                exact xr_Pz hx hb hr hlocks ((bI_t (anyN_true (k := k + 1) (by simp [anyN, ← eb, c_35, c_45, c_54, c_69]) (by omega))).symm) dX1_isElsewhere_73
  exact L3 (S.1 2 0 + 1) 0 (by omega) (by omega) rfl ls (lv_sub hl [0, 1, 2, 4, 5, 6] rfl)

set_option maxHeartbeats 4000000 in
theorem xX6_isLive {l : Launch} {G : xG} {s0 : State} {b0 : Nat} (g1 : xG1 l G s0 b0) {A : Nat → Prop} {S : xS} {ad : Nat × Nat → Nat} {z : xZ} {rk : Nat → Nat} (hrk : rkOK S.2.1 rk) : ∀ (d : Nat) (mi : Nat) (on : Int32) (kd : Int32) (ki : Nat) (h_kd : xi kd ki 4) (hm : mi < S.1 1 0) (hd : rk ki < d), Met l yX6_isLive (ws_ yX6_isLive cX6_isLive 5 (some .boolean)) ({ frames := d, cells := 0, slots := 0, locals := 30 * (d) } : Room) (xP s0 A [.ref (ad (21, mi)), .int kd, .int on] (fun H => xRX G A S ad z H)) (xQp (some (.int (bI (xLive S.2.1 on mi d ki))))) 0 0 (fun _ => False) := by
  intro d
  induction d with
  | zero =>
    intro mi on kd ki h_kd hm hd
    exact absurd hd (Nat.not_lt_zero _)
  | succ d ihd =>
    intro mi on kd ki h_kd hm hd
    refine Met.ofW (cc := cX6_isLive) (maxL := 5) (ret := (some .boolean)) (by decide) rfl ?_
    intro p e s m args below meth c s₁ B hml hv
    obtain ⟨rfl, hWK, hR⟩ := hv
    have g := g1.1
    have hx := B.exec
    have hb := B.bytes
    have hr := B.returns
    have hts := atoms_spec (ws := ws_ yX6_isLive cX6_isLive 5 (some .boolean)) B.pre
    have hts : ∀ w ∈ lw_all, w.before _ s = true := fun w h => hts w (List.mem_cons_of_mem _ h)
    have hown : s.vm.findClass "Lendlathe$Member" = some m.cls := findClass_of_methodNamed B.named
    have hlocks := B.notSynchronized
    have hK := hWK.K g
    have F : CallFix p m c cX6_isLive 5 s _ lw_all "Lendlathe$Member" := ⟨hx, hb, hml, hown, hts⟩
    have hS : va_S A s.heap s.heap [] := va_S.rf
    have hl := lv_entry ([.ref (ad (21, mi)), .int kd, .int on]) (n := 5) (Nat.le_of_ble_eq_true rfl)
    rw [lg_entry_eq]
    generalize (lg_sl ([.ref (ad (21, mi)), .int kd, .int on]) ++ List.replicate (5 - (lg_sl ([.ref (ad (21, mi)), .int kd, .int on])).length) Slot.unset).toArray = ls at hl ⊢
    have hl : lv_has ls 5 [(0, .ref (ad (21, mi))), (1, .int kd), (2, .int on)] := hl
    have L32 : ∀ (n : Nat) (k : Nat) (b : Bool), 4 - k < n → (k ≤ 4) → (b = ((!decide (S.2.1 2 mi ki = -1) && decide (on < S.2.1 2 mi ki + 30)) && allN k (fun j => decide (S.2.1 5 ki j = 0) || xLive S.2.1 on mi d j))) → ∀ (ls : Array Slot), lv_has ls 5 [(4, .int (nI k)), (3, .int (bI b)), (0, .ref (ad (21, mi))), (1, .int kd), (2, .int on)] → W p l e (headSpec (ws_ yX6_isLive cX6_isLive 5 (some .boolean)) ({ frames := d + 1, cells := 0, slots := 0, locals := 30 * (d + 1) } : Room)).room s m ([.ref (ad (21, mi)), .int kd, .int on] : List Value).toArray below meth c s.heap [] 0 0 (MQ below (xQp (some (.int (bI (xLive S.2.1 on mi (d + 1) ki))))) ([.ref (ad (21, mi)), .int kd, .int on] : List Value).toArray s 0 0 (fun _ => False)) (F0 m 32 ls []) := by
      intro n32
      induction n32 with
      | zero =>
        intro k b hn32
        exact absurd hn32 (Nat.not_lt_zero _)
      | succ n32 ih32 =>
        intro k b hn32 hk4 eb ls hl
        refine lv_iload hx hb dX6_isLive_32 (lv_at hl 0 rfl) ?_
        refine lv_iconst (v := 4) hx hb dX6_isLive_34 (by decide) ?_
        refine xn_ge (tgt := 79) k 4 rfl (by decide) (by omega) (by omega) hx hb dX6_isLive_35 (by decide) (fun c_35 => ?_) (fun c_35 => ?_)
        · have n_35 := Nat.not_lt.mpr c_35
          refine lv_iload_n hx hb dX6_isLive_79 rfl (lv_at hl 1 rfl) ?_
          exact xr_Pz hx hb hr hlocks (congrArg bI (by have hk9 : k = 4 := (by omega); subst hk9; rw [eb]; rfl)) dX6_isLive_80
        · have n_35 := Nat.not_le.mpr c_35
          refine lv_iload_n hx hb dX6_isLive_38 rfl (lv_at hl 1 rfl) ?_
          refine x_ifeq (tgt := 79) hx hb dX6_isLive_39 (by decide) (fun c_39 => ?_) (fun c_39 => ?_)
          · refine lv_iload_n hx hb dX6_isLive_79 rfl (lv_at hl 1 rfl) ?_
            exact xr_Pz hx hb hr hlocks (congrArg bI (by rw [c_39]; exact (and_all (eb.symm.trans c_39) hk4).symm)) dX6_isLive_80
          · refine lv_aload_n hx hb dX6_isLive_42 rfl (lv_at hl 2 rfl) ?_
            refine g_X6_3 F hK (xw_21 hR hm) (v := .ref (ad (0, 0))) rfl dX6_isLive_43 ?_
            refine g_X6_19 F hWK g hK (xw_0 hR) (v := .ref (ad (7, 0))) rfl dX6_isLive_46 ?_
            refine lv_iload_n hx hb dX6_isLive_49 rfl (lv_at hl 3 rfl) ?_
            refine x_aald hx hb hK (xw_7 hR) rfl rfl (v := .ref (ad (8, ki))) (xi.up h_kd (by omega)) (rfl) dX6_isLive_50 ?_
            refine lv_iload hx hb dX6_isLive_51 (lv_at hl 0 rfl) ?_
            refine x_zald hx hb hK (xw_8 hR (by have := (h_kd).lt; omega)) (v := .int (S.2.1 5 ki k)) (xi_nI (n := 4) (by omega) (by omega)) (rfl) dX6_isLive_53 ?_
            refine lv_if_eq (tgt := 67) hx hb dX6_isLive_54 (by decide) (fun c_54 => ?_) (fun c_54 => ?_)
            · refine lv_iconst (v := 1) hx hb dX6_isLive_67 (by decide) ?_
              refine lv_goto (tgt := 72) hx hb dX6_isLive_68 (by decide) ?_
              refine lv_istore_n (lv' := [(3, .int 1), (4, .int (nI k)), (0, .ref (ad (21, mi))), (1, .int kd), (2, .int on)]) hx hb dX6_isLive_72 rfl hl (by decide) rfl (fun ls hl => ?_)
              refine lv_iinc (v := nI (k + 1)) (lv' := [(4, .int (nI (k + 1))), (3, .int 1), (0, .ref (ad (21, mi))), (1, .int kd), (2, .int on)]) hx hb dX6_isLive_73 hl (k := 1) rfl (nI_1 _) (by decide) rfl (fun ls hl => ?_)
              refine lv_goto (tgt := 32) hx hb dX6_isLive_76 (by decide) ?_
              exact ih32 (k + 1) true (by omega) (by omega) (by simp [allN, ← Bool.and_assoc, ← eb, c_39, c_54]) ls (lv_sub hl [0, 1, 2, 3, 4] rfl)
            · refine lv_aload_n hx hb dX6_isLive_57 rfl (lv_at hl 2 rfl) ?_
              refine lv_iload hx hb dX6_isLive_58 (lv_at hl 0 rfl) ?_
              refine lv_iload_n hx hb dX6_isLive_60 rfl (lv_at hl 4 rfl) ?_
              refine xc_P (va_runV (As := [.int (nI k), .int on]) (rest := []) F (ihd mi on (nI k) k (xi_nI (n := 4) (by omega) (by omega)) hm (by have := hrk ki k h_kd.lt c_35 c_54; omega)) (cwV 2 hts (lw_V q506 q503 q504 q83 q505) rfl rfl rfl hdV_X6_isLive ⟨by simp only [headSpec]; omega, by simp only [headSpec]; omega⟩) (xpreV (xrecv hK (xw_21 hR hm) rfl) hWK hS hR) rfl rfl hl.1 rfl (lv_room (Nat.le_of_ble_eq_true rfl)) dX6_isLive_61 ⟨Nat.le_of_ble_eq_true rfl, Nat.le_of_ble_eq_true rfl⟩) ?_
              refine x_ifeq (tgt := 71) hx hb dX6_isLive_64 (by decide) (fun c_64 => ?_) (fun c_64 => ?_)
              · refine lv_iconst (v := 0) hx hb dX6_isLive_71 (by decide) ?_
                refine lv_istore_n (lv' := [(3, .int 0), (4, .int (nI k)), (0, .ref (ad (21, mi))), (1, .int kd), (2, .int on)]) hx hb dX6_isLive_72 rfl hl (by decide) rfl (fun ls hl => ?_)
                refine lv_iinc (v := nI (k + 1)) (lv' := [(4, .int (nI (k + 1))), (3, .int 0), (0, .ref (ad (21, mi))), (1, .int kd), (2, .int on)]) hx hb dX6_isLive_73 hl (k := 1) rfl (nI_1 _) (by decide) rfl (fun ls hl => ?_)
                refine lv_goto (tgt := 32) hx hb dX6_isLive_76 (by decide) ?_
                exact ih32 (k + 1) false (by omega) (by omega) (by simp [allN, ← Bool.and_assoc, ← eb, c_39, c_54, c_64]) ls (lv_sub hl [0, 1, 2, 3, 4] rfl)
              · refine lv_iconst (v := 1) hx hb dX6_isLive_67 (by decide) ?_
                refine lv_goto (tgt := 72) hx hb dX6_isLive_68 (by decide) ?_
                refine lv_istore_n (lv' := [(3, .int 1), (4, .int (nI k)), (0, .ref (ad (21, mi))), (1, .int kd), (2, .int on)]) hx hb dX6_isLive_72 rfl hl (by decide) rfl (fun ls hl => ?_)
                refine lv_iinc (v := nI (k + 1)) (lv' := [(4, .int (nI (k + 1))), (3, .int 1), (0, .ref (ad (21, mi))), (1, .int kd), (2, .int on)]) hx hb dX6_isLive_73 hl (k := 1) rfl (nI_1 _) (by decide) rfl (fun ls hl => ?_)
                refine lv_goto (tgt := 32) hx hb dX6_isLive_76 (by decide) ?_
                exact ih32 (k + 1) true (by omega) (by omega) (by simp [allN, ← Bool.and_assoc, ← eb, c_39, c_54, c_64]) ls (lv_sub hl [0, 1, 2, 3, 4] rfl)
    refine lv_aload_n hx hb dX6_isLive_0 rfl (lv_at hl 0 rfl) ?_
    refine g_X6_15 F hK (xw_21 hR hm) (v := .ref (ad (22, mi))) rfl dX6_isLive_1 ?_
    refine lv_iload_n hx hb dX6_isLive_4 rfl (lv_at hl 1 rfl) ?_
    refine x_iald hx hb hK (xw_22 hR hm) (v := .int (S.2.1 2 mi ki)) (xi.up h_kd (by omega)) (rfl) dX6_isLive_5 ?_
    refine lv_iconst (v := (-1)) hx hb dX6_isLive_6 (by decide) ?_
    refine lv_icmp_eq (tgt := 27) hx hb dX6_isLive_7 (by decide) (fun c_7 => ?_) (fun c_7 => ?_)
    · refine lv_iconst (v := 0) hx hb dX6_isLive_27 (by decide) ?_
      refine lv_istore_n (lv' := [(3, .int 0), (0, .ref (ad (21, mi))), (1, .int kd), (2, .int on)]) hx hb dX6_isLive_28 rfl hl (by decide) rfl (fun ls hl => ?_)
      refine lv_iconst (v := 0) hx hb dX6_isLive_29 (by decide) ?_
      refine lv_istore (lv' := [(4, .int 0), (3, .int 0), (0, .ref (ad (21, mi))), (1, .int kd), (2, .int on)]) hx hb dX6_isLive_30 hl (by decide) rfl (fun ls hl => ?_)
      exact L32 5 0 false (by omega) (by omega) (by simp [allN, c_7]) ls (lv_sub hl [0, 1, 2, 3, 4] rfl)
    · refine lv_iload_n hx hb dX6_isLive_10 rfl (lv_at hl 2 rfl) ?_
      refine lv_aload_n hx hb dX6_isLive_11 rfl (lv_at hl 0 rfl) ?_
      refine g_X6_15 F hK (xw_21 hR hm) (v := .ref (ad (22, mi))) rfl dX6_isLive_12 ?_
      refine lv_iload_n hx hb dX6_isLive_15 rfl (lv_at hl 1 rfl) ?_
      refine x_iald hx hb hK (xw_22 hR hm) (v := .int (S.2.1 2 mi ki)) (xi.up h_kd (by omega)) (rfl) dX6_isLive_16 ?_
      refine lv_bipush (v := 30) hx hb dX6_isLive_17 (by decide) ?_
      refine lv_iadd hx hb dX6_isLive_19 ?_
      refine lv_icmp_ge (tgt := 27) hx hb dX6_isLive_20 (by decide) (fun c_20 => ?_) (fun c_20 => ?_)
      · have n_20 := Int32.not_lt.mpr c_20
        refine lv_iconst (v := 0) hx hb dX6_isLive_27 (by decide) ?_
        refine lv_istore_n (lv' := [(3, .int 0), (0, .ref (ad (21, mi))), (1, .int kd), (2, .int on)]) hx hb dX6_isLive_28 rfl hl (by decide) rfl (fun ls hl => ?_)
        refine lv_iconst (v := 0) hx hb dX6_isLive_29 (by decide) ?_
        refine lv_istore (lv' := [(4, .int 0), (3, .int 0), (0, .ref (ad (21, mi))), (1, .int kd), (2, .int on)]) hx hb dX6_isLive_30 hl (by decide) rfl (fun ls hl => ?_)
        exact L32 5 0 false (by omega) (by omega) (by simp [allN, c_7, c_20, n_20]) ls (lv_sub hl [0, 1, 2, 3, 4] rfl)
      · have n_20 := Int32.not_le.mp c_20
        refine lv_iconst (v := 1) hx hb dX6_isLive_23 (by decide) ?_
        refine lv_goto (tgt := 28) hx hb dX6_isLive_24 (by decide) ?_
        refine lv_istore_n (lv' := [(3, .int 1), (0, .ref (ad (21, mi))), (1, .int kd), (2, .int on)]) hx hb dX6_isLive_28 rfl hl (by decide) rfl (fun ls hl => ?_)
        refine lv_iconst (v := 0) hx hb dX6_isLive_29 (by decide) ?_
        refine lv_istore (lv' := [(4, .int 0), (3, .int 1), (0, .ref (ad (21, mi))), (1, .int kd), (2, .int on)]) hx hb dX6_isLive_30 hl (by decide) rfl (fun ls hl => ?_)
        exact L32 5 0 true (by omega) (by omega) (by simp [allN, c_7, c_20, n_20]) ls (lv_sub hl [0, 1, 2, 3, 4] rfl)

set_option maxHeartbeats 4000000 in
theorem xX1_leadsTo {l : Launch} {G : xG} {s0 : State} {b0 : Nat} (g1 : xG1 l G s0 b0) {A : Nat → Prop} {S : xS} {ad : Nat × Nat → Nat} {z : xZ} {rk : Nat → Nat} (hrk : rkOK S.2.1 rk) : ∀ (d : Nat) (a o : Nat) (hW : xW S) (ha : a < 4) (ho : o < 4) (hd : rk a < d), Met l yX1_leadsTo (ws_ yX1_leadsTo cX1_leadsTo 5 (some .boolean)) ({ frames := d, cells := 0, slots := 0, locals := 30 * (d) } : Room) (xP s0 A [.ref (ad (0, 0)), .int (nI a), .int (nI o)] (fun H => xRX G A S ad z H)) (xQp (some (.int (bI (xLeads S.2.1 d a o))))) 0 0 (fun _ => False) := by
  intro d
  induction d with
  | zero =>
    intro a o hW ha ho hd
    exact absurd hd (Nat.not_lt_zero _)
  | succ d ihd =>
    intro a o hW ha ho hd
    refine Met.ofW (cc := cX1_leadsTo) (maxL := 5) (ret := (some .boolean)) (by decide) rfl ?_
    intro p e s m args below meth c s₁ B hml hv
    obtain ⟨rfl, hWK, hR⟩ := hv
    have g := g1.1
    have hx := B.exec
    have hb := B.bytes
    have hr := B.returns
    have hts := atoms_spec (ws := ws_ yX1_leadsTo cX1_leadsTo 5 (some .boolean)) B.pre
    have hts : ∀ w ∈ lw_all, w.before _ s = true := fun w h => hts w (List.mem_cons_of_mem _ h)
    have hown : s.vm.findClass "Lendlathe" = some m.cls := findClass_of_methodNamed B.named
    have hlocks := B.notSynchronized
    have hK := hWK.K g
    have F : CallFix p m c cX1_leadsTo 5 s _ lw_all "Lendlathe" := ⟨hx, hb, hml, hown, hts⟩
    have hS : va_S A s.heap s.heap [] := va_S.rf
    have hl := lv_entry ([.ref (ad (0, 0)), .int (nI a), .int (nI o)]) (n := 5) (Nat.le_of_ble_eq_true rfl)
    rw [lg_entry_eq]
    generalize (lg_sl ([.ref (ad (0, 0)), .int (nI a), .int (nI o)]) ++ List.replicate (5 - (lg_sl ([.ref (ad (0, 0)), .int (nI a), .int (nI o)])).length) Slot.unset).toArray = ls at hl ⊢
    have hl : lv_has ls 5 [(0, .ref (ad (0, 0))), (1, .int (nI a)), (2, .int (nI o))] := hl
    have L12 : ∀ (n : Nat) (k : Nat) (b : Bool), 4 - k < n → (k ≤ 4) → (b = (!decide (S.2.1 5 a o = 0) || anyN k (fun j => !decide (S.2.1 5 a j = 0) && xLeads S.2.1 d j o))) → ∀ (ls : Array Slot), lv_has ls 5 [(4, .int (nI k)), (3, .int (bI b)), (0, .ref (ad (0, 0))), (1, .int (nI a)), (2, .int (nI o))] → W p l e (headSpec (ws_ yX1_leadsTo cX1_leadsTo 5 (some .boolean)) ({ frames := d + 1, cells := 0, slots := 0, locals := 30 * (d + 1) } : Room)).room s m ([.ref (ad (0, 0)), .int (nI a), .int (nI o)] : List Value).toArray below meth c s.heap [] 0 0 (MQ below (xQp (some (.int (bI (xLeads S.2.1 (d + 1) a o))))) ([.ref (ad (0, 0)), .int (nI a), .int (nI o)] : List Value).toArray s 0 0 (fun _ => False)) (F0 m 12 ls []) := by
      intro n12
      induction n12 with
      | zero =>
        intro k b hn12
        exact absurd hn12 (Nat.not_lt_zero _)
      | succ n12 ih12 =>
        intro k b hn12 hk4 eb ls hl
        refine lv_iload hx hb dX1_leadsTo_12 (lv_at hl 0 rfl) ?_
        refine lv_iconst (v := 4) hx hb dX1_leadsTo_14 (by decide) ?_
        refine xn_ge (tgt := 56) k 4 rfl (by decide) (by omega) (by omega) hx hb dX1_leadsTo_15 (by decide) (fun c_15 => ?_) (fun c_15 => ?_)
        · have n_15 := Nat.not_lt.mpr c_15
          refine lv_iload_n hx hb dX1_leadsTo_56 rfl (lv_at hl 1 rfl) ?_
          exact xr_Pz hx hb hr hlocks (congrArg bI (by have hk9 : k = 4 := (by omega); subst hk9; rw [eb]; rfl)) dX1_leadsTo_57
        · have n_15 := Nat.not_le.mpr c_15
          refine lv_iload_n hx hb dX1_leadsTo_18 rfl (lv_at hl 1 rfl) ?_
          refine x_ifne (tgt := 56) hx hb dX1_leadsTo_19 (by decide) (fun c_19 => ?_) (fun c_19 => ?_)
          · refine lv_iload_n hx hb dX1_leadsTo_56 rfl (lv_at hl 1 rfl) ?_
            exact xr_Pz hx hb hr hlocks (congrArg bI (by rw [c_19]; exact (or_any (eb.symm.trans c_19) hk4).symm)) dX1_leadsTo_57
          · refine lv_aload_n hx hb dX1_leadsTo_22 rfl (lv_at hl 2 rfl) ?_
            refine g_X1_44 F hK (xw_0 hR) (v := .ref (ad (7, 0))) rfl dX1_leadsTo_23 ?_
            refine lv_iload_n hx hb dX1_leadsTo_26 rfl (lv_at hl 3 rfl) ?_
            refine x_aald hx hb hK (xw_7 hR) rfl rfl (v := .ref (ad (8, a))) (xi_nI (n := 4) (by omega) (by omega)) (rfl) dX1_leadsTo_27 ?_
            refine lv_iload hx hb dX1_leadsTo_28 (lv_at hl 0 rfl) ?_
            refine x_zald hx hb hK (xw_8 hR (by omega)) (v := .int (S.2.1 5 a k)) (xi_nI (n := 4) (by omega) (by omega)) (rfl) dX1_leadsTo_30 ?_
            refine lv_if_eq (tgt := 48) hx hb dX1_leadsTo_31 (by decide) (fun c_31 => ?_) (fun c_31 => ?_)
            · refine lv_iconst (v := 0) hx hb dX1_leadsTo_48 (by decide) ?_
              refine lv_istore_n (lv' := [(3, .int 0), (4, .int (nI k)), (0, .ref (ad (0, 0))), (1, .int (nI a)), (2, .int (nI o))]) hx hb dX1_leadsTo_49 rfl hl (by decide) rfl (fun ls hl => ?_)
              refine lv_iinc (v := nI (k + 1)) (lv' := [(4, .int (nI (k + 1))), (3, .int 0), (0, .ref (ad (0, 0))), (1, .int (nI a)), (2, .int (nI o))]) hx hb dX1_leadsTo_50 hl (k := 1) rfl (nI_1 _) (by decide) rfl (fun ls hl => ?_)
              refine lv_goto (tgt := 12) hx hb dX1_leadsTo_53 (by decide) ?_
              exact ih12 (k + 1) false (by omega) (by omega) (by simp [anyN, ← Bool.or_assoc, ← eb, c_19, c_31]) ls (lv_sub hl [0, 1, 2, 3, 4] rfl)
            · refine lv_aload_n hx hb dX1_leadsTo_34 rfl (lv_at hl 2 rfl) ?_
              refine lv_iload hx hb dX1_leadsTo_35 (lv_at hl 0 rfl) ?_
              refine lv_iload_n hx hb dX1_leadsTo_37 rfl (lv_at hl 4 rfl) ?_
              refine xc_P (va_runV (As := [.int (nI k), .int (nI o)]) (rest := []) F (ihd k o hW (by first | assumption | omega) (by first | assumption | omega) (by have := hrk a k ha c_15 c_31; omega)) (cwV 2 hts (lw_V q889 q891 qs17 q56 q892) rfl rfl rfl hdV_X1_leadsTo ⟨by simp only [headSpec]; omega, by simp only [headSpec]; omega⟩) (xpreV (xrecv hK (xw_0 hR) rfl) hWK hS hR) rfl rfl hl.1 rfl (lv_room (Nat.le_of_ble_eq_true rfl)) dX1_leadsTo_38 ⟨Nat.le_of_ble_eq_true rfl, Nat.le_of_ble_eq_true rfl⟩) ?_
              refine x_ifeq (tgt := 48) hx hb dX1_leadsTo_41 (by decide) (fun c_41 => ?_) (fun c_41 => ?_)
              · refine lv_iconst (v := 0) hx hb dX1_leadsTo_48 (by decide) ?_
                refine lv_istore_n (lv' := [(3, .int 0), (4, .int (nI k)), (0, .ref (ad (0, 0))), (1, .int (nI a)), (2, .int (nI o))]) hx hb dX1_leadsTo_49 rfl hl (by decide) rfl (fun ls hl => ?_)
                refine lv_iinc (v := nI (k + 1)) (lv' := [(4, .int (nI (k + 1))), (3, .int 0), (0, .ref (ad (0, 0))), (1, .int (nI a)), (2, .int (nI o))]) hx hb dX1_leadsTo_50 hl (k := 1) rfl (nI_1 _) (by decide) rfl (fun ls hl => ?_)
                refine lv_goto (tgt := 12) hx hb dX1_leadsTo_53 (by decide) ?_
                exact ih12 (k + 1) false (by omega) (by omega) (by simp [anyN, ← Bool.or_assoc, ← eb, c_19, c_31, c_41]) ls (lv_sub hl [0, 1, 2, 3, 4] rfl)
              · refine lv_iconst (v := 1) hx hb dX1_leadsTo_44 (by decide) ?_
                refine lv_goto (tgt := 49) hx hb dX1_leadsTo_45 (by decide) ?_
                refine lv_istore_n (lv' := [(3, .int 1), (4, .int (nI k)), (0, .ref (ad (0, 0))), (1, .int (nI a)), (2, .int (nI o))]) hx hb dX1_leadsTo_49 rfl hl (by decide) rfl (fun ls hl => ?_)
                refine lv_iinc (v := nI (k + 1)) (lv' := [(4, .int (nI (k + 1))), (3, .int 1), (0, .ref (ad (0, 0))), (1, .int (nI a)), (2, .int (nI o))]) hx hb dX1_leadsTo_50 hl (k := 1) rfl (nI_1 _) (by decide) rfl (fun ls hl => ?_)
                refine lv_goto (tgt := 12) hx hb dX1_leadsTo_53 (by decide) ?_
                exact ih12 (k + 1) true (by omega) (by omega) (by simp [anyN, ← Bool.or_assoc, ← eb, c_19, c_31, c_41]) ls (lv_sub hl [0, 1, 2, 3, 4] rfl)
    refine lv_aload_n hx hb dX1_leadsTo_0 rfl (lv_at hl 0 rfl) ?_
    refine g_X1_44 F hK (xw_0 hR) (v := .ref (ad (7, 0))) rfl dX1_leadsTo_1 ?_
    refine lv_iload_n hx hb dX1_leadsTo_4 rfl (lv_at hl 1 rfl) ?_
    refine x_aald hx hb hK (xw_7 hR) rfl rfl (v := .ref (ad (8, a))) (xi_nI (n := 4) (by omega) (by omega)) (rfl) dX1_leadsTo_5 ?_
    refine lv_iload_n hx hb dX1_leadsTo_6 rfl (lv_at hl 2 rfl) ?_
    refine x_zald hx hb hK (xw_8 hR (by omega)) (v := .int (S.2.1 5 a o)) (xi_nI (n := 4) (by omega) (by omega)) (rfl) dX1_leadsTo_7 ?_
    refine x_topi (hW.nd a o) ?_
    refine lv_istore_n (lv' := [(3, .int (bI (!decide (S.2.1 5 a o = 0)))), (0, .ref (ad (0, 0))), (1, .int (nI a)), (2, .int (nI o))]) hx hb dX1_leadsTo_8 rfl hl (by decide) rfl (fun ls hl => ?_)
    refine lv_iconst (v := 0) hx hb dX1_leadsTo_9 (by decide) ?_
    refine lv_istore (lv' := [(4, .int 0), (3, .int (bI (!decide (S.2.1 5 a o = 0)))), (0, .ref (ad (0, 0))), (1, .int (nI a)), (2, .int (nI o))]) hx hb dX1_leadsTo_10 hl (by decide) rfl (fun ls hl => ?_)
    exact L12 5 0 (!decide (S.2.1 5 a o = 0)) (by omega) (by omega) (by simp [anyN]) ls (lv_sub hl [0, 1, 2, 3, 4] rfl)

set_option maxHeartbeats 4000000 in
theorem xX8_isLive {l : Launch} {G : xG} {s0 : State} {b0 : Nat} (g1 : xG1 l G s0 b0) {A : Nat → Prop} {S : xS} {ad : Nat × Nat → Nat} {z : xZ} (en : Nat) (he : en < S.1 2 0) (hW : xW S) (hA : ∃ rk, rkOK S.2.1 rk ∧ ∀ i, rk i < 4) : Met l yX8_isLive (ws_ yX8_isLive cX8_isLive 1 (some .boolean)) ({ frames := 5, cells := 0, slots := 0, locals := 144 } : Room) (xP s0 A [.ref (ad (23, en))] (fun H => xRX G A S ad z H)) (xQp (some (.int (bI (xLive S.2.1 (S.2.1 12 en 0) (S.2.1 10 en 0).toNatClampNeg 4 (S.2.1 0 (S.2.1 11 en 0).toNatClampNeg 0).toNatClampNeg))))) 0 0 (fun _ => False) := by
  refine Met.ofW (cc := cX8_isLive) (maxL := 1) (ret := (some .boolean)) (by decide) rfl ?_
  intro p e s m args below meth c s₁ B hml hv
  obtain ⟨rfl, hWK, hR⟩ := hv
  have g := g1.1
  have hx := B.exec
  have hb := B.bytes
  have hr := B.returns
  have hts := atoms_spec (ws := ws_ yX8_isLive cX8_isLive 1 (some .boolean)) B.pre
  have hts : ∀ w ∈ lw_all, w.before _ s = true := fun w h => hts w (List.mem_cons_of_mem _ h)
  have hown : s.vm.findClass "Lendlathe$Entry" = some m.cls := findClass_of_methodNamed B.named
  have hlocks := B.notSynchronized
  have hK := hWK.K g
  have F : CallFix p m c cX8_isLive 1 s _ lw_all "Lendlathe$Entry" := ⟨hx, hb, hml, hown, hts⟩
  have hS : va_S A s.heap s.heap [] := va_S.rf
  have hl := lv_entry ([.ref (ad (23, en))]) (n := 1) (Nat.le_of_ble_eq_true rfl)
  rw [lg_entry_eq]
  generalize (lg_sl ([.ref (ad (23, en))]) ++ List.replicate (1 - (lg_sl ([.ref (ad (23, en))])).length) Slot.unset).toArray = ls at hl ⊢
  have hl : lv_has ls 1 [(0, .ref (ad (23, en)))] := hl
  have hn0 := hW.1.1
  have hn1 := hW.1.2.1
  have hn2 := hW.1.2.2.1
  have hn3 := hW.1.2.2.2.1
  have hn4 := hW.1.2.2.2.2
  obtain ⟨rk, hrk, hr4⟩ := hA
  refine lv_aload_n hx hb dX8_isLive_0 rfl (lv_at hl 0 rfl) ?_
  refine g_X8_3 F hK (xw_23 hR he) (v := .ref (ad (0, 0))) rfl dX8_isLive_1 ?_
  refine g_X8_82 F hWK g hK (xw_0 hR) (v := .ref (ad (4, 0))) rfl dX8_isLive_4 ?_
  refine lv_aload_n hx hb dX8_isLive_7 rfl (lv_at hl 0 rfl) ?_
  refine g_X8_85 F hK (xw_23 hR he) (v := .int (S.2.1 10 en 0)) rfl dX8_isLive_8 ?_
  refine xc_P (va_runV (As := [.int (S.2.1 10 en 0)]) (rest := []) F (xJ2_get_21 g1 (A := A) (S := S) (ad := ad) (z := z) (xi.up (xi_of (hW.mem (e := en) (by first | assumption | omega))) (by first | omega | exact Nat.le_refl _)) (by first | assumption | omega)) (cwV 1 hts (lw_V q713 q487 q488 q60 q489) rfl rfl rfl hdV_J2_get ⟨Nat.le_of_ble_eq_true rfl, Nat.le_of_ble_eq_true rfl⟩) (xpreV (xrecv hK (xw_4 hR) rfl) hWK hS hR) rfl rfl hl.1 rfl (lv_room (Nat.le_of_ble_eq_true rfl)) dX8_isLive_11 ⟨Nat.le_of_ble_eq_true rfl, Nat.le_of_ble_eq_true rfl⟩) ?_
  refine x_castO F hK rfl (xw_21 hR (xi.up (xi_of (hW.mem (e := en) (by first | assumption | omega))) (by first | omega | exact Nat.le_refl _)).lt) (hts _ q714) dX8_isLive_14 ?_
  refine lv_aload_n hx hb dX8_isLive_17 rfl (lv_at hl 0 rfl) ?_
  refine g_X8_3 F hK (xw_23 hR he) (v := .ref (ad (0, 0))) rfl dX8_isLive_18 ?_
  refine g_X8_59 F hWK g hK (xw_0 hR) (v := .ref (ad (3, 0))) rfl dX8_isLive_21 ?_
  refine lv_aload_n hx hb dX8_isLive_24 rfl (lv_at hl 0 rfl) ?_
  refine g_X8_62 F hK (xw_23 hR he) (v := .int (S.2.1 11 en 0)) rfl dX8_isLive_25 ?_
  refine xc_P (va_runV (As := [.int (S.2.1 11 en 0)]) (rest := [.ref (ad (21, ((S.2.1 10 en 0).toNatClampNeg)))]) F (xJ2_get_20 g1 (A := A) (S := S) (ad := ad) (z := z) (xi.up (xi_of (hW.mac (e := en) (by first | assumption | omega))) (by first | omega | exact Nat.le_refl _)) (by first | assumption | omega)) (cwV 1 hts (lw_V q713 q487 q488 q60 q489) rfl rfl rfl hdV_J2_get ⟨Nat.le_of_ble_eq_true rfl, Nat.le_of_ble_eq_true rfl⟩) (xpreV (xrecv hK (xw_3 hR) rfl) hWK hS hR) rfl rfl hl.1 rfl (lv_room (Nat.le_of_ble_eq_true rfl)) dX8_isLive_28 ⟨Nat.le_of_ble_eq_true rfl, Nat.le_of_ble_eq_true rfl⟩) ?_
  refine x_castO F hK rfl (xw_20 hR (xi.up (xi_of (hW.mac (e := en) (by first | assumption | omega))) (by first | omega | exact Nat.le_refl _)).lt) (hts _ q715) dX8_isLive_31 ?_
  refine g_X8_67 F hWK g hK (xw_20 hR (xi.up (xi_of (hW.mac (e := en) (by first | assumption | omega))) (by first | omega | exact Nat.le_refl _)).lt) (v := .int (S.2.1 0 ((S.2.1 11 en 0).toNatClampNeg) 0)) rfl dX8_isLive_34 ?_
  refine lv_aload_n hx hb dX8_isLive_37 rfl (lv_at hl 0 rfl) ?_
  refine g_X8_96 F hK (xw_23 hR he) (v := .int (S.2.1 12 en 0)) rfl dX8_isLive_38 ?_
  refine xc_P (va_runV (As := [.int (S.2.1 0 ((S.2.1 11 en 0).toNatClampNeg) 0), .int (S.2.1 12 en 0)]) (rest := []) F (xX6_isLive g1 (A := A) (S := S) (ad := ad) (z := z) hrk 4 ((S.2.1 10 en 0).toNatClampNeg) (S.2.1 12 en 0) (S.2.1 0 ((S.2.1 11 en 0).toNatClampNeg) 0) ((S.2.1 0 ((S.2.1 11 en 0).toNatClampNeg) 0).toNatClampNeg) (xi.up (xi_of (hW.kd ((S.2.1 11 en 0).toNatClampNeg))) (by first | omega | exact Nat.le_refl _)) ((xi.up (xi_of (hW.mem (e := en) (by first | assumption | omega))) (by first | omega | exact Nat.le_refl _)).lt) (hr4 _)) (cwV 2 hts (lw_V q716 q503 q504 q83 q505) rfl rfl rfl hdV_X6_isLive ⟨Nat.le_of_ble_eq_true rfl, Nat.le_of_ble_eq_true rfl⟩) (xpreV (xrecv hK (xw_21 hR (xi.up (xi_of (hW.mem (e := en) (by first | assumption | omega))) (by first | omega | exact Nat.le_refl _)).lt) rfl) hWK hS hR) rfl rfl hl.1 rfl (lv_room (Nat.le_of_ble_eq_true rfl)) dX8_isLive_41 ⟨Nat.le_of_ble_eq_true rfl, Nat.le_of_ble_eq_true rfl⟩) ?_
  exact xr_Pz hx hb hr hlocks (congrArg bI (by first | rfl | simp [])) dX8_isLive_44

set_option maxHeartbeats 4000000 in
theorem xX1_lacksInduction {l : Launch} {G : xG} {s0 : State} {b0 : Nat} (g1 : xG1 l G s0 b0) {A : Nat → Prop} {S : xS} {ad : Nat × Nat → Nat} {z : xZ} (on start minutes work : Int32) {member : Int32} {mi : Nat} (h_member : xi member mi (S.1 1 0)) {machine : Int32} {mac : Nat} (h_machine : xi machine mac (S.1 0 0)) (hW : xW S) (hA : ∃ rk, rkOK S.2.1 rk ∧ ∀ i, rk i < 4) : Met l yX1_lacksInduction (ws_ yX1_lacksInduction cX1_lacksInduction 7 (some .boolean)) ({ frames := 5, cells := 0, slots := 0, locals := 144 } : Room) (xP s0 A [.ref (ad (0, 0)), .int member, .int machine, .int on, .int start, .int minutes, .int work] (fun H => xRX G A S ad z H)) (xQp (some (.int (bI (xLacks S.2.1 mi mac on))))) 0 0 (fun _ => False) := by
  refine Met.ofW (cc := cX1_lacksInduction) (maxL := 7) (ret := (some .boolean)) (by decide) rfl ?_
  intro p e s m args below meth c s₁ B hml hv
  obtain ⟨rfl, hWK, hR⟩ := hv
  have g := g1.1
  have hx := B.exec
  have hb := B.bytes
  have hr := B.returns
  have hts := atoms_spec (ws := ws_ yX1_lacksInduction cX1_lacksInduction 7 (some .boolean)) B.pre
  have hts : ∀ w ∈ lw_all, w.before _ s = true := fun w h => hts w (List.mem_cons_of_mem _ h)
  have hown : s.vm.findClass "Lendlathe" = some m.cls := findClass_of_methodNamed B.named
  have hlocks := B.notSynchronized
  have hK := hWK.K g
  have F : CallFix p m c cX1_lacksInduction 7 s _ lw_all "Lendlathe" := ⟨hx, hb, hml, hown, hts⟩
  have hS : va_S A s.heap s.heap [] := va_S.rf
  have hl := lv_entry ([.ref (ad (0, 0)), .int member, .int machine, .int on, .int start, .int minutes, .int work]) (n := 7) (Nat.le_of_ble_eq_true rfl)
  rw [lg_entry_eq]
  generalize (lg_sl ([.ref (ad (0, 0)), .int member, .int machine, .int on, .int start, .int minutes, .int work]) ++ List.replicate (7 - (lg_sl ([.ref (ad (0, 0)), .int member, .int machine, .int on, .int start, .int minutes, .int work])).length) Slot.unset).toArray = ls at hl ⊢
  have hl : lv_has ls 7 [(0, .ref (ad (0, 0))), (1, .int member), (2, .int machine), (3, .int on), (4, .int start), (5, .int minutes), (6, .int work)] := hl
  have hn0 := hW.1.1
  have hn1 := hW.1.2.1
  have hn2 := hW.1.2.2.1
  have hn3 := hW.1.2.2.2.1
  have hn4 := hW.1.2.2.2.2
  obtain ⟨rk, hrk, hr4⟩ := hA
  refine lv_aload_n hx hb dX1_lacksInduction_0 rfl (lv_at hl 0 rfl) ?_
  refine g_X1_33 F hK (xw_0 hR) (v := .ref (ad (4, 0))) rfl dX1_lacksInduction_1 ?_
  refine lv_iload_n hx hb dX1_lacksInduction_4 rfl (lv_at hl 1 rfl) ?_
  refine xc_P (va_runV (As := [.int member]) (rest := []) F (xJ2_get_21 g1 (A := A) (S := S) (ad := ad) (z := z) (xi.up h_member (by omega)) (by first | assumption | omega)) (cwV 1 hts (lw_V q486 q487 q488 q60 q489) rfl rfl rfl hdV_J2_get ⟨Nat.le_of_ble_eq_true rfl, Nat.le_of_ble_eq_true rfl⟩) (xpreV (xrecv hK (xw_4 hR) rfl) hWK hS hR) rfl rfl hl.1 rfl (lv_room (Nat.le_of_ble_eq_true rfl)) dX1_lacksInduction_5 ⟨Nat.le_of_ble_eq_true rfl, Nat.le_of_ble_eq_true rfl⟩) ?_
  refine x_castO F hK rfl (xw_21 hR (xi.up h_member (by omega)).lt) (hts _ q500) dX1_lacksInduction_8 ?_
  refine lv_aload_n hx hb dX1_lacksInduction_11 rfl (lv_at hl 0 rfl) ?_
  refine g_X1_29 F hK (xw_0 hR) (v := .ref (ad (3, 0))) rfl dX1_lacksInduction_12 ?_
  refine lv_iload_n hx hb dX1_lacksInduction_15 rfl (lv_at hl 2 rfl) ?_
  refine xc_P (va_runV (As := [.int machine]) (rest := [.ref (ad (21, mi))]) F (xJ2_get_20 g1 (A := A) (S := S) (ad := ad) (z := z) (xi.up h_machine (by omega)) (by first | assumption | omega)) (cwV 1 hts (lw_V q486 q487 q488 q60 q489) rfl rfl rfl hdV_J2_get ⟨Nat.le_of_ble_eq_true rfl, Nat.le_of_ble_eq_true rfl⟩) (xpreV (xrecv hK (xw_3 hR) rfl) hWK hS hR) rfl rfl hl.1 rfl (lv_room (Nat.le_of_ble_eq_true rfl)) dX1_lacksInduction_16 ⟨Nat.le_of_ble_eq_true rfl, Nat.le_of_ble_eq_true rfl⟩) ?_
  refine x_castO F hK rfl (xw_20 hR (xi.up h_machine (by omega)).lt) (hts _ q501) dX1_lacksInduction_19 ?_
  refine g_X1_134 F hWK g hK (xw_20 hR (xi.up h_machine (by omega)).lt) (v := .int (S.2.1 0 mac 0)) rfl dX1_lacksInduction_22 ?_
  refine lv_iload_n hx hb dX1_lacksInduction_25 rfl (lv_at hl 3 rfl) ?_
  refine xc_P (va_runV (As := [.int (S.2.1 0 mac 0), .int on]) (rest := []) F (xX6_isLive g1 (A := A) (S := S) (ad := ad) (z := z) hrk 4 mi on (S.2.1 0 mac 0) ((S.2.1 0 mac 0).toNatClampNeg) (xi.up (xi_of (hW.kd mac)) (by first | omega | exact Nat.le_refl _)) ((xi.up h_member (by omega)).lt) (hr4 _)) (cwV 2 hts (lw_V q502 q503 q504 q83 q505) rfl rfl rfl hdV_X6_isLive ⟨Nat.le_of_ble_eq_true rfl, Nat.le_of_ble_eq_true rfl⟩) (xpreV (xrecv hK (xw_21 hR (xi.up h_member (by omega)).lt) rfl) hWK hS hR) rfl rfl hl.1 rfl (lv_room (Nat.le_of_ble_eq_true rfl)) dX1_lacksInduction_26 ⟨Nat.le_of_ble_eq_true rfl, Nat.le_of_ble_eq_true rfl⟩) ?_
  refine x_ifne (tgt := 36) hx hb dX1_lacksInduction_29 (by decide) (fun c_29 => ?_) (fun c_29 => ?_)
  · refine lv_iconst (v := 0) hx hb dX1_lacksInduction_36 (by decide) ?_
    exact xr_Pz hx hb hr hlocks ((bI_f (by first | rfl | simp [xLacks, c_29])).symm) dX1_lacksInduction_37
  · refine lv_iconst (v := 1) hx hb dX1_lacksInduction_32 (by decide) ?_
    refine lv_goto (tgt := 37) hx hb dX1_lacksInduction_33 (by decide) ?_
    exact xr_Pz hx hb hr hlocks ((bI_t (by first | rfl | simp [xLacks, c_29])).symm) dX1_lacksInduction_37

