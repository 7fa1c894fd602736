/-! A CALL OF A TARIFF, by its depth -/
set_option maxRecDepth 100000
section TAR
variable {l : Launch} {G : xG} {s0 : State} {b0 : Nat} {A : Nat → Prop} {S : xS} {ad : Nat × Nat → Nat} {z : xZ}
/-- a call of a tariff that has captured another -/
theorem x_tarC {p : Program} {e : Env} {R : Room} {s : State} {m : MethodId} {args : Array Value} {below : List Frame} {meth : Method} {c : Code} {H : Heap} {locs : List Loc} {cells slots : Nat} {cc : ByteArray} {nL pc : Nat} {ls : Array Slot} {rest : List Value} {own : String} {index count t k d maxL : Nat} {n r : Int32} {tn : String} {bytes : ByteArray} {xs : MethodName} {pc0 index0 : Nat}
    (g1 : xG1 l G s0 b0) (hWK : xWK s0 A s) (F : CallFix p m c cc nL s args lw_all own) (hS : va_S A s.heap H locs) (hR : xRX G A S ad z H) (ht : t < S.1 8 0) (hk : S.1 9 t = k + 1)
    (hmk : s.lambdaAt? xs pc0 index0 (xTaS tn) = some (G.2.2.2 (3 + (k + 1)), none) ∧ ∀ vm', s.WarmedH vm' → xMk vm' (G.2.2.2 (3 + (k + 1))) fwC_c 2 27 23 [17, 19] tn "(LLendlathe$Tariff;II)I" .int #[.object "Lendlathe$Tariff", .int])
    (hM : Met l ⟨"Lendlathe", tn, "(LLendlathe$Tariff;II)I"⟩ (ws_ ⟨"Lendlathe", tn, "(LLendlathe$Tariff;II)I"⟩ bytes maxL (some .int)) ({ frames := 2 * d + 1, cells := 0, slots := 0, locals := 56 * d + 40 } : Room) (xP s0 A [.ref (xtr ad (S.1 10 t)), .int (S.2.1 23 t 0), .int n] (fun H => xRX G A S ad z H)) (xQp (some (.int r))) 0 0 (fun _ => False))
    (hcode : Cond.code ⟨"Lendlathe", tn, "(LLendlathe$Tariff;II)I"⟩ bytes maxL (some .int) ∈ lw_all) (hst : Cond.static ⟨"Lendlathe", tn, "(LLendlathe$Tariff;II)I"⟩ ∈ lw_all) (hml : maxL ≤ 4)
    (hlink : Cond.methodLink own index xTarN ∈ lw_all) (hsz : ls.size = nL) (hro : (rest.map fun v => v.category).sum ≤ 8) (hrf : 2 * d + 3 ≤ R.frames) (hrl : 56 * d + 96 ≤ R.locals) (hcs : cells ≤ R.cells ∧ slots ≤ R.slots) (hdg : decode cc pc = .ok (.invokeinterface index count, 5)) :
    va_Run5 p l e R s m args below meth c H locs cells slots 0 0 (F0 m pc ls (.int n :: .ref (ad (27, t)) :: rest)) rest (xQp (some (.int r)) #[.ref (ad (27, t)), .int n]) (fun _ => False) := by
  have g := g1.1
  have hts := F.2.2.2.2
  have hcell : H[ad (27, t)]? = some ({ cls := G.2.2.2 (3 + S.1 9 t), slots := xcap (S.1 9 t) (xtr ad (S.1 10 t)) (S.2.1 23 t 0), vm := .none } : Cell) := xw_27 hR ht
  rw [hk] at hcell
  refine x_runMade (As := [.int n]) (R' := { frames := 2 * d + 2, locals := 56 * d + 63, cells := 0, slots := 0 }) (x := xTarN) F (hts _ hlink) (xnD hWK g q1135) (xnI (x := xTarN) hWK g (by decide) q1135 q1134) rfl (by decide) hmk.1 hmk.2 hcell rfl rfl (fun st o t h => ⟨_, h.1⟩) rfl hsz ⟨by show 2 * d + 2 + 1 ≤ R.frames; omega, by show _ + (2 + 11) + (56 * d + 63) ≤ R.locals; omega⟩ rfl rfl ⟨by omega, by omega⟩ hdg ?_
  intro s' below' methk ck hH hWs hfw hnl hlk hrt
  have hx := F.1
  have hWK' : xWK s0 A s' := hWK.at hS hH hWs
  subst hH
  have hmk' : ∀ vm', s'.WarmedH vm' → xMk vm' (G.2.2.2 (3 + (k + 1))) fwC_c 2 27 23 [17, 19] tn "(LLendlathe$Tariff;II)I" .int #[.object "Lendlathe$Tariff", .int] := fun vm' h => hmk.2 vm' (State.WarmedH.trans hWs h)
  have hS' : va_S A s'.heap s'.heap [] := va_S.rf
  have hl := lv_entry ([.ref (ad (27, t)), .int n]) (n := 2) (Nat.le_of_ble_eq_true rfl)
  rw [lg_entry_eq]
  generalize (lg_sl ([.ref (ad (27, t)), .int n]) ++ List.replicate (2 - (lg_sl ([.ref (ad (27, t)), .int n])).length) Slot.unset).toArray = ls2 at hl ⊢
  have hl : lv_has ls2 2 [(0, .ref (ad (27, t))), (1, .int n)] := hl
  refine lv_aload_n hx hfw fwC_0 rfl (lv_at hl 0 rfl) ?_
  refine x_getRdy hx hfw hmk' (i := 0) rfl hcell rfl (v := .ref (xtr ad (S.1 10 t))) rfl fwC_1 ?_
  refine lv_aload_n hx hfw fwC_4 rfl (lv_at hl 0 rfl) ?_
  refine x_getRdy hx hfw hmk' (i := 1) rfl hcell rfl (v := .int (S.2.1 23 t 0)) rfl fwC_5 ?_
  refine lv_iload_n hx hfw fwC_8 rfl (lv_at hl 1 rfl) ?_
  refine xc_P (x_runMS (As := [.ref (xtr ad (S.1 10 t)), .int (S.2.1 23 t 0), .int n]) (rest := []) (nl := 2) hx hfw hnl hmk' hM hWs hts (lw_meth hcode) rfl hst q56 rfl rfl ⟨by show 2 * d + 1 + 1 ≤ 2 * d + 2; omega, by show 8 + (maxL + 11) + (56 * d + 40) ≤ 56 * d + 63; omega⟩ (xpre hWK' hS' hR) rfl hl.1 (by decide) fwC_9 ⟨Nat.le_refl _, Nat.le_refl _⟩) ?_
  exact xr_Pi hx hfw hrt hlk rfl fwC_12
theorem x_callOf (g1 : xG1 l G s0 b0) : ∀ d, xCallOf l G s0 A S ad z d := by
  have hg := g1
  have g := g1.1
  have free : ∀ (d : Nat) (n : Int32) (p : Program) (e : Env) (R : Room) (s : State) (m : MethodId) (args : Array Value) (below : List Frame) (meth : Method) (c : Code) (H : Heap) (locs : List Loc) (cells slots : Nat) (cc : ByteArray) (nL pc : Nat) (ls : Array Slot) (rest : List Value) (own : String) (index count : Nat), CallFix p m c cc nL s args lw_all own → xWK s0 A s → va_S A s.heap H locs → xRX G A S ad z H → Cond.methodLink own index xTarN ∈ lw_all → ls.size = nL → (rest.map fun v => v.category).sum ≤ 8 → 2 * d + 1 ≤ R.frames → 56 * d + 40 ≤ R.locals → cells ≤ R.cells ∧ slots ≤ R.slots → decode cc pc = .ok (.invokeinterface index count, 5) → va_Run5 p l e R s m args below meth c H locs cells slots 0 0 (F0 m pc ls (.int n :: .ref (xtr ad 0) :: rest)) rest (xQp (some (.int (xOf S d 0 n))) #[.ref (xtr ad 0), .int n]) (fun _ => False) := by
    intro d n p e R s m args below meth c H locs cells slots cc nL pc ls rest own index count F hWK hS hR hlink hsz hro hrf hrl hcs hdg
    rw [xOf_0]
    exact va_runF (As := [.int n]) (rest := rest) (xClassAt (hWK.K g) (ci := 1) rfl) F (xX2_of g1 (A := A) (S := S) (ad := ad) (z := z) n) (va_cwF (x := xTarN) (C := "Lendlathe$1") 1 F.2.2.2.2 (lw_F hlink q1137 q1139 q57 q1141) rfl rfl rfl (xnW hWK g (by decide) q1135 q1134 q1140 q1138 q1136) (by decide +kernel) ⟨by show 0 + 1 ≤ R.frames; omega, by show 8 + (2 + 11) + 0 ≤ R.locals; omega⟩) (xpreV (xrecv (hWK.K g) (xw_29 hR) rfl) hWK hS hR) rfl rfl hsz rfl (lv_room hro) hdg ⟨hcs.1, hcs.2⟩
  intro d
  induction d with
  | zero =>
    intro u hd
    cases u with
    | zero => exact free 0
    | succ t => exact hd.elim
  | succ d ih =>
    intro u hd
    cases u with
    | zero => exact free (d + 1)
    | succ t =>
      intro n p e R s m args below meth c H locs cells slots cc nL pc ls rest own index count F hWK hS hR hlink hsz hro hrf hrl hcs hdg
      obtain ⟨ht, h5, hb⟩ := hd
      have hts := F.2.2.2.2
      have hstep : xOf S (d + 1) (t + 1) n = xStep (S.1 9 t) (S.2.1 23 t 0) (xOf S d (S.1 10 t)) n := rfl
      rw [hstep]
      show va_Run5 p l e R s m args below meth c H locs cells slots 0 0 (F0 m pc ls (.int n :: .ref (ad (27, t)) :: rest)) rest (xQp (some (.int (xStep (S.1 9 t) (S.2.1 23 t 0) (xOf S d (S.1 10 t)) n))) #[.ref (ad (27, t)), .int n]) (fun _ => False)
      match hk : S.1 9 t, h5, hb with
      | 0, _, _ =>
        have hcell : H[ad (27, t)]? = some ({ cls := G.2.2.2 (3 + S.1 9 t), slots := xcap (S.1 9 t) (xtr ad (S.1 10 t)) (S.2.1 23 t 0), vm := .none } : Cell) := xw_27 hR ht
        rw [hk] at hcell
        have hmk := xmk3 g1 hWK
        refine x_runMade (As := [.int n]) (R' := { frames := 1, locals := 30, cells := 0, slots := 0 }) (x := xTarN) F (hts _ hlink) (xnD hWK g q1135) (xnI (x := xTarN) hWK g (by decide) q1135 q1134) rfl (by decide) hmk.1 hmk.2 hcell rfl rfl (fun st o t h => ⟨_, h.1⟩) rfl hsz ⟨by show 1 + 1 ≤ R.frames; omega, by show _ + (2 + 11) + 30 ≤ R.locals; omega⟩ rfl rfl ⟨by omega, by omega⟩ hdg ?_
        intro s' below' methk ck hH hWs hfw hnl hlk hrt
        have hx := F.1
        have hWK' : xWK s0 A s' := hWK.at hS hH hWs
        subst hH
        have hmk' : ∀ vm', s'.WarmedH vm' → xMk vm' (G.2.2.2 3) fwB_c 2 23 19 [15] "lambda$setRate$0" "(II)I" .int #[.int] := fun vm' h => hmk.2 vm' (State.WarmedH.trans hWs h)
        have hS' : va_S A s'.heap s'.heap [] := va_S.rf
        have hl := lv_entry ([.ref (ad (27, t)), .int n]) (n := 2) (Nat.le_of_ble_eq_true rfl)
        rw [lg_entry_eq]
        generalize (lg_sl ([.ref (ad (27, t)), .int n]) ++ List.replicate (2 - (lg_sl ([.ref (ad (27, t)), .int n])).length) Slot.unset).toArray = ls2 at hl ⊢
        have hl : lv_has ls2 2 [(0, .ref (ad (27, t))), (1, .int n)] := hl
        refine lv_aload_n hx hfw fwB_0 rfl (lv_at hl 0 rfl) ?_
        refine x_getRdy hx hfw hmk' (i := 0) rfl hcell rfl (v := .int (S.2.1 23 t 0)) rfl fwB_1 ?_
        refine lv_iload_n hx hfw fwB_4 rfl (lv_at hl 1 rfl) ?_
        refine xc_P (x_runMS (As := [.int (S.2.1 23 t 0), .int n]) (rest := []) (nl := 2) hx hfw hnl hmk' (xX1_lambda_setRate_0 g1 (A := A) (S.2.1 23 t 0) n) hWs hts (lw_meth q1292) rfl q1291 q56 rfl rfl ⟨by decide, by decide⟩ (xpre hWK' hS' trivial) rfl hl.1 (by decide) fwB_5 ⟨Nat.le_refl _, Nat.le_refl _⟩) ?_
        exact xr_Pi hx hfw hrt hlk rfl fwB_8
      | 1, _, hb =>
        have hb := hb.resolve_left (by decide)
        exact x_tarC (k := 0) (d := d) g1 hWK F hS hR ht hk (xmk4 g1 hWK) (xX1_lambda_addFee_1 g1 (A := A) (z := z) (S.2.1 23 t 0) n hb ih) q1305 q1304 (by decide) hlink hsz hro (by omega) (by omega) hcs hdg
      | 2, _, hb =>
        have hb := hb.resolve_left (by decide)
        exact x_tarC (k := 1) (d := d) g1 hWK F hS hR ht hk (xmk5 g1 hWK) (xX1_lambda_addCap_2 g1 (A := A) (z := z) (S.2.1 23 t 0) n hb ih) q1320 q1319 (by decide) hlink hsz hro (by omega) (by omega) hcs hdg
      | 3, _, hb =>
        have hb := hb.resolve_left (by decide)
        exact x_tarC (k := 2) (d := d) g1 hWK F hS hR ht hk (xmk6 g1 hWK) (xX1_lambda_addDouble_3 g1 (A := A) (z := z) (S.2.1 23 t 0) n hb ih) q1330 q1329 (by decide) hlink hsz hro (by omega) (by omega) hcs hdg
      | 4, _, hb =>
        have hb := hb.resolve_left (by decide)
        exact x_tarC (k := 3) (d := d) g1 hWK F hS hR ht hk (xmk7 g1 hWK) (xX1_lambda_addDiscount_4 g1 (A := A) (z := z) (S.2.1 23 t 0) n hb ih) q1340 q1339 (by decide) hlink hsz hro (by omega) (by omega) hcs hdg
      | q + 5, h5, _ => exact absurd h5 (by omega)
end TAR
