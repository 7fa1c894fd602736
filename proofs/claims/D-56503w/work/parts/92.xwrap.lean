/-! THE LAW's WRAPPERS: a code for what is thrown, by the order of the catch rows; one wrapper by hand, the pattern of the rest -/
def xCd (t : List Nat) (n : Nat) : Int32 := if n = 0 then 0 else nI (t.idxOf n + 1)
abbrev xA1 (A : Nat → Prop) (o : Nat) : Nat → Prop := fun q => A q ∧ q ≠ o
theorem xWK.less {s0 s : State} {A : Nat → Prop} {o : Nat} (h : xWK s0 A s) (ho : o < s.heap.size) : xWK s0 (xA1 A o) s := ⟨h.1, h.2.1, h.2.2.1, fun q hq => ⟨h.2.2.2.1 q hq, by omega⟩, fun q hq => h.2.2.2.2 q hq.1⟩
theorem xS.more {A A1 : Nat → Prop} {H0 H : Heap} {locs : List Loc} (h : va_S A1 H0 H locs) (hs : ∀ q, A1 q → A q) : va_S A H0 H locs := ⟨h.1, fun q hq hn => h.2.1 q hq (fun c => hn (hs q c)), fun l hl => hs _ (h.2.2 l hl)⟩
theorem xDeliver_c (S : xS) (material length : Int32) : (xDeliver S material length).1 = 0 ∨ (xDeliver S material length).1 = 1 ∨ (xDeliver S material length).1 = 2 := by
  unfold xDeliver
  repeat' split
  all_goals simp
theorem xX0_deliver {l : Launch} {G : xG} {s0 : State} {b0 : Nat} (g2 : xG2 l G s0 b0) {A : Nat → Prop} {S : xS} {ad : Nat × Nat → Nat} {z : xZ} (o : Nat) (f : Nat → Value) (material length : Int32) (hW : xW S) : vx_Met l yX0_deliver (wsW_ yX0_deliver cX0_deliver 5 (some .int) [(0, 10, 13, 13), (0, 10, 17, 15)]) ({ frames := 8, cells := 2, slots := 12, locals := 130 } : Room) (xP s0 A [.ref (ad (0, 0)), .int material, .int length, .ref o] (fun H => xRX G (xA1 A o) S ad z H ∧ xat G o (xA 1 1 f) H ∧ A o)) (xQc (some (.int (xCd [1, 2] (xDeliver S material length).1))) (fun _ H => ∃ ad9 z9 f9, xRX G (xA1 A o) (if (xDeliver S material length).1 = 0 then (xDeliver S material length).2.2 else S) ad9 z9 H ∧ ad9 (0, 0) = ad (0, 0) ∧ xat G o (xA 1 1 f9) H ∧ ((xDeliver S material length).1 = 0 → f9 0 = .long (xDeliver S material length).2.1.toInt64)) A) (xXc (fun _ _ _ => False) A) 2 12 A := by
  refine vx_ofWH (cc := cX0_deliver) (maxL := 5) (ret := (some .int)) (by decide) rfl ?_
  intro p e s m args below meth c s₁ B hml hv
  obtain ⟨rfl, hWK, hR, hO, hA9⟩ := hv
  have g := g2.1.1
  have hx := B.exec
  have hb := B.bytes
  have hr := B.returns
  have hts := atoms_spec (ws := wsW_ yX0_deliver cX0_deliver 5 (some .int) [(0, 10, 13, 13), (0, 10, 17, 15)]) B.pre
  have htb := vx_table (x := yX0_deliver) B (hts _ List.mem_cons_self)
  have hts : ∀ w ∈ lw_all, w.before _ s = true := fun w h => hts w (List.mem_cons_of_mem _ h)
  have hown : s.vm.findClass "LendlatheLaw" = some m.cls := findClass_of_methodNamed B.named
  have hlocks := B.notSynchronized
  have hK := hWK.K g
  have F : CallFix p m c cX0_deliver 5 s _ lw_all "LendlatheLaw" := ⟨hx, hb, hml, hown, hts⟩
  have hWK1 := hWK.less hO.lt
  have hS1 : va_S (xA1 A o) s.heap s.heap [] := va_S.rf
  have hl := lv_entry ([.ref (ad (0, 0)), .int material, .int length, .ref o]) (n := 5) (Nat.le_of_ble_eq_true rfl)
  rw [lg_entry_eq]
  generalize (lg_sl ([.ref (ad (0, 0)), .int material, .int length, .ref o]) ++ List.replicate (5 - (lg_sl ([.ref (ad (0, 0)), .int material, .int length, .ref o])).length) Slot.unset).toArray = ls at hl ⊢
  have hl : lv_has ls 5 [(0, .ref (ad (0, 0))), (1, .int material), (2, .int length), (3, .ref o)] := hl
  refine lv_aload_n hx hb dX0_deliver_0 rfl (lv_at hl 3 rfl) ?_
  refine lv_iconst (v := 0) hx hb dX0_deliver_1 (by decide) ?_
  refine lv_aload_n hx hb dX0_deliver_2 rfl (lv_at hl 0 rfl) ?_
  refine lv_iload_n hx hb dX0_deliver_3 rfl (lv_at hl 1 rfl) ?_
  refine lv_iload_n hx hb dX0_deliver_4 rfl (lv_at hl 2 rfl) ?_
  refine xc_X (vx_runV (As := [.int material, .int length]) (rest := [.int 0, .ref o]) F (xX1_deliver g2.1 (A := xA1 A o) (S := S) (ad := ad) (z := z) material length hW) (cwV 2 hts (lw_V q1229 q1230 q1231 q56 q1232) rfl rfl rfl hdV_X1_deliver ⟨Nat.le_of_ble_eq_true rfl, Nat.le_of_ble_eq_true rfl⟩) (xpreV (xrecv hK (xw_0 hR) rfl) hWK1 hS1 hR) rfl rfl hl.1 rfl (lv_room (Nat.le_of_ble_eq_true rfl)) dX0_deliver_5 ⟨Nat.le_of_ble_eq_true rfl, Nat.le_of_ble_eq_true rfl⟩) hS1 (fun E ce q9 H locs hX hz hk hS hq9 hv9 hc9 => ?_) (fun H locs hP hz hk hS => ?_)
  · have hO := hO.kept (hk o hO.lt (fun c => c.2 rfl))
    have hS := xS.more (A := A) hS (fun q c => c.1)
    rcases xDeliver_c S material length with e1 | e1 | e1
    · exact absurd e1 hX.2.1
    · rw [e1] at hX
      obtain ⟨rfl, -, z9, hR⟩ := hX
      refine xw_catch (name := xExn 1) hown [(0, 10, 13, 13), (0, 10, 17, 15)] (by rw [htb]; rfl) 0 rfl (fun i hi => absurd hi (Nat.not_lt_zero i)) (by decide) (by decide) (by decide) (hts _ q749) ((xnC hWK g q131).use rfl) hq9 hv9 hc9 ?_
      refine lv_astore (lv' := [(4, .ref q9), (0, .ref (ad (0, 0))), (1, .int material), (2, .int length), (3, .ref o)]) hx hb dX0_deliver_13 hl (by decide) rfl (fun ls hl => ?_)
      refine lv_iconst (v := 1) hx hb dX0_deliver_15 (by decide) ?_
      exact vx_ret (xr_Ci hx hb hr hlocks (by rw [e1]; rfl) ⟨ad, z9, f, by rw [e1]; exact hR, rfl, hO, fun c => by rw [e1] at c; cases c⟩ hS (by first | omega | decide) (by first | omega | decide) dX0_deliver_16)
    · rw [e1] at hX
      obtain ⟨rfl, -, z9, hR⟩ := hX
      refine xw_catch (name := xExn 2) hown [(0, 10, 13, 13), (0, 10, 17, 15)] (by rw [htb]; rfl) 1 rfl (fun i hi r hr9 => by have hi0 : i = 0 := (by omega); subst hi0; cases hr9; exact ⟨by decide, xExn 1, hts _ q749, xNcAt (i := 2) (j := 1) hWK g2.2 (by decide) (by decide) (by decide) (by decide) (by decide)⟩) (by decide) (by decide) (by decide) (hts _ q750) ((xnC hWK g q774).use rfl) hq9 hv9 hc9 ?_
      refine lv_astore (lv' := [(4, .ref q9), (0, .ref (ad (0, 0))), (1, .int material), (2, .int length), (3, .ref o)]) hx hb dX0_deliver_17 hl (by decide) rfl (fun ls hl => ?_)
      refine lv_iconst (v := 2) hx hb dX0_deliver_19 (by decide) ?_
      exact vx_ret (xr_Ci hx hb hr hlocks (by rw [e1]; rfl) ⟨ad, z9, f, by rw [e1]; exact hR, rfl, hO, fun c => by rw [e1] at c; cases c⟩ hS (by first | omega | decide) (by first | omega | decide) dX0_deliver_20)
  · have hO := hO.kept (hk o hO.lt (fun c => c.2 rfl))
    have hS := xS.more (A := A) hS (fun q c => c.1)
    obtain ⟨e1, ad9, z9, hR, e2⟩ := hP
    refine lv_i2l hx hb dX0_deliver_8 rfl ?_
    refine x_last hx hb hK hS hO hA9 (⟨by unfold vp_in; decide, by decide⟩ : xi 0 0 1) dX0_deliver_9 (fun H locs hat hof hS => ?_)
    refine lv_goto (tgt := 21) hx hb dX0_deliver_10 rfl ?_
    refine lv_iconst (v := 0) hx hb dX0_deliver_21 (by decide) ?_
    exact vx_ret (xr_Ci hx hb hr hlocks (by rw [e1]; rfl) ⟨ad9, z9, _, by rw [e1]; exact hR.off (fun k i b e hb hi he c => (hR.A k i hb hi he).2 c) hof, e2, hat, fun _ => rfl⟩ hS (by first | omega | decide) (by first | omega | decide) dX0_deliver_22)
