/-! ROWS FOR GROWING: what stays, a lambda stored, a list's end -/
set_option maxRecDepth 100000
/-- since H0 n cells are new, of the old ones only q may have changed -/
def xOG (q n : Nat) (H0 H : Heap) : Prop := H.size = H0.size + n ∧ ∀ c : Nat, c < H0.size → c ≠ q → H[c]? = H0[c]?
theorem xOG.rf {q : Nat} {H : Heap} : xOG q 0 H H := ⟨rfl, fun _ _ _ => rfl⟩
theorem xOG.put {q n : Nat} {H0 H H1 : Heap} (h : xOG q n H0 H) (ho : xOff q H H1) : xOG q n H0 H1 := ⟨ho.1.trans h.1, fun c h1 h2 => (ho.2 c h2).trans (h.2 c h1 h2)⟩
theorem xOG.putN {q n t : Nat} {H0 H H1 : Heap} (h : xOG q n H0 H) (ht : H0.size ≤ t) (ho : xOff t H H1) : xOG q n H0 H1 := ⟨ho.1.trans h.1, fun c h1 h2 => (ho.2 c (by omega)).trans (h.2 c h1 h2)⟩
theorem xOG.new {q n : Nat} {H0 H H1 : Heap} (h : xOG q n H0 H) (hz : H1.size = H.size + 1) (hg : xGrow H H1) : xOG q (n + 1) H0 H1 := ⟨by rw [hz, h.1]; omega, fun c h1 h2 => (hg.2 c (by rw [h.1]; omega)).trans (h.2 c h1 h2)⟩
theorem xOG.call {q n : Nat} {H0 H H1 : Heap} (h : xOG q n H0 H) (h2 : xOG q 0 H H1) : xOG q n H0 H1 := ⟨by rw [h2.1, h.1]; rfl, fun c h1 h3 => (h2.2 c (by rw [h.1]; omega) h3).trans (h.2 c h1 h3)⟩
theorem xOG.at {G : xG} {q n b : Nat} {e : xE} {H0 H : Heap} (h : xOG q n H0 H) (hb : xat G b e H0) (hn : b ≠ q) : xat G b e H := hb.kept (h.2 b hb.lt hn)
theorem xRW.og {G : xG} {A : Nat → Prop} {bd : List Nat} {ce : Nat → List xE} {ad : Nat × Nat → Nat} {H H1 : Heap} {q n : Nat} (h : xRW G A bd ce ad H) (hf : ∀ (k i b : Nat) (e : xE), bd[k]? = some b → i < b → (ce i)[k]? = some e → ad (k, i) ≠ q) (ho : xOG q n H H1) : xRW G A bd ce ad H1 := h.kept fun k i b e hb hi he => ho.2 _ (h.1 k i b e hb hi he).1.lt (hf k i b e hb hi he)
/-- a list has got one more at its end: two old cells may have changed -/
def xTwo (a b : Nat) (H0 H : Heap) : Prop := H.size = H0.size ∧ ∀ c : Nat, c ≠ a → c ≠ b → H[c]? = H0[c]?
theorem xTwo.l {a b : Nat} {H0 H : Heap} (h : xOff a H0 H) : xTwo a b H0 H := ⟨h.1, fun c h1 _ => h.2 c h1⟩
theorem xTwo.l2 {a b : Nat} {H0 H H1 : Heap} (h : xTwo a b H0 H) (ho : xOff a H H1) : xTwo a b H0 H1 := ⟨ho.1.trans h.1, fun c h1 h2 => (ho.2 c h1).trans (h.2 c h1 h2)⟩
theorem xTwo.r2 {a b : Nat} {H0 H H1 : Heap} (h : xTwo a b H0 H) (ho : xOff b H H1) : xTwo a b H0 H1 := ⟨ho.1.trans h.1, fun c h1 h2 => (ho.2 c h2).trans (h.2 c h1 h2)⟩
theorem xTwo.tr {a b : Nat} {H0 H H1 : Heap} (h : xTwo a b H0 H) (ho : xTwo a b H H1) : xTwo a b H0 H1 := ⟨ho.1.trans h.1, fun c h1 h2 => (ho.2 c h1 h2).trans (h.2 c h1 h2)⟩
theorem xTwo.at {G : xG} {a b q : Nat} {e : xE} {H0 H : Heap} (h : xTwo a b H0 H) (hb : xat G q e H0) (h1 : q ≠ a) (h2 : q ≠ b) : xat G q e H := hb.kept (h.2 q h1 h2)
/-- a value that may lie in an Object[]: an object of a class of the list -/
def xObj (G : xG) (q : Nat) (H : Heap) : Prop := ∃ ci fs, xat G q (xO ci fs) H ∧ ci < 10
theorem x_fitc {v : Int32} (h : narrow .char (.int v) = .int v) : fits .char (.int v) = true := by
  have := fits_narrow_char v
  rw [h] at this
  exact this
section XADD
variable {p : Program} {l : Launch} {e : Env} {R : Room} {s : State} {m : MethodId} {args : Array Value} {below : List Frame} {meth : Method} {c : Code} {H : Heap} {locs : List Loc} {cells slots : Nat} {Q : State → Prop}
variable {cc : ByteArray} {nL pc : Nat} {ls : Array Slot} {rest : List Value} {G : xG} {A : Nat → Prop} {a : Nat} {H0 : Heap} {l9 : Launch} {s0 : State} {b0 : Nat}
/-- a tariff's lambda, into the tariffs -/
theorem x_aastL (hx : p.tables.exec = Jvm.exec) (hb : c.code = cc) (hK : xK G s) (hS0 : va_S A H0 H locs) {t n : Nat} {f : Nat → Value} (h : xat G a (xA t n f) H) (hA : A a) {sg : Lambda.Shape} {cK : ClassId} {x : MethodName} {pc0 index0 : Nat} (hsite : s.lambdaAt? x pc0 index0 sg = some (cK, none)) (hkk : ∃ kc : Class, s.vm.classes[cK]? = some kc) (ht : xtl[t]? = some (.object sg.iface)) {i : Int32} {j v : Nat} (hi : xi i j n) {cv : Cell} (hv : H[v]? = some cv) (hcls : cv.cls = cK) (hvm : cv.vm = .none) (hdg : decode cc pc = .ok (.aastore, 1))
    (kk : ∀ (H1 : Heap) (locs1 : List Loc), xat G a (xA t n (updV f j (.ref v))) H1 → xOff a H H1 → va_S A H0 H1 locs1 → W p l e R s m args below meth c H1 locs1 cells slots Q (F0 m (pc + 1) ls rest)) : W p l e R s m args below meth c H locs cells slots Q (F0 m pc ls (.ref v :: .int i :: .ref a :: rest)) := by
  obtain ⟨m', kc, cf, i0, p0, lk, -, -, -, -, -, -, -, hcan, -⟩ := State.lambdaAt?_spec hsite
  obtain ⟨i2, hi2, hasg, -⟩ := State.lambdaCallable_spec hcan
  obtain ⟨kt, hkt, -⟩ := Vm.findClass_spec hi2
  obtain ⟨kv, hkv⟩ := hkk
  subst hcls
  exact x_aast hx hb hK hS0 h hA ht hi2 hkt hi hv (fun q h => by rw [hvm] at h; cases h) hkv hasg hdg kk
end XADD
/-- a tariff more -/
def xPt (S : xS) : Prop := ∀ i, i < S.1 8 0 → S.1 10 i ≤ S.1 8 0
