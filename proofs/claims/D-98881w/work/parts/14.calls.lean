/-! THE RULES OF Tj FOR CALLS, AND FOR WHAT IS THROWN -/
set_option maxRecDepth 100000
section TC
variable {g : Gx} {l : Launch} {d : Nat} {Y : Mi} {av : List Value} {mc ms : Nat} {Qr : Option Value → Sg → Prop} {Qx : Nat → String → Sg → Prop} {c0 n0 pc : Nat} {ls : List (Option Value)} {st : List Value} {σ : Sg}
theorem zblind (g : Gx) (l : Launch) (av : List Value) (σ : Sg) : FrameBlind (zPc g l av σ) := by
  intro a U gg mk h
  obtain ⟨h1, h2, h3, h4, h5⟩ := h
  exact ⟨h1, Ok.warm (U := U.calling gg mk a) (State.WarmedH.refl U) h2, Od.moved (U := U.calling gg mk a) (Vm.Alike.refl U.vm) h3, h4, h5⟩
/-- behind a call -/
theorem j_core {mc' ms' : Nat} {Qr' : Option Value → Sg → Prop} {Qx' : Nat → String → Sg → Prop} {rest : List Value} {a : Array Value}
    (run : ∀ (p : Program) (e : Env) (s : State) (m : MethodId) (below : List Frame) (meth : Method) (c : Code) (H : Heap) (locs : List Loc) (la : Array Slot), Cx g l Y av p s m meth c → Sim g σ H → va_S (zA g) s.heap H locs → Lv la Y.2.2.1 ls →
      vx_Run p l e (zR d mc ms) s m av.toArray below meth c H locs c0 n0 mc' ms' (F0 m pc la st) rest (zQc g Qr' a) (zXC g Qx') (zA g))
    (kr : ∀ v σ', Qr' v σ' → Tj g l d Y av mc ms Qr Qx (c0 + mc') (n0 + ms') (pc + 3) ls (v.toList ++ rest) σ') (kx : ∀ q E σ', Qx' q E σ' → Xj g l d Y av mc ms Qr Qx (c0 + mc') (n0 + ms') pc ls q E σ') : Tj g l d Y av mc ms Qr Qx c0 n0 pc ls st σ := by
  intro p e s m below meth c H locs la C hM hS hl T hT X
  rcases run p e s m below meth c H locs la C hM hS hl T hT X with ⟨v, st₀, t, T', L, h0, X', hL, e1, e2, ⟨⟨v', σ', hv, hq, hM'⟩, hF⟩, go⟩ | ⟨q, st₀, t, T', L, E, ce, h0, X', hL, e1, e2, ⟨⟨σ', hq, hM'⟩, hF⟩, hce, hvm, hcl, go⟩
  · cases Outcome.returned.inj hv
    obtain ⟨-, -, hS'⟩ := vx_keep h0 e1 hS (fun _ _ h => h) (fun _ h => h) hL hF
    obtain ⟨t2, a1, b1⟩ := kr _ σ' hq p e s m below meth c T'.heap (locs ++ L) la C (by rw [e1]; exact hM') hS' hl T' rfl X'
    exact ⟨t2, go t2 a1, b1⟩
  · obtain ⟨-, -, hS'⟩ := vx_keep h0 e1 hS (fun _ _ h => h) (fun _ h => h) hL hF
    obtain ⟨t2, a1, b1⟩ := kx q E σ' hq p e s m below meth c T'.heap (locs ++ L) la rest ce C (by rw [e1]; exact hM') hS' hl (by rw [e1]; exact hce) hvm hcl T' rfl X'
    exact ⟨t2, go.trans a1, b1⟩
theorem zpre {p : Program} {s : State} {m : MethodId} {meth : Method} {c : Code} {H : Heap} {locs : List Loc} {av' : List Value} (C : Cx g l Y av p s m meth c) (hM : Sim g σ H) (hS : va_S (zA g) s.heap H locs) : ∀ U : State, U.heap = H → s.WarmedH U.vm → zPc g l av' σ av'.toArray U := by
  intro U hU hW
  have hO := C.2.2.2.2.2.2.2.2.1
  refine ⟨rfl, Ok.warm hW C.2.2.2.2.2.2.2.1, ?_, ?_, by rw [hU]; exact hM⟩
  · rw [hU]; exact Od.moved hW.alike (Od.kept hS.2.1 hO)
  · rw [hU]; exact Nat.le_trans C.2.2.2.2.2.2.2.2.2.1 hS.1
theorem zrecv {p : Program} {s : State} {m : MethodId} {meth : Method} {c : Code} {H : Heap} {b ci nb : Nat} (C : Cx g l Y av p s m meth c) (hM : Sim g σ H) (hci : ci < 14) (hb : σ.1 b = some (ci, nb)) : ∃ cell : Cell, H[b]? = some cell ∧ cell.vm.isStatics = false ∧ s.vm.findClass (zCn ci) = some cell.cls := by
  obtain ⟨q0, hq⟩ := hM.at hb
  rw [ze_o hci] at hq
  exact va_recv (q := (zCn ci, zCt ci, zN ci)) C.2.2.2.2.2.2.2.1.2.1 hM.P (zC_at ci hci) hq
theorem zroom {d' L : Nat} (hd : d' < d) (hL : L ≤ 21) (mc' ms' : Nat) : (zR d' mc' ms').frames + 1 ≤ (zR d mc ms).frames ∧ 8 + (L + 11) + (zR d' mc' ms').locals ≤ (zR d mc ms).locals := by
  unfold zR
  dsimp only
  constructor <;> omega
theorem zfix {p : Program} {s : State} {m : MethodId} {meth : Method} {c : Code} (C : Cx g l Y av p s m meth c) : CallFix p m c Y.2.1 Y.2.2.1 s av.toArray lw_all Y.1.cls :=
  ⟨C.1, C.2.1, C.2.2.2.1, C.2.2.2.2.2.1, C.2.2.2.2.2.2.1⟩
/-- the entry ix of own's constants names the method y of class C, on receivers of class C -/
def zlV (own : String) (ix : Nat) (C : String) (y : MethodName) (b : ByteArray) (L : Nat) (r : Option FieldType) (n : Nat) : Prop :=
  GoodIn lw_all (wsV own ix C y (ws_ y b L r)) ∧ (y.cls = C ∧ y.cls ≠ "java/lang/invoke/MethodHandle" ∧ y.cls ≠ "java/lang/invoke/VarHandle" ∧ (parseMethodDescriptor y.desc).map (fun d => d.parameters.length) = some n) ∧ L ≤ 21
variable {d' mc' ms' ix n L ci nb b0 : Nat} {y x : MethodName} {b : ByteArray} {r : Option FieldType} {As rest : List Value} {Qr' : Option Value → Sg → Prop} {Qx' : Nat → String → Sg → Prop}
theorem j_callV (hlk : zlV Y.1.cls ix (zCn ci) y b L r n) (hK : Kt g l d' (y, b, L, r, []) (.ref b0 :: As) σ mc' ms' Qr' Qx') (hd : decode Y.2.1 pc = .ok (.invokevirtual ix, 3)) (hst : st = As.reverse ++ .ref b0 :: rest) (hn : As.length = n) (hci : ci < 14) (hb : σ.1 b0 = some (ci, nb)) (hrest : (rest.map fun v => v.category).sum ≤ 8) (hdd : d' < d) (hc : c0 + mc' ≤ mc) (hs : n0 + ms' ≤ ms)
    (kr : ∀ v σ', Qr' v σ' → Tj g l d Y av mc ms Qr Qx (c0 + mc') (n0 + ms') (pc + 3) ls (v.toList ++ rest) σ') (kx : ∀ q E σ', Qx' q E σ' → Xj g l d Y av mc ms Qr Qx (c0 + mc') (n0 + ms') pc ls q E σ') : Tj g l d Y av mc ms Qr Qx c0 n0 pc ls st σ := by
  refine j_core (a := (Value.ref b0 :: As).toArray) (fun p e s m below meth c H locs la C hM hS hl => ?_) kr kx
  exact vx_runV (zfix C) hK (cwV n C.2.2.2.2.2.2.1 hlk.1 rfl rfl rfl hlk.2.1 (zroom hdd hlk.2.2 mc' ms')) ⟨zblind g l _ σ, zrecv C hM hci hb, zpre C hM hS⟩ rfl hn hl.1 hst (lv_room hrest) hd ⟨hc, hs⟩
/-- .. with a table of handlers -/
def zlW (own : String) (ix : Nat) (C : String) (y : MethodName) (b : ByteArray) (L : Nat) (r : Option FieldType) (hh : List (Nat × Nat × Nat × Nat)) (n : Nat) : Prop :=
  GoodIn lw_all (wsV own ix C y (wsW_ y b L r hh)) ∧ (y.cls = C ∧ y.cls ≠ "java/lang/invoke/MethodHandle" ∧ y.cls ≠ "java/lang/invoke/VarHandle" ∧ (parseMethodDescriptor y.desc).map (fun d => d.parameters.length) = some n) ∧ L ≤ 21
theorem j_callW {h1 : Nat × Nat × Nat × Nat} {hh : List (Nat × Nat × Nat × Nat)} (hlk : zlW Y.1.cls ix (zCn ci) y b L r (h1 :: hh) n) (hK : Kt g l d' (y, b, L, r, h1 :: hh) (.ref b0 :: As) σ mc' ms' Qr' Qx') (hd : decode Y.2.1 pc = .ok (.invokevirtual ix, 3)) (hst : st = As.reverse ++ .ref b0 :: rest) (hn : As.length = n) (hci : ci < 14) (hb : σ.1 b0 = some (ci, nb)) (hrest : (rest.map fun v => v.category).sum ≤ 8) (hdd : d' < d) (hc : c0 + mc' ≤ mc) (hs : n0 + ms' ≤ ms)
    (kr : ∀ v σ', Qr' v σ' → Tj g l d Y av mc ms Qr Qx (c0 + mc') (n0 + ms') (pc + 3) ls (v.toList ++ rest) σ') (kx : ∀ q E σ', Qx' q E σ' → Xj g l d Y av mc ms Qr Qx (c0 + mc') (n0 + ms') pc ls q E σ') : Tj g l d Y av mc ms Qr Qx c0 n0 pc ls st σ := by
  refine j_core (a := (Value.ref b0 :: As).toArray) (fun p e s m below meth c H locs la C hM hS hl => ?_) kr kx
  exact vx_runVX (zfix C) hK (vx_cwVW n C.2.2.2.2.2.2.1 hlk.1 rfl rfl rfl hlk.2.1 (zroom hdd hlk.2.2 mc' ms')) ⟨zblind g l _ σ, zrecv C hM hci hb, zpre C hM hS⟩ rfl hn hl.1 hst (lv_room hrest) hd ⟨hc, hs⟩
def zlS (own : String) (ix : Nat) (y : MethodName) (b : ByteArray) (L : Nat) (r : Option FieldType) (n : Nat) : Prop :=
  GoodIn lw_all (va_wsS own ix y (ws_ y b L r)) ∧ (y.cls ≠ "java/lang/invoke/MethodHandle" ∧ y.cls ≠ "java/lang/invoke/VarHandle" ∧ (parseMethodDescriptor y.desc).map (fun d => d.parameters.length) = some n) ∧ L ≤ 21
theorem j_callS (hlk : zlS Y.1.cls ix y b L r n) (hK : Kt g l d' (y, b, L, r, []) As σ mc' ms' Qr' Qx') (hd : decode Y.2.1 pc = .ok (.invokestatic ix, 3)) (hst : st = As.reverse ++ rest) (hn : As.length = n) (hrest : (rest.map fun v => v.category).sum ≤ 8) (hdd : d' < d) (hc : c0 + mc' ≤ mc) (hs : n0 + ms' ≤ ms)
    (kr : ∀ v σ', Qr' v σ' → Tj g l d Y av mc ms Qr Qx (c0 + mc') (n0 + ms') (pc + 3) ls (v.toList ++ rest) σ') (kx : ∀ q E σ', Qx' q E σ' → Xj g l d Y av mc ms Qr Qx (c0 + mc') (n0 + ms') pc ls q E σ') : Tj g l d Y av mc ms Qr Qx c0 n0 pc ls st σ := by
  refine j_core (a := As.toArray) (fun p e s m below meth c H locs la C hM hS hl => ?_) kr kx
  exact vx_runS (zfix C) hK (va_cwS n C.2.2.2.2.2.2.1 hlk.1 rfl rfl rfl hlk.2.1 (zroom hdd hlk.2.2 mc' ms')) ⟨zblind g l _ σ, zpre C hM hS⟩ rfl hn hl.1 hst (lv_room hrest) hd ⟨hc, hs⟩
/-- a static method of a nest mate -/
def zlSN (own : String) (ix : Nat) (y : MethodName) (host : String) (b : ByteArray) (L : Nat) (r : Option FieldType) (n : Nat) : Prop :=
  GoodIn lw_all (ws_ y b L r) ∧ Cond.methodLinkNest own ix y host ∈ nwAll ∧ Cond.initialized y.cls ∈ lw_all ∧ Cond.static y ∈ lw_all ∧ (y.cls ≠ "java/lang/invoke/MethodHandle" ∧ y.cls ≠ "java/lang/invoke/VarHandle" ∧ (parseMethodDescriptor y.desc).map (fun d => d.parameters.length) = some n) ∧ L ≤ 21
theorem j_callSN {host : String} (hlk : zlSN Y.1.cls ix y host b L r n) (hK : Kt g l d' (y, b, L, r, []) As σ mc' ms' Qr' Qx') (hd : decode Y.2.1 pc = .ok (.invokestatic ix, 3)) (hst : st = As.reverse ++ rest) (hn : As.length = n) (hrest : (rest.map fun v => v.category).sum ≤ 8) (hdd : d' < d) (hc : c0 + mc' ≤ mc) (hs : n0 + ms' ≤ ms)
    (kr : ∀ v σ', Qr' v σ' → Tj g l d Y av mc ms Qr Qx (c0 + mc') (n0 + ms') (pc + 3) ls (v.toList ++ rest) σ') (kx : ∀ q E σ', Qx' q E σ' → Xj g l d Y av mc ms Qr Qx (c0 + mc') (n0 + ms') pc ls q E σ') : Tj g l d Y av mc ms Qr Qx c0 n0 pc ls st σ := by
  refine j_core (a := As.toArray) (fun p e s m below meth c H locs la C hM hS hl => ?_) kr kx
  have hts := C.2.2.2.2.2.2.1
  exact vx_runSN (zfix C) hK ⟨va_cnB n hts hlk.1 rfl rfl rfl (C.2.2.2.2.2.2.2.1.2.2.1 _ hlk.2.1) (hts _ hlk.2.2.1) hlk.2.2.2.2.1 (zroom hdd hlk.2.2.2.2.2 mc' ms'), hts _ hlk.2.2.2.1, trivial⟩ ⟨zblind g l _ σ, zpre C hM hS⟩ rfl hn hl.1 hst (lv_room hrest) hd ⟨hc, hs⟩
/-- a constructor -/
def zlI (own : String) (ix : Nat) (y : MethodName) (b : ByteArray) (L : Nat) (n : Nat) : Prop :=
  GoodIn lw_all (ws_ y b L none) ∧ Cond.methodLink own ix y ∈ lw_all ∧ Cond.initialized y.cls ∈ lw_all ∧ Cond.instanceMethod y ∈ lw_all ∧ y.name = "<init>" ∧ (y.cls ≠ "java/lang/invoke/MethodHandle" ∧ y.cls ≠ "java/lang/invoke/VarHandle" ∧ (parseMethodDescriptor y.desc).map (fun d => d.parameters.length) = some n) ∧ L ≤ 21
theorem j_callI (hlk : zlI Y.1.cls ix y b L n) (hK : Kt g l d' (y, b, L, none, []) (.ref b0 :: As) σ mc' ms' Qr' Qx') (hd : decode Y.2.1 pc = .ok (.invokespecial ix, 3)) (hst : st = As.reverse ++ .ref b0 :: rest) (hn : As.length = n) (hrest : (rest.map fun v => v.category).sum ≤ 8) (hdd : d' < d) (hc : c0 + mc' ≤ mc) (hs : n0 + ms' ≤ ms)
    (kr : ∀ v σ', Qr' v σ' → Tj g l d Y av mc ms Qr Qx (c0 + mc') (n0 + ms') (pc + 3) ls (v.toList ++ rest) σ') (kx : ∀ q E σ', Qx' q E σ' → Xj g l d Y av mc ms Qr Qx (c0 + mc') (n0 + ms') pc ls q E σ') : Tj g l d Y av mc ms Qr Qx c0 n0 pc ls st σ := by
  refine j_core (a := (Value.ref b0 :: As).toArray) (fun p e s m below meth c H locs la C hM hS hl => ?_) kr kx
  have hts := C.2.2.2.2.2.2.1
  exact vx_runI (zfix C) hK (cwI n hts hlk.1 rfl rfl rfl (hts _ hlk.2.2.1) (hts _ hlk.2.1) (hts _ hlk.2.2.2.1) hlk.2.2.2.2.1 hlk.2.2.2.2.2.1 (zroom hdd hlk.2.2.2.2.2.2 mc' ms')) ⟨zblind g l _ σ, zpre C hM hS⟩ rfl hn hl.1 hst (lv_room hrest) hd ⟨hc, hs⟩
/-- a private constructor of a nest mate -/
def zlIN (own : String) (ix : Nat) (y : MethodName) (host : String) (b : ByteArray) (L : Nat) (n : Nat) : Prop :=
  GoodIn lw_all (ws_ y b L none) ∧ Cond.methodLinkNest own ix y host ∈ nwAll ∧ Cond.initialized y.cls ∈ lw_all ∧ Cond.instanceMethod y ∈ lw_all ∧ y.name = "<init>" ∧ (y.cls ≠ "java/lang/invoke/MethodHandle" ∧ y.cls ≠ "java/lang/invoke/VarHandle" ∧ (parseMethodDescriptor y.desc).map (fun d => d.parameters.length) = some n) ∧ L ≤ 21
theorem j_callIN {host : String} (hlk : zlIN Y.1.cls ix y host b L n) (hK : Kt g l d' (y, b, L, none, []) (.ref b0 :: As) σ mc' ms' Qr' Qx') (hd : decode Y.2.1 pc = .ok (.invokespecial ix, 3)) (hst : st = As.reverse ++ .ref b0 :: rest) (hn : As.length = n) (hrest : (rest.map fun v => v.category).sum ≤ 8) (hdd : d' < d) (hc : c0 + mc' ≤ mc) (hs : n0 + ms' ≤ ms)
    (kr : ∀ v σ', Qr' v σ' → Tj g l d Y av mc ms Qr Qx (c0 + mc') (n0 + ms') (pc + 3) ls (v.toList ++ rest) σ') (kx : ∀ q E σ', Qx' q E σ' → Xj g l d Y av mc ms Qr Qx (c0 + mc') (n0 + ms') pc ls q E σ') : Tj g l d Y av mc ms Qr Qx c0 n0 pc ls st σ := by
  refine j_core (a := (Value.ref b0 :: As).toArray) (fun p e s m below meth c H locs la C hM hS hl => ?_) kr kx
  have hts := C.2.2.2.2.2.2.1
  exact vx_runIN (zfix C) hK ⟨va_cnB n hts hlk.1 rfl rfl rfl (C.2.2.2.2.2.2.2.1.2.2.1 _ hlk.2.1) (hts _ hlk.2.2.1) hlk.2.2.2.2.2.1 (zroom hdd hlk.2.2.2.2.2.2 mc' ms'), hlk.2.2.2.2.1, hts _ hlk.2.2.2.1⟩ ⟨zblind g l _ σ, zpre C hM hS⟩ rfl hn hl.1 hst (lv_room hrest) hd ⟨hc, hs⟩
/-- Object's constructor -/
theorem j_objInit {a : Nat} (hd : decode Y.2.1 pc = .ok (.invokespecial ix, 3)) (hw : Cond.methodLink Y.1.cls ix Lib.objectInit ∈ lw_all) (hw2 : Cond.instanceMethod Lib.objectInit ∈ lw_all) (hw3 : Cond.code Lib.objectInit ⟨#[0xb1]⟩ 1 none ∈ lw_all) (hrest : (st.map fun v => v.category).sum ≤ 8) (k : Tj g l d Y av mc ms Qr Qx c0 n0 (pc + 3) ls st σ) : Tj g l d Y av mc ms Qr Qx c0 n0 pc ls (.ref a :: st) σ := by
  intro p e s m below meth c H locs la C hM hS hl
  have hts := C.2.2.2.2.2.2.1
  refine W.objInit C.1 C.2.1 C.2.2.2.2.2.1 (hts _ hw) (hts _ hw2) (hts _ hw3) rfl (by rw [C.2.2.2.1]; exact hl.1) rfl hd (by unfold zR; dsimp only; omega) ?_ (k p e s m below meth c H locs la C hM hS hl)
  have := lv_room (m := m) (pc := pc) (ls := la) (rest := (.ref a :: st)) hrest
  unfold zR
  dsimp only
  omega
/-- a method of a class above, found by the receiver (of class ci) -/
def zlU (own : String) (ix : Nat) (C owner : String) (x y : MethodName) (b : ByteArray) (L : Nat) (r : Option FieldType) (n : Nat) : Prop :=
  (∀ w ∈ [Cond.methodLink own ix x, Cond.sameMethod x.cls owner x.name x.desc, Cond.instanceMethod y, Cond.initialized y.cls, Cond.code y b L r], w ∈ lw_all) ∧ Cond.selects C x y ∈ lw_all ++ xwAll ∧ y = ⟨owner, x.name, x.desc⟩ ∧ (owner ≠ "java/lang/invoke/MethodHandle" ∧ owner ≠ "java/lang/invoke/VarHandle" ∧ (parseMethodDescriptor x.desc).map (fun d => d.parameters.length) = some n) ∧ L ≤ 21
theorem zlx_good : GoodIn (lw_all ++ xwAll) (lw_all ++ xwAll) := fun w h => ⟨h, (List.mem_append.mp h).elim (fun h => (lw_self w h).2) (fun h => Or.inl (by rw [(xw_good w h).1, (xw_good w h).2]; rfl))⟩
theorem zlx_sub {ws : List Cond} (h : ∀ w ∈ ws, w ∈ lw_all ++ xwAll) : GoodIn (lw_all ++ xwAll) ws := fun w hw => zlx_good w (h w hw)
theorem zhtx {p : Program} {s : State} {m : MethodId} {meth : Method} {c : Code} (C : Cx g l Y av p s m meth c) : ∀ w ∈ lw_all ++ xwAll, w.before av.toArray s = true := fun w h => (List.mem_append.mp h).elim (C.2.2.2.2.2.2.1 w) (fun h => va_Nw.use (xw_good w h).1 (C.2.2.2.2.2.2.2.1.2.2.2.2.2.1 w h))
theorem j_callU {owner : String} (hlk : zlU Y.1.cls ix (zCn ci) owner x y b L r n) (hK : Kt g l d' (y, b, L, r, []) (.ref b0 :: As) σ mc' ms' Qr' Qx') (hd : decode Y.2.1 pc = .ok (.invokevirtual ix, 3)) (hst : st = As.reverse ++ .ref b0 :: rest) (hn : As.length = n) (hci : ci < 14) (hb : σ.1 b0 = some (ci, nb)) (hrest : (rest.map fun v => v.category).sum ≤ 8) (hdd : d' < d) (hc : c0 + mc' ≤ mc) (hs : n0 + ms' ≤ ms)
    (kr : ∀ v σ', Qr' v σ' → Tj g l d Y av mc ms Qr Qx (c0 + mc') (n0 + ms') (pc + 3) ls (v.toList ++ rest) σ') (kx : ∀ q E σ', Qx' q E σ' → Xj g l d Y av mc ms Qr Qx (c0 + mc') (n0 + ms') pc ls q E σ') : Tj g l d Y av mc ms Qr Qx c0 n0 pc ls st σ := by
  refine j_core (a := (Value.ref b0 :: As).toArray) (fun p e s m below meth c H locs la C hM hS hl => ?_) kr kx
  obtain ⟨h1, h2, h3, h4, h5⟩ := hlk
  have hg : GoodIn (lw_all ++ xwAll) (va_wsU Y.1.cls ix (zCn ci) owner x y (ws_ y b L r)) := by
    refine zlx_sub fun w hw => ?_
    unfold va_wsU at hw
    simp only [List.mem_append, List.mem_cons, List.not_mem_nil, or_false] at hw
    rcases hw with (rfl | rfl | rfl | rfl | rfl) | rfl | hw
    · exact List.mem_append_left _ (h1 _ (by simp))
    · exact List.mem_append_left _ (h1 _ (by simp))
    · exact h2
    · exact List.mem_append_left _ (h1 _ (by simp))
    · exact List.mem_append_left _ (h1 _ (by simp))
    · exact List.mem_append_left _ (h1 _ (by simp))
    · exact List.mem_append_left _ hw
  exact vx_runU (Ts := lw_all ++ xwAll) ⟨C.1, C.2.1, C.2.2.2.1, C.2.2.2.2.2.1, zhtx C⟩ hK (va_cwU n (zhtx C) hg rfl rfl rfl h3 h4 (zroom hdd h5 mc' ms')) ⟨zblind g l _ σ, zrecv C hM hci hb, zpre C hM hS⟩ rfl hn hl.1 hst (lv_room hrest) hd ⟨hc, hs⟩
/-- an overriding method, found by the receiver -/
def zlO (own : String) (ix : Nat) (C owner : String) (x y : MethodName) (b : ByteArray) (L : Nat) (r : Option FieldType) (n : Nat) : Prop :=
  GoodIn lw_all (va_wsO own ix C owner x y (ws_ y b L r)) ∧ (∃ b1 m1 r1, Cond.code ⟨owner, x.name, x.desc⟩ b1 m1 r1 ∈ lw_all) ∧ (owner ≠ "java/lang/invoke/MethodHandle" ∧ owner ≠ "java/lang/invoke/VarHandle" ∧ (parseMethodDescriptor x.desc).map (fun d => d.parameters.length) = some n) ∧ L ≤ 21
theorem j_callO {owner : String} (hlk : zlO Y.1.cls ix (zCn ci) owner x y b L r n) (hK : Kt g l d' (y, b, L, r, []) (.ref b0 :: As) σ mc' ms' Qr' Qx') (hd : decode Y.2.1 pc = .ok (.invokevirtual ix, 3)) (hst : st = As.reverse ++ .ref b0 :: rest) (hn : As.length = n) (hci : ci < 14) (hb : σ.1 b0 = some (ci, nb)) (hrest : (rest.map fun v => v.category).sum ≤ 8) (hdd : d' < d) (hc : c0 + mc' ≤ mc) (hs : n0 + ms' ≤ ms)
    (kr : ∀ v σ', Qr' v σ' → Tj g l d Y av mc ms Qr Qx (c0 + mc') (n0 + ms') (pc + 3) ls (v.toList ++ rest) σ') (kx : ∀ q E σ', Qx' q E σ' → Xj g l d Y av mc ms Qr Qx (c0 + mc') (n0 + ms') pc ls q E σ') : Tj g l d Y av mc ms Qr Qx c0 n0 pc ls st σ := by
  refine j_core (a := (Value.ref b0 :: As).toArray) (fun p e s m below meth c H locs la C hM hS hl => ?_) kr kx
  obtain ⟨h1, ⟨b1, m1, r1, h2⟩, h4, h5⟩ := hlk
  exact vx_runU (zfix C) hK (va_cwO n C.2.2.2.2.2.2.1 h1 rfl rfl rfl h2 h4 (zroom hdd h5 mc' ms')) ⟨zblind g l _ σ, zrecv C hM hci hb, zpre C hM hS⟩ rfl hn hl.1 hst (lv_room hrest) hd ⟨hc, hs⟩
/-- super.m(..) -/
def zlSU (own : String) (ix : Nat) (y : MethodName) (b : ByteArray) (L : Nat) (r : Option FieldType) (n : Nat) : Prop :=
  GoodIn lw_all (va_wsSU own ix y (ws_ y b L r)) ∧ (y.name ≠ "<init>" ∧ (parseMethodDescriptor y.desc).map (fun d => d.parameters.length) = some n) ∧ L ≤ 21
theorem j_callSU (hlk : zlSU Y.1.cls ix y b L r n) (hK : Kt g l d' (y, b, L, r, []) (.ref b0 :: As) σ mc' ms' Qr' Qx') (hd : decode Y.2.1 pc = .ok (.invokespecial ix, 3)) (hst : st = As.reverse ++ .ref b0 :: rest) (hn : As.length = n) (hci : ci < 14) (hb : σ.1 b0 = some (ci, nb)) (hrest : (rest.map fun v => v.category).sum ≤ 8) (hdd : d' < d) (hc : c0 + mc' ≤ mc) (hs : n0 + ms' ≤ ms)
    (kr : ∀ v σ', Qr' v σ' → Tj g l d Y av mc ms Qr Qx (c0 + mc') (n0 + ms') (pc + 3) ls (v.toList ++ rest) σ') (kx : ∀ q E σ', Qx' q E σ' → Xj g l d Y av mc ms Qr Qx (c0 + mc') (n0 + ms') pc ls q E σ') : Tj g l d Y av mc ms Qr Qx c0 n0 pc ls st σ := by
  refine j_core (a := (Value.ref b0 :: As).toArray) (fun p e s m below meth c H locs la C hM hS hl => ?_) kr kx
  obtain ⟨h1, h2, h3⟩ := hlk
  exact vx_runSU (C := zCn ci) (C.2.2.2.2.2.2.2.1.2.1.1 ci _ (zC_at ci hci)).2 (zfix C) hK (va_cwSU n C.2.2.2.2.2.2.1 h1 rfl rfl rfl h2 (zroom hdd h3 mc' ms')) ⟨zblind g l _ σ, zrecv C hM hci hb, zpre C hM hS⟩ rfl hn hl.1 hst (lv_room hrest) hd ⟨hc, hs⟩
/-- athrow of an own object -/
theorem j_athrow {q ci nq : Nat} (hd : decode Y.2.1 pc = .ok (.athrow, 1)) (hci : ci < 14) (hq : σ.1 q = some (ci, nq)) (k : Xj g l d Y av mc ms Qr Qx c0 n0 pc ls q (zCn ci) σ) : Tj g l d Y av mc ms Qr Qx c0 n0 pc ls (.ref q :: st) σ := by
  intro p e s m below meth c H locs la C hM hS hl
  obtain ⟨q0, hq0⟩ := hM.at hq
  rw [ze_o hci] at hq0
  obtain ⟨r1, e1, cell, h1, h2, h3, -⟩ := hM.P q0 _ hq0
  cases Option.some.inj (e1.symm.trans (zC_at ci hci))
  exact vx_athrow C.1 C.2.1 hd (k p e s m below meth c H locs la st cell C hM hS hl h1 h3 (by rw [h2]; exact (C.2.2.2.2.2.2.2.1.2.1.1 ci _ (zC_at ci hci)).2.1))
/-- not caught here -/
theorem j_out {q : Nat} {E : String} (hh : Y.2.2.2.2 = []) (hc : c0 ≤ mc) (hs : n0 ≤ ms) (hx : Qx q E σ) : Xj g l d Y av mc ms Qr Qx c0 n0 pc ls q E σ := by
  intro p e s m below meth c H locs la rest ce C hM hS hl hcell hv hcl
  refine vx_out (fun z hz => ?_) C.2.2.2.2.1 hcell hv hcl (fun t ht hW => ⟨⟨σ, hx, by rw [ht]; exact hM⟩, hS.F ht⟩) hS.2.2 hc hs
  rw [C.2.2.2.2.2.2.2.2.2.2.2, hh] at hz
  cases hz
/-- caught here, by a row behind rows that don't cover or name another class -/
theorem j_catch {q : Nat} {E : String} {nm : String} (pre : List (Nat × Nat × Nat × Nat)) (h : Nat × Nat × Nat × Nat) (suf : List (Nat × Nat × Nat × Nat)) (hh : Y.2.2.2.2 = pre ++ h :: suf) (hpre : ∀ z ∈ pre, ¬ (z.1 ≤ pc ∧ pc < z.2.1) ∨ (z.2.2.2 ≠ 0 ∧ ∃ n2 : String, Cond.classLink Y.1.cls z.2.2.2 n2 ∈ lw_all ∧ (E, n2) ∈ ncAll)) (hcov : h.1 ≤ pc ∧ pc < h.2.1) (h0 : h.2.2.2 ≠ 0)
    (hlink : Cond.classLink Y.1.cls h.2.2.2 nm ∈ lw_all) (hcast : Cond.castable E nm ∈ nwAll) (k : Tj g l d Y av mc ms Qr Qx c0 n0 h.2.2.1 ls [.ref q] σ) : Xj g l d Y av mc ms Qr Qx c0 n0 pc ls q E σ := by
  intro p e s m below meth c H locs la rest ce C hM hS hl hcell hv hcl
  have hts := C.2.2.2.2.2.2.1
  refine vx_catch (own := Y.1.cls) (name := nm) (E := E) C.2.2.2.2.2.1 (tableOf pre) ⟨h.1, h.2.1, h.2.2.1, h.2.2.2⟩ (tableOf suf) ?_ (fun z hz => ?_) ?_ h0 (hts _ hlink) (va_Nw.use rfl (C.2.2.2.2.2.2.2.1.2.2.1 _ hcast)) hcell hv hcl (k p e s m below meth c H locs la C hM hS hl)
  · rw [C.2.2.2.2.2.2.2.2.2.2.2, hh]
    unfold tableOf
    rw [List.map_append, List.map_cons]
  · unfold tableOf at hz
    obtain ⟨z0, hz0, rfl⟩ := List.mem_map.mp hz
    rcases hpre z0 hz0 with h1 | ⟨h1, n2, h2, h3⟩
    · refine Or.inl ?_
      unfold covers
      simp only [Bool.and_eq_false_iff, decide_eq_false_iff_not]
      by_cases ha : z0.1 ≤ pc
      · exact Or.inr fun hb => h1 ⟨ha, hb⟩
      · exact Or.inl ha
    · exact Or.inr ⟨h1, n2, hts _ h2, C.2.2.2.2.2.2.2.1.2.2.2.2.1 _ h3⟩
  · unfold covers
    simp only [Bool.and_eq_true, decide_eq_true_eq]
    exact hcov
end TC
