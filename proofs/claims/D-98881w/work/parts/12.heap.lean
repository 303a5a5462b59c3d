/-! THE RULES OF Tj FOR THE HEAP: fields, arrays, new cells, casts, the script, texts -/
set_option maxRecDepth 100000
def zCn (ci : Nat) : String := (zC.getD ci (RX4, TX4, 0)).1
def zCt (ci : Nat) : u_T := (zC.getD ci (RX4, TX4, 0)).2.1
theorem zC_at : ∀ ci, ci < 14 → zC[ci]? = some (zCn ci, zCt ci, zN ci) := by
  intro ci h
  match ci, h with
  | 0, _ => rfl
  | 1, _ => rfl
  | 2, _ => rfl
  | 3, _ => rfl
  | 4, _ => rfl
  | 5, _ => rfl
  | 6, _ => rfl
  | 7, _ => rfl
  | 8, _ => rfl
  | 9, _ => rfl
  | 10, _ => rfl
  | 11, _ => rfl
  | 12, _ => rfl
  | 13, _ => rfl
  | k + 14, h => omega
theorem zws_nil : ∀ w ∈ u_ws RX4 TX4 0, w ∈ lw_all := fun w h => by
  unfold u_ws at h
  cases h
theorem zC_in : ∀ ci, ci < 14 → ∀ w ∈ u_ws (zCn ci) (zCt ci) (zN ci), w ∈ lw_all := by
  intro ci h
  match ci, h with
  | 0, _ => exact in_X0
  | 1, _ => exact zws_nil
  | 2, _ => exact in_X2
  | 3, _ => exact in_X3
  | 4, _ => exact zws_nil
  | 5, _ => exact fun w h => by cases h
  | 6, _ => exact in_X6
  | 7, _ => exact in_X7
  | 8, _ => exact in_X8
  | 9, _ => exact in_X9
  | 10, _ => exact in_X10
  | 11, _ => exact in_X11
  | 12, _ => exact in_X12
  | 13, _ => exact in_X13
  | k + 14, h => omega
theorem zC_ty : ∀ ci, ci < 14 → ∀ k, k < zN ci → parseFieldDescriptor (zCt ci k).2.2.1 = some (zY ci k) := by
  intro ci h
  match ci, h with
  | 0, _ => exact tyX0_ok
  | 1, _ => exact fun k h => absurd h (Nat.not_lt_zero k)
  | 2, _ => exact tyX2_ok
  | 3, _ => exact tyX3_ok
  | 4, _ => exact fun k h => absurd h (Nat.not_lt_zero k)
  | 5, _ => exact fun k h => absurd h (Nat.not_lt_zero k)
  | 6, _ => exact tyX6_ok
  | 7, _ => exact tyX7_ok
  | 8, _ => exact tyX8_ok
  | 9, _ => exact tyX9_ok
  | 10, _ => exact tyX10_ok
  | 11, _ => exact tyX11_ok
  | 12, _ => exact tyX12_ok
  | 13, _ => exact tyX13_ok
  | k + 14, h => omega
theorem zC_nm : ∀ ci, ci < 14 → ∀ a, a < zN ci → ∀ b, b < zN ci → a ≠ b → (zCt ci a).2.1 ≠ (zCt ci b).2.1 := by
  intro ci h
  match ci, h with
  | 0, _ => exact nmX0
  | 1, _ => exact fun k h => absurd h (Nat.not_lt_zero k)
  | 2, _ => exact nmX2
  | 3, _ => exact nmX3
  | 4, _ => exact fun k h => absurd h (Nat.not_lt_zero k)
  | 5, _ => exact fun k h => absurd h (Nat.not_lt_zero k)
  | 6, _ => exact nmX6
  | 7, _ => exact nmX7
  | 8, _ => exact nmX8
  | 9, _ => exact nmX9
  | 10, _ => exact nmX10
  | 11, _ => exact nmX11
  | 12, _ => exact nmX12
  | 13, _ => exact nmX13
  | k + 14, h => omega
/-- the entry ix of own's constants names field k of class ci -/
def zSm (ref : String) (ci k : Nat) : Prop := ref = (zCt ci k).1 ∨ Cond.sameField ref (zCt ci k).1 (zCt ci k).2.1 (zCt ci k).2.2.1 ∈ lw_all
def zFl (own : String) (ix ci k : Nat) : Prop := ci < 14 ∧ k < zN ci ∧ ∃ ref, zSm ref ci k ∧ (Cond.fieldLink own ix ref (zCt ci k).2.1 (zCt ci k).2.2.1 ∈ lw_all ∨ ∃ host, Cond.fieldLinkNest own ix ref (zCt ci k).2.1 (zCt ci k).2.2.1 host ∈ nwAll)
theorem zFl_o {own ref : String} {ix : Nat} (ci k : Nat) {n d : String} (h : Cond.fieldLink own ix ref n d ∈ lw_all) (h1 : ci < 14 := by decide) (h2 : k < zN ci := by decide) (h3 : zCt ci k = (ref, n, d, (zCt ci k).2.2.2) := by rfl) : zFl own ix ci k :=
  ⟨h1, h2, ref, Or.inl (by rw [h3]), Or.inl (by rw [h3]; exact h)⟩
theorem zFl_n {own ref host : String} {ix : Nat} (ci k : Nat) {n d : String} (h : Cond.fieldLinkNest own ix ref n d host ∈ lw_tbl) (h1 : ci < 14 := by decide) (h2 : k < zN ci := by decide) (h3 : zCt ci k = (ref, n, d, (zCt ci k).2.2.2) := by rfl) : zFl own ix ci k :=
  ⟨h1, h2, ref, Or.inl (by rw [h3]), Or.inr ⟨host, by rw [h3]; exact nw_g h rfl⟩⟩
theorem zFl_s {own ref : String} {ix : Nat} (ci k : Nat) {o n d : String} (h : Cond.fieldLink own ix ref n d ∈ lw_all) (hs : Cond.sameField ref o n d ∈ lw_all) (h1 : ci < 14 := by decide) (h2 : k < zN ci := by decide) (h3 : zCt ci k = (o, n, d, (zCt ci k).2.2.2) := by rfl) : zFl own ix ci k :=
  ⟨h1, h2, ref, Or.inr (by rw [h3]; exact hs), Or.inl (by rw [h3]; exact h)⟩
theorem zFl_sn {own ref host : String} {ix : Nat} (ci k : Nat) {o n d : String} (h : Cond.fieldLinkNest own ix ref n d host ∈ lw_tbl) (hs : Cond.sameField ref o n d ∈ lw_all) (h1 : ci < 14 := by decide) (h2 : k < zN ci := by decide) (h3 : zCt ci k = (o, n, d, (zCt ci k).2.2.2) := by rfl) : zFl own ix ci k :=
  ⟨h1, h2, ref, Or.inr (by rw [h3]; exact hs), Or.inr ⟨host, by rw [h3]; exact nw_g h rfl⟩⟩
theorem zSm_ok {args : Array Value} {s : State} {ref : String} {ci k : Nat} (h : zSm ref ci k) (hts : ∀ w ∈ lw_all, w.before args s = true) : ∀ x, s.fieldFound? (zCt ci k).1 (zCt ci k).2.1 (zCt ci k).2.2.1 = some x → s.fieldFound? ref (zCt ci k).2.1 (zCt ci k).2.2.1 = some x := by
  intro x hx
  rcases h with h | h
  · rw [h]; exact hx
  · exact u_same (hts _ h) x hx
/-- a field's value -/
def zfv (σ : Sg) (a ci k : Nat) : Value := zv (zK (zY ci k)) (σ.2.1 a k) (σ.2.2.1 a k) (σ.2.2.2 a k)
theorem zo_at {σ : Sg} {a ci k : Nat} (hk : k < zN ci) : (zo σ a ci)[k]? = some (zfv σ a ci k) := by
  unfold zo
  rw [List.getElem?_map, List.getElem?_range hk]
  rfl
theorem zo_len {σ : Sg} {a ci : Nat} : (zo σ a ci).length = zN ci := by
  unfold zo
  rw [List.length_map, List.length_range]
theorem ze_o {g : Gx} {σ : Sg} {a ci n : Nat} (h : ci < 14) : ze g σ a ci n = .inr (ci, zo σ a ci) := if_pos (by omega)
/-- the pure heap with a field, or an array's place, written -/
def sI (σ : Sg) (a k : Nat) (x : Int32) : Sg := (σ.1, up σ.2.1 a (up (σ.2.1 a) k x), σ.2.2.1, σ.2.2.2)
def sL (σ : Sg) (a k : Nat) (x : Int64) : Sg := (σ.1, σ.2.1, up σ.2.2.1 a (up (σ.2.2.1 a) k x), σ.2.2.2)
def sR (σ : Sg) (a k : Nat) (x : Option Nat) : Sg := (σ.1, σ.2.1, σ.2.2.1, up σ.2.2.2 a (up (σ.2.2.2 a) k x))
theorem zo_set {σ σ' : Sg} {a ci k : Nat} {v : Value} (h : ∀ j, j < zN ci → zfv σ' a ci j = if j = k then v else zfv σ a ci j) : zo σ' a ci = (zo σ a ci).set k v := by
  refine List.ext_getElem? fun j => ?_
  by_cases hj : j < zN ci
  · rw [zo_at hj, h j hj, List.getElem?_set]
    by_cases hjk : j = k
    · subst hjk
      rw [if_pos rfl, if_pos rfl, if_pos (by rw [zo_len]; exact hj)]
    · rw [if_neg hjk, if_neg (fun e => hjk e.symm), zo_at hj]
  · rw [List.getElem?_eq_none (by rw [zo_len]; omega), List.getElem?_eq_none (by rw [List.length_set, zo_len]; omega)]
section TH
variable {g : Gx} {l : Launch} {d : Nat} {Y : Mi} {av : List Value} {mc ms : Nat} {Qr : Option Value → Sg → Prop} {Qx : Nat → String → Sg → Prop} {c0 n0 pc : Nat} {ls : List (Option Value)} {st : List Value} {σ : Sg}
theorem j_get {a ci n ix k : Nat} (hd : decode Y.2.1 pc = .ok (.getfield ix, 3)) (hf : zFl Y.1.cls ix ci k) (ha : σ.1 a = some (ci, n)) (kk : Tj g l d Y av mc ms Qr Qx c0 n0 (pc + 3) ls (zfv σ a ci k :: st) σ) : Tj g l d Y av mc ms Qr Qx c0 n0 pc ls (.ref a :: st) σ := by
  intro p e s m below meth c H locs la C hM hS hl
  obtain ⟨hci, hk, ref, hsm, hlk⟩ := hf
  obtain ⟨q0, hq⟩ := hM.at ha
  rw [ze_o hci] at hq
  have hts := C.2.2.2.2.2.2.1
  rcases hlk with h | ⟨host, h⟩
  · exact va_get (D := g.1) (C := zCn ci) (T := zCt ci) (N := zN ci) C.1 C.2.1 hts (zC_in ci hci) C.2.2.2.2.2.1 C.2.2.2.2.2.2.2.1.2.1 hM.P q0 hq (zC_at ci hci) k hk (hts _ h) (zSm_ok hsm hts) (zo_at hk) hd (kk p e s m below meth c H locs la C hM hS hl)
  · exact va_getN (D := g.1) (C := zCn ci) (T := zCt ci) (N := zN ci) C.1 C.2.1 hts (zC_in ci hci) C.2.2.2.2.2.1 C.2.2.2.2.2.2.2.1.2.1 hM.P q0 hq (zC_at ci hci) k hk (va_Nw.use (nw_tabs (List.mem_filter.mp h).2) (C.2.2.2.2.2.2.2.1.2.2.1 _ h)) (zSm_ok hsm hts) (zo_at hk) hd (kk p e s m below meth c H locs la C hM hS hl)
/-- a field of an int, its value by a name -/
theorem j_getI {a ci n ix k : Nat} {v : Int32} (hd : decode Y.2.1 pc = .ok (.getfield ix, 3)) (hf : zFl Y.1.cls ix ci k) (hK : zK (zY ci k) = 0) (ha : σ.1 a = some (ci, n)) (hv : σ.2.1 a k = v) (kk : Tj g l d Y av mc ms Qr Qx c0 n0 (pc + 3) ls (.int v :: st) σ) : Tj g l d Y av mc ms Qr Qx c0 n0 pc ls (.ref a :: st) σ :=
  j_get hd hf ha (by unfold zfv; rw [hK, hv]; exact kk)
theorem j_getL {a ci n ix k : Nat} {v : Int64} (hd : decode Y.2.1 pc = .ok (.getfield ix, 3)) (hf : zFl Y.1.cls ix ci k) (hK : zK (zY ci k) = 1) (ha : σ.1 a = some (ci, n)) (hv : σ.2.2.1 a k = v) (kk : Tj g l d Y av mc ms Qr Qx c0 n0 (pc + 3) ls (.long v :: st) σ) : Tj g l d Y av mc ms Qr Qx c0 n0 pc ls (.ref a :: st) σ :=
  j_get hd hf ha (by unfold zfv; rw [hK, hv]; exact kk)
theorem j_getR {a ci n ix k b : Nat} (hd : decode Y.2.1 pc = .ok (.getfield ix, 3)) (hf : zFl Y.1.cls ix ci k) (hK : zK (zY ci k) = 2) (ha : σ.1 a = some (ci, n)) (hv : σ.2.2.2 a k = some b) (kk : Tj g l d Y av mc ms Qr Qx c0 n0 (pc + 3) ls (.ref b :: st) σ) : Tj g l d Y av mc ms Qr Qx c0 n0 pc ls (.ref a :: st) σ :=
  j_get hd hf ha (by unfold zfv; rw [hK, hv]; exact kk)
theorem j_getN {a ci n ix k : Nat} (hd : decode Y.2.1 pc = .ok (.getfield ix, 3)) (hf : zFl Y.1.cls ix ci k) (hK : zK (zY ci k) = 2) (ha : σ.1 a = some (ci, n)) (hv : σ.2.2.2 a k = none) (kk : Tj g l d Y av mc ms Qr Qx c0 n0 (pc + 3) ls (.null :: st) σ) : Tj g l d Y av mc ms Qr Qx c0 n0 pc ls (.ref a :: st) σ :=
  j_get hd hf ha (by unfold zfv; rw [hK, hv]; exact kk)
theorem j_put {a ci n ix k : Nat} {v : Value} {σ' : Sg} (hd : decode Y.2.1 pc = .ok (.putfield ix, 3)) (hf : zFl Y.1.cls ix ci k) (ha : σ.1 a = some (ci, n)) (hfin : (zCt ci k).2.2.2 = false ∨ ((zCt ci k).2.2.2 = true ∧ Y.1.name = "<init>" ∧ (zCt ci k).1 = Y.1.cls ∧ ∃ ref, zSm ref ci k ∧ Cond.fieldLink Y.1.cls ix ref (zCt ci k).2.1 (zCt ci k).2.2.1 ∈ lw_all))
    (hn : narrow (zY ci k) v = v) (hfit : fits (zY ci k) v = true) (hsh : σ'.1 = σ.1) (ho : ∀ b, b ≠ a → σ'.2.1 b = σ.2.1 b ∧ σ'.2.2.1 b = σ.2.2.1 b ∧ σ'.2.2.2 b = σ.2.2.2 b) (hset : ∀ j, j < zN ci → zfv σ' a ci j = if j = k then v else zfv σ a ci j)
    (kk : Tj g l d Y av mc ms Qr Qx c0 n0 (pc + 3) ls st σ') : Tj g l d Y av mc ms Qr Qx c0 n0 pc ls (v :: .ref a :: st) σ := by
  intro p e s m below meth c H locs la C hM hS hl
  obtain ⟨hci, hk, ref, hsm, hlk⟩ := hf
  obtain ⟨q0, hq0⟩ := hM.at ha
  have hq := hq0
  rw [ze_o hci] at hq
  have hts := C.2.2.2.2.2.2.1
  have fin : ∀ (H1 : Heap) (locs1 : List Loc), va_P g.1 zC ((zl g σ H.size).set q0 (a, .inr (ci, (zo σ a ci).set k v))) H1 → va_S (zA g) s.heap H1 locs1 → W p l e (zR d mc ms) s m av.toArray below meth c H1 locs1 c0 n0 (vx_MQ below (zQc g Qr) (zXC g Qx) av.toArray s mc ms (zA g)) (F0 m (pc + 3) la st) := by
    intro H1 locs1 hP1 hS1
    refine kk p e s m below meth c H1 locs1 la C (hM.set ha hq0 hP1 hsh (by rw [ze_o hci, zo_set hset]) ho ?_) hS1 hl
    intro i _
    match ci, hci with
    | 0, _ => trivial
    | 1, _ => trivial
    | 2, _ => trivial
    | 3, _ => trivial
    | 4, _ => trivial
    | 5, _ => trivial
    | 6, _ => trivial
    | 7, _ => trivial
    | 8, _ => trivial
    | 9, _ => trivial
    | 10, _ => trivial
    | 11, _ => trivial
    | 12, _ => trivial
    | 13, _ => trivial
  rcases hfin with hfin | ⟨hfin, hini, hdecl, ref2, hsm2, hlk2⟩
  · rcases hlk with h | ⟨host, h⟩
    · exact va_put (D := g.1) (C := zCn ci) (T := zCt ci) (N := zN ci) C.1 C.2.1 hts (zC_in ci hci) (zY ci) (zC_ty ci hci) (zC_nm ci hci) C.2.2.2.2.2.1 C.2.2.2.2.2.2.2.1.2.1 hM.P hM.D hS q0 hq (zC_at ci hci) k hk (hts _ h) (zSm_ok hsm hts) hfin (zC_ty ci hci k hk) hn hfit (by rw [zo_len]; exact hk) hd (fun H1 locs1 hP1 _ hS1 => fin H1 locs1 hP1 hS1)
    · exact va_putN (D := g.1) (C := zCn ci) (T := zCt ci) (N := zN ci) C.1 C.2.1 hts (zC_in ci hci) (zY ci) (zC_ty ci hci) (zC_nm ci hci) C.2.2.2.2.2.1 C.2.2.2.2.2.2.2.1.2.1 hM.P hM.D hS q0 hq (zC_at ci hci) k hk (va_Nw.use (nw_tabs (List.mem_filter.mp h).2) (C.2.2.2.2.2.2.2.1.2.2.1 _ h)) (zSm_ok hsm hts) hfin (zC_ty ci hci k hk) hn hfit (by rw [zo_len]; exact hk) hd (fun H1 locs1 hP1 _ hS1 => fin H1 locs1 hP1 hS1)
  · exact va_putF (D := g.1) (C := zCn ci) (T := zCt ci) (N := zN ci) C.1 C.2.1 hts (zC_in ci hci) (zY ci) (zC_ty ci hci) (zC_nm ci hci) C.2.2.2.2.2.1 C.2.2.2.2.2.2.2.1.2.1 hM.P hM.D hS q0 hq (zC_at ci hci) k hk (hts _ hlk2) (zSm_ok hsm2 hts) hfin (by rw [C.2.2.2.2.2.2.2.2.2.2.1]; exact hini) hdecl (zC_ty ci hci k hk) hn hfit (by rw [zo_len]; exact hk) hd (fun H1 locs1 hP1 _ hS1 => fin H1 locs1 hP1 hS1)
theorem zup {α : Type} {f : Nat → α} {k j : Nat} {v : α} : up f k v j = if j = k then v else f j := rfl
theorem zfv_I {σ : Sg} {a ci k : Nat} {x : Int32} (hK : zK (zY ci k) = 0) (j : Nat) : zfv (sI σ a k x) a ci j = if j = k then .int x else zfv σ a ci j := by
  unfold zfv sI
  simp only [up_eq]
  by_cases h : j = k
  · subst h
    rw [if_pos rfl, up_eq, hK]; rfl
  · rw [if_neg h, up_ne h]
theorem zfv_L {σ : Sg} {a ci k : Nat} {x : Int64} (hK : zK (zY ci k) = 1) (j : Nat) : zfv (sL σ a k x) a ci j = if j = k then .long x else zfv σ a ci j := by
  unfold zfv sL
  simp only [up_eq]
  by_cases h : j = k
  · subst h
    rw [if_pos rfl, up_eq, hK]; rfl
  · rw [if_neg h, up_ne h]
theorem zfv_R {σ : Sg} {a ci k : Nat} {x : Option Nat} (hK : zK (zY ci k) = 2) (j : Nat) : zfv (sR σ a k x) a ci j = if j = k then va_rf x else zfv σ a ci j := by
  unfold zfv sR
  simp only [up_eq]
  by_cases h : j = k
  · subst h
    rw [if_pos rfl, up_eq, hK]; rfl
  · rw [if_neg h, up_ne h]
theorem sI_ne {σ : Sg} {a k : Nat} {x : Int32} (b : Nat) (h : b ≠ a) : (sI σ a k x).2.1 b = σ.2.1 b ∧ (sI σ a k x).2.2.1 b = σ.2.2.1 b ∧ (sI σ a k x).2.2.2 b = σ.2.2.2 b := ⟨up_ne h, rfl, rfl⟩
theorem sL_ne {σ : Sg} {a k : Nat} {x : Int64} (b : Nat) (h : b ≠ a) : (sL σ a k x).2.1 b = σ.2.1 b ∧ (sL σ a k x).2.2.1 b = σ.2.2.1 b ∧ (sL σ a k x).2.2.2 b = σ.2.2.2 b := ⟨rfl, up_ne h, rfl⟩
theorem sR_ne {σ : Sg} {a k : Nat} {x : Option Nat} (b : Nat) (h : b ≠ a) : (sR σ a k x).2.1 b = σ.2.1 b ∧ (sR σ a k x).2.2.1 b = σ.2.2.1 b ∧ (sR σ a k x).2.2.2 b = σ.2.2.2 b := ⟨rfl, rfl, up_ne h⟩
/-- putfield of an int (of a boolean: 0 or 1) -/
theorem j_putI {a ci n ix k : Nat} {x : Int32} (hd : decode Y.2.1 pc = .ok (.putfield ix, 3)) (hf : zFl Y.1.cls ix ci k) (hK : zK (zY ci k) = 0) (ha : σ.1 a = some (ci, n)) (hfin : (zCt ci k).2.2.2 = false) (hn : narrow (zY ci k) (.int x) = .int x) (hfit : fits (zY ci k) (.int x) = true) (kk : Tj g l d Y av mc ms Qr Qx c0 n0 (pc + 3) ls st (sI σ a k x)) : Tj g l d Y av mc ms Qr Qx c0 n0 pc ls (.int x :: .ref a :: st) σ :=
  j_put (σ' := sI σ a k x) hd hf ha (Or.inl hfin) hn hfit rfl sI_ne (fun j _ => zfv_I hK j) kk
theorem j_putL {a ci n ix k : Nat} {x : Int64} (hd : decode Y.2.1 pc = .ok (.putfield ix, 3)) (hf : zFl Y.1.cls ix ci k) (hK : zK (zY ci k) = 1) (ha : σ.1 a = some (ci, n)) (hfin : (zCt ci k).2.2.2 = false) (hn : narrow (zY ci k) (.long x) = .long x) (hfit : fits (zY ci k) (.long x) = true) (kk : Tj g l d Y av mc ms Qr Qx c0 n0 (pc + 3) ls st (sL σ a k x)) : Tj g l d Y av mc ms Qr Qx c0 n0 pc ls (.long x :: .ref a :: st) σ :=
  j_put (σ' := sL σ a k x) hd hf ha (Or.inl hfin) hn hfit rfl sL_ne (fun j _ => zfv_L hK j) kk
theorem j_putR {a ci n ix k : Nat} {x : Nat} (hd : decode Y.2.1 pc = .ok (.putfield ix, 3)) (hf : zFl Y.1.cls ix ci k) (hK : zK (zY ci k) = 2) (ha : σ.1 a = some (ci, n)) (hfin : (zCt ci k).2.2.2 = false) (hn : narrow (zY ci k) (.ref x) = .ref x) (hfit : fits (zY ci k) (.ref x) = true) (kk : Tj g l d Y av mc ms Qr Qx c0 n0 (pc + 3) ls st (sR σ a k (some x))) : Tj g l d Y av mc ms Qr Qx c0 n0 pc ls (.ref x :: .ref a :: st) σ :=
  j_put (σ' := sR σ a k (some x)) hd hf ha (Or.inl hfin) hn hfit rfl sR_ne (fun j _ => zfv_R hK j) kk
theorem j_putN {a ci n ix k : Nat} (hd : decode Y.2.1 pc = .ok (.putfield ix, 3)) (hf : zFl Y.1.cls ix ci k) (hK : zK (zY ci k) = 2) (ha : σ.1 a = some (ci, n)) (hfin : (zCt ci k).2.2.2 = false) (hn : narrow (zY ci k) .null = .null) (hfit : fits (zY ci k) .null = true) (kk : Tj g l d Y av mc ms Qr Qx c0 n0 (pc + 3) ls st (sR σ a k none)) : Tj g l d Y av mc ms Qr Qx c0 n0 pc ls (.null :: .ref a :: st) σ :=
  j_put (σ' := sR σ a k none) hd hf ha (Or.inl hfin) hn hfit rfl sR_ne (fun j _ => zfv_R hK j) kk
/-- .. of a final field in its class's constructor -/
def zFin (Y : Mi) (ix ci k : Nat) : Prop := (zCt ci k).2.2.2 = true ∧ Y.1.name = "<init>" ∧ (zCt ci k).1 = Y.1.cls ∧ ∃ ref, zSm ref ci k ∧ Cond.fieldLink Y.1.cls ix ref (zCt ci k).2.1 (zCt ci k).2.2.1 ∈ lw_all
theorem zFin_o {y : MethodName} {bs : ByteArray} {nL : Nat} {rt : Option FieldType} {hh : List (Nat × Nat × Nat × Nat)} {ix : Nat} (ci k : Nat) {n dd : String} (h : Cond.fieldLink y.cls ix y.cls n dd ∈ lw_all) (h1 : y.name = "<init>" := by rfl) (h3 : zCt ci k = (y.cls, n, dd, true) := by rfl) : zFin (y, bs, nL, rt, hh) ix ci k :=
  ⟨by rw [h3], h1, by rw [h3], y.cls, Or.inl (by rw [h3]), by rw [h3]; exact h⟩
theorem j_putIF {a ci n ix k : Nat} {x : Int32} (hd : decode Y.2.1 pc = .ok (.putfield ix, 3)) (hf : zFl Y.1.cls ix ci k) (hK : zK (zY ci k) = 0) (ha : σ.1 a = some (ci, n)) (hfin : zFin Y ix ci k) (hn : narrow (zY ci k) (.int x) = .int x) (hfit : fits (zY ci k) (.int x) = true) (kk : Tj g l d Y av mc ms Qr Qx c0 n0 (pc + 3) ls st (sI σ a k x)) : Tj g l d Y av mc ms Qr Qx c0 n0 pc ls (.int x :: .ref a :: st) σ :=
  j_put (σ' := sI σ a k x) hd hf ha (Or.inr hfin) hn hfit rfl sI_ne (fun j _ => zfv_I hK j) kk
theorem j_putLF {a ci n ix k : Nat} {x : Int64} (hd : decode Y.2.1 pc = .ok (.putfield ix, 3)) (hf : zFl Y.1.cls ix ci k) (hK : zK (zY ci k) = 1) (ha : σ.1 a = some (ci, n)) (hfin : zFin Y ix ci k) (hn : narrow (zY ci k) (.long x) = .long x) (hfit : fits (zY ci k) (.long x) = true) (kk : Tj g l d Y av mc ms Qr Qx c0 n0 (pc + 3) ls st (sL σ a k x)) : Tj g l d Y av mc ms Qr Qx c0 n0 pc ls (.long x :: .ref a :: st) σ :=
  j_put (σ' := sL σ a k x) hd hf ha (Or.inr hfin) hn hfit rfl sL_ne (fun j _ => zfv_L hK j) kk
theorem j_putRF {a ci n ix k : Nat} {x : Nat} (hd : decode Y.2.1 pc = .ok (.putfield ix, 3)) (hf : zFl Y.1.cls ix ci k) (hK : zK (zY ci k) = 2) (ha : σ.1 a = some (ci, n)) (hfin : zFin Y ix ci k) (hn : narrow (zY ci k) (.ref x) = .ref x) (hfit : fits (zY ci k) (.ref x) = true) (kk : Tj g l d Y av mc ms Qr Qx c0 n0 (pc + 3) ls st (sR σ a k (some x))) : Tj g l d Y av mc ms Qr Qx c0 n0 pc ls (.ref x :: .ref a :: st) σ :=
  j_put (σ' := sR σ a k (some x)) hd hf ha (Or.inr hfin) hn hfit rfl sR_ne (fun j _ => zfv_R hK j) kk
theorem j_putNF {a ci n ix k : Nat} (hd : decode Y.2.1 pc = .ok (.putfield ix, 3)) (hf : zFl Y.1.cls ix ci k) (hK : zK (zY ci k) = 2) (ha : σ.1 a = some (ci, n)) (hfin : zFin Y ix ci k) (hn : narrow (zY ci k) .null = .null) (hfit : fits (zY ci k) .null = true) (kk : Tj g l d Y av mc ms Qr Qx c0 n0 (pc + 3) ls st (sR σ a k none)) : Tj g l d Y av mc ms Qr Qx c0 n0 pc ls (.null :: .ref a :: st) σ :=
  j_put (σ' := sR σ a k none) hd hf ha (Or.inr hfin) hn hfit rfl sR_ne (fun j _ => zfv_R hK j) kk
end TH
