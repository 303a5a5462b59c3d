/-! THE RULES OF Tj FOR ARRAYS, NEW CELLS, CASTS, COPIES, THE SCRIPT, TEXTS -/
set_option maxRecDepth 100000
theorem zTs_RA {g : Gx} {l : Launch} {s : State} (h : Ok g l s) {t : Nat} {ty : FieldType} (ht : (zTs g)[t - 20]? = some (g.2.1 t, ty)) : va_RA s (g.2.1 t) ty := (h.2.1.2 _ _ ht).2
theorem va_RA.inj {U : State} {c1 c2 : ClassId} {ty : FieldType} (h1 : va_RA U c1 ty) (h2 : va_RA U c2 ty) : c1 = c2 := by
  cases ty with
  | object C =>
    obtain ⟨-, -, -, -, -, a⟩ := h1
    obtain ⟨-, -, -, -, -, b⟩ := h2
    exact Option.some.inj (a.symm.trans b)
  | _ => exact Option.some.inj (Eq.trans (Eq.symm h1) h2)
/-- a new cell -/
def sN (σ : Sg) (q t n : Nat) : Sg := (up σ.1 q (some (t, n)), up σ.2.1 q (fun _ => 0), up σ.2.2.1 q (fun _ => 0), up σ.2.2.2 q (fun _ => none))
theorem sN_ne {σ : Sg} {q t n : Nat} (b : Nat) (h : b ≠ q) : (sN σ q t n).2.1 b = σ.2.1 b ∧ (sN σ q t n).2.2.1 b = σ.2.2.1 b ∧ (sN σ q t n).2.2.2 b = σ.2.2.2 b := ⟨up_ne h, up_ne h, up_ne h⟩
def zT0 (t : FieldType) : Bool := match t with
  | .float => false
  | .double => false
  | _ => true
theorem zT0_d {t : FieldType} (h : zT0 t = true) : defaultValue t = zv (zK t) 0 0 none := by
  cases t <;> first | rfl | (exact (Bool.false_ne_true h).elim)
theorem zT0_all : ∀ ci, ci < 14 → ∀ k, k < zN ci → zT0 (zY ci k) = true := by decide +kernel
theorem zfit0 (t : Nat) : zfit t 0 := by
  unfold zfit
  split <;> first | rfl | trivial
theorem nn_clamp {x : Int32} {j : Nat} (h : x = nI j) (hj : j < 2 ^ 31) : x.toNatClampNeg = j := by rw [h]; exact nI_clamp hj
theorem fits_nar_b (x : Int32) : fits .byte (.int (vp_nar .byte x)) = true := by
  show fits .byte (.int x.toInt8.toInt32) = true
  have h1 := Int8.le_toInt x.toInt8
  have h2 := Int8.toInt_lt x.toInt8
  show (decide (-128 ≤ x.toInt8.toInt32) && decide (x.toInt8.toInt32 ≤ 127)) = true
  rw [Bool.and_eq_true, decide_eq_true_eq, decide_eq_true_eq, Int32.le_iff_toInt_le, Int32.le_iff_toInt_le, Int8.toInt_toInt32]
  have e1 : (-128 : Int32).toInt = -128 := by decide
  have e2 : (127 : Int32).toInt = 127 := by decide
  omega
theorem fits_nar_s (x : Int32) : fits .short (.int (vp_nar .short x)) = true := by
  show fits .short (.int x.toInt16.toInt32) = true
  have h1 := Int16.le_toInt x.toInt16
  have h2 := Int16.toInt_lt x.toInt16
  show (decide (-32768 ≤ x.toInt16.toInt32) && decide (x.toInt16.toInt32 ≤ 32767)) = true
  rw [Bool.and_eq_true, decide_eq_true_eq, decide_eq_true_eq, Int32.le_iff_toInt_le, Int32.le_iff_toInt_le, Int16.toInt_toInt32]
  have e1 : (-32768 : Int32).toInt = -32768 := by decide
  have e2 : (32767 : Int32).toInt = 32767 := by decide
  omega
theorem fits_nar_z0 : fits .boolean (.int (vp_nar .boolean 0)) = true := by decide +kernel
theorem fits_nar_z1 : fits .boolean (.int (vp_nar .boolean 1)) = true := by decide +kernel
section TA
variable {g : Gx} {l : Launch} {d : Nat} {Y : Mi} {av : List Value} {mc ms : Nat} {Qr : Option Value → Sg → Prop} {Qx : Nat → String → Sg → Prop} {c0 n0 pc : Nat} {ls : List (Option Value)} {st : List Value} {σ : Sg}
theorem j_iald {a n j : Nat} {i v : Int32} (hd : decode Y.2.1 pc = .ok (.iaload, 1)) (ha : σ.1 a = some (20, n)) (hi : i = nI j) (hj : j < n) (hn : n < 2 ^ 31) (hv : σ.2.1 a j = v) (kk : Tj g l d Y av mc ms Qr Qx c0 n0 (pc + 1) ls (.int v :: st) σ) : Tj g l d Y av mc ms Qr Qx c0 n0 pc ls (.int i :: .ref a :: st) σ := by
  intro p e s m below meth c H locs la C hM hS hl
  obtain ⟨q0, hq⟩ := hM.at ha
  refine va_iald (f := σ.2.1 a) C.1 C.2.1 C.2.2.2.2.2.2.2.1.2.1 hM.P q0 0 hq rfl (by rw [hi]; exact vp_in_nI hj hn) hd ?_
  rw [nn_clamp hi (Nat.lt_trans hj hn), hv]
  exact kk p e s m below meth c H locs la C hM hS hl
theorem j_bald {a n j : Nat} {i v : Int32} (hd : decode Y.2.1 pc = .ok (.baload, 1)) (ha : σ.1 a = some (22, n)) (hi : i = nI j) (hj : j < n) (hn : n < 2 ^ 31) (hv : σ.2.1 a j = v) (kk : Tj g l d Y av mc ms Qr Qx c0 n0 (pc + 1) ls (.int v :: st) σ) : Tj g l d Y av mc ms Qr Qx c0 n0 pc ls (.int i :: .ref a :: st) σ := by
  intro p e s m below meth c H locs la C hM hS hl
  obtain ⟨q0, hq⟩ := hM.at ha
  refine va_bald (f := σ.2.1 a) C.1 C.2.1 C.2.2.2.2.2.2.2.1.2.1 hM.P q0 2 hq rfl (by rw [hi]; exact vp_in_nI hj hn) hd ?_
  rw [nn_clamp hi (Nat.lt_trans hj hn), hv]
  exact kk p e s m below meth c H locs la C hM hS hl
theorem j_sald {a n j : Nat} {i v : Int32} (hd : decode Y.2.1 pc = .ok (.saload, 1)) (ha : σ.1 a = some (23, n)) (hi : i = nI j) (hj : j < n) (hn : n < 2 ^ 31) (hv : σ.2.1 a j = v) (kk : Tj g l d Y av mc ms Qr Qx c0 n0 (pc + 1) ls (.int v :: st) σ) : Tj g l d Y av mc ms Qr Qx c0 n0 pc ls (.int i :: .ref a :: st) σ := by
  intro p e s m below meth c H locs la C hM hS hl
  obtain ⟨q0, hq⟩ := hM.at ha
  refine va_sald (f := σ.2.1 a) C.1 C.2.1 C.2.2.2.2.2.2.2.1.2.1 hM.P q0 3 hq rfl (by rw [hi]; exact vp_in_nI hj hn) hd ?_
  rw [nn_clamp hi (Nat.lt_trans hj hn), hv]
  exact kk p e s m below meth c H locs la C hM hS hl
theorem j_zald {a n j : Nat} {i v : Int32} (hd : decode Y.2.1 pc = .ok (.baload, 1)) (ha : σ.1 a = some (24, n)) (hi : i = nI j) (hj : j < n) (hn : n < 2 ^ 31) (hv : σ.2.1 a j = v) (kk : Tj g l d Y av mc ms Qr Qx c0 n0 (pc + 1) ls (.int v :: st) σ) : Tj g l d Y av mc ms Qr Qx c0 n0 pc ls (.int i :: .ref a :: st) σ := by
  intro p e s m below meth c H locs la C hM hS hl
  obtain ⟨q0, hq⟩ := hM.at ha
  refine va_zald (f := σ.2.1 a) C.1 C.2.1 C.2.2.2.2.2.2.2.1.2.1 hM.P q0 4 hq rfl (by rw [hi]; exact vp_in_nI hj hn) hd ?_
  rw [nn_clamp hi (Nat.lt_trans hj hn), hv]
  exact kk p e s m below meth c H locs la C hM hS hl
theorem j_lald {a n j : Nat} {i : Int32} {v : Int64} (hd : decode Y.2.1 pc = .ok (.laload, 1)) (ha : σ.1 a = some (21, n)) (hi : i = nI j) (hj : j < n) (hn : n < 2 ^ 31) (hv : σ.2.2.1 a j = v) (kk : Tj g l d Y av mc ms Qr Qx c0 n0 (pc + 1) ls (.long v :: st) σ) : Tj g l d Y av mc ms Qr Qx c0 n0 pc ls (.int i :: .ref a :: st) σ := by
  intro p e s m below meth c H locs la C hM hS hl
  obtain ⟨q0, hq⟩ := hM.at ha
  refine va_lald (f := σ.2.2.1 a) C.1 C.2.1 C.2.2.2.2.2.2.2.1.2.1 hM.P q0 1 hq rfl (by rw [hi]; exact vp_in_nI hj hn) hd ?_
  rw [nn_clamp hi (Nat.lt_trans hj hn), hv]
  exact kk p e s m below meth c H locs la C hM hS hl
theorem ze_q {g : Gx} {σ : Sg} {a t n : Nat} (h : 25 ≤ t) : ze g σ a t n = .inl (g.2.1 t, n, .inr (.inr (.inr (.inr (σ.2.2.2 a))))) := by
  unfold ze
  rw [if_neg (by omega), if_neg (by omega), if_pos h]
theorem j_aald {a t n j b : Nat} {i : Int32} {C0 : String} (hd : decode Y.2.1 pc = .ok (.aaload, 1)) (ht : ∀ g : Gx, (zTs g)[t - 20]? = some (g.2.1 t, .object C0)) (h25 : 25 ≤ t) (ha : σ.1 a = some (t, n)) (hi : i = nI j) (hj : j < n) (hn : n < 2 ^ 31) (hv : σ.2.2.2 a j = some b) (kk : Tj g l d Y av mc ms Qr Qx c0 n0 (pc + 1) ls (.ref b :: st) σ) : Tj g l d Y av mc ms Qr Qx c0 n0 pc ls (.int i :: .ref a :: st) σ := by
  intro p e s m below meth c H locs la C hM hS hl
  obtain ⟨q0, hq⟩ := hM.at ha
  rw [ze_q h25] at hq
  refine va_aldq (f := σ.2.2.2 a) (C := C0) C.1 C.2.1 C.2.2.2.2.2.2.2.1.2.1 hM.P q0 (t - 20) hq (ht g) (by rw [hi]; exact vp_in_nI hj hn) hd ?_
  rw [nn_clamp hi (Nat.lt_trans hj hn), hv]
  exact kk p e s m below meth c H locs la C hM hS hl
theorem j_iast {a n j : Nat} {i x : Int32} (hd : decode Y.2.1 pc = .ok (.iastore, 1)) (ha : σ.1 a = some (20, n)) (hi : i = nI j) (hj : j < n) (hn : n < 2 ^ 31) (kk : Tj g l d Y av mc ms Qr Qx c0 n0 (pc + 1) ls st (sI σ a j x)) : Tj g l d Y av mc ms Qr Qx c0 n0 pc ls (.int x :: .int i :: .ref a :: st) σ := by
  intro p e s m below meth c H locs la C hM hS hl
  obtain ⟨q0, hq⟩ := hM.at ha
  refine va_iast (f := σ.2.1 a) C.1 C.2.1 C.2.2.2.2.2.2.2.1.2.1 hM.P hM.D hS q0 0 hq rfl (by rw [hi]; exact vp_in_nI hj hn) hd (fun H1 locs1 hP1 _ hS1 => ?_)
  rw [nn_clamp hi (Nat.lt_trans hj hn)] at hP1
  refine kk p e s m below meth c H1 locs1 la C (hM.set ha hq hP1 rfl ?_ sI_ne (fun _ _ => trivial)) hS1 hl
  show (Sum.inl (g.2.1 20, n, .inl (up σ.2.1 a (up (σ.2.1 a) j x) a)) : va_E) = _
  rw [up_eq]
  rfl
theorem j_bast {a n j : Nat} {i x y : Int32} (hd : decode Y.2.1 pc = .ok (.bastore, 1)) (ha : σ.1 a = some (22, n)) (hi : i = nI j) (hj : j < n) (hn : n < 2 ^ 31) (hy : vp_nar .byte x = y) (kk : Tj g l d Y av mc ms Qr Qx c0 n0 (pc + 1) ls st (sI σ a j y)) : Tj g l d Y av mc ms Qr Qx c0 n0 pc ls (.int x :: .int i :: .ref a :: st) σ := by
  intro p e s m below meth c H locs la C hM hS hl
  obtain ⟨q0, hq⟩ := hM.at ha
  refine va_bast (f := σ.2.1 a) C.1 C.2.1 C.2.2.2.2.2.2.2.1.2.1 hM.P hM.D hS q0 2 hq rfl (by rw [hi]; exact vp_in_nI hj hn) hd (fun H1 locs1 hP1 _ hS1 => ?_)
  rw [nn_clamp hi (Nat.lt_trans hj hn), hy] at hP1
  refine kk p e s m below meth c H1 locs1 la C (hM.set ha hq hP1 rfl ?_ sI_ne (fun k hk => ?_)) hS1 hl
  · show (Sum.inl (g.2.1 22, n, .inl (up σ.2.1 a (up (σ.2.1 a) j y) a)) : va_E) = _
    rw [up_eq]
    rfl
  · show zfit 22 (up σ.2.1 a (up (σ.2.1 a) j y) a k)
    rw [up_eq]
    by_cases e1 : k = j
    · rw [e1, up_eq, ← hy]; exact fits_nar_b x
    · rw [up_ne e1]; exact (hM _ _ _ ha).2.2 k hk
theorem j_sast {a n j : Nat} {i x y : Int32} (hd : decode Y.2.1 pc = .ok (.sastore, 1)) (ha : σ.1 a = some (23, n)) (hi : i = nI j) (hj : j < n) (hn : n < 2 ^ 31) (hy : vp_nar .short x = y) (kk : Tj g l d Y av mc ms Qr Qx c0 n0 (pc + 1) ls st (sI σ a j y)) : Tj g l d Y av mc ms Qr Qx c0 n0 pc ls (.int x :: .int i :: .ref a :: st) σ := by
  intro p e s m below meth c H locs la C hM hS hl
  obtain ⟨q0, hq⟩ := hM.at ha
  refine va_sast (f := σ.2.1 a) C.1 C.2.1 C.2.2.2.2.2.2.2.1.2.1 hM.P hM.D hS q0 3 hq rfl (by rw [hi]; exact vp_in_nI hj hn) hd (fun H1 locs1 hP1 _ hS1 => ?_)
  rw [nn_clamp hi (Nat.lt_trans hj hn), hy] at hP1
  refine kk p e s m below meth c H1 locs1 la C (hM.set ha hq hP1 rfl ?_ sI_ne (fun k hk => ?_)) hS1 hl
  · show (Sum.inl (g.2.1 23, n, .inl (up σ.2.1 a (up (σ.2.1 a) j y) a)) : va_E) = _
    rw [up_eq]
    rfl
  · show zfit 23 (up σ.2.1 a (up (σ.2.1 a) j y) a k)
    rw [up_eq]
    by_cases e1 : k = j
    · rw [e1, up_eq, ← hy]; exact fits_nar_s x
    · rw [up_ne e1]; exact (hM _ _ _ ha).2.2 k hk
theorem j_zast {a n j : Nat} {i x : Int32} (hd : decode Y.2.1 pc = .ok (.bastore, 1)) (ha : σ.1 a = some (24, n)) (hi : i = nI j) (hj : j < n) (hn : n < 2 ^ 31) (hy : x = 0 ∨ x = 1) (kk : Tj g l d Y av mc ms Qr Qx c0 n0 (pc + 1) ls st (sI σ a j x)) : Tj g l d Y av mc ms Qr Qx c0 n0 pc ls (.int x :: .int i :: .ref a :: st) σ := by
  intro p e s m below meth c H locs la C hM hS hl
  obtain ⟨q0, hq⟩ := hM.at ha
  have hx : vp_nar .boolean x = x := by rcases hy with rfl | rfl <;> decide +kernel
  refine va_zast (f := σ.2.1 a) C.1 C.2.1 C.2.2.2.2.2.2.2.1.2.1 hM.P hM.D hS q0 4 hq rfl (by rw [hi]; exact vp_in_nI hj hn) hd (fun H1 locs1 hP1 _ hS1 => ?_)
  rw [nn_clamp hi (Nat.lt_trans hj hn), hx] at hP1
  refine kk p e s m below meth c H1 locs1 la C (hM.set ha hq hP1 rfl ?_ sI_ne (fun k hk => ?_)) hS1 hl
  · show (Sum.inl (g.2.1 24, n, .inl (up σ.2.1 a (up (σ.2.1 a) j x) a)) : va_E) = _
    rw [up_eq]
    rfl
  · show zfit 24 (up σ.2.1 a (up (σ.2.1 a) j x) a k)
    rw [up_eq]
    by_cases e1 : k = j
    · rw [e1, up_eq]; rcases hy with rfl | rfl <;> rfl
    · rw [up_ne e1]; exact (hM _ _ _ ha).2.2 k hk
theorem j_last {a n j : Nat} {i : Int32} {x : Int64} (hd : decode Y.2.1 pc = .ok (.lastore, 1)) (ha : σ.1 a = some (21, n)) (hi : i = nI j) (hj : j < n) (hn : n < 2 ^ 31) (kk : Tj g l d Y av mc ms Qr Qx c0 n0 (pc + 1) ls st (sL σ a j x)) : Tj g l d Y av mc ms Qr Qx c0 n0 pc ls (.long x :: .int i :: .ref a :: st) σ := by
  intro p e s m below meth c H locs la C hM hS hl
  obtain ⟨q0, hq⟩ := hM.at ha
  refine va_last (f := σ.2.2.1 a) C.1 C.2.1 C.2.2.2.2.2.2.2.1.2.1 hM.P hM.D hS q0 1 hq rfl (by rw [hi]; exact vp_in_nI hj hn) hd (fun H1 locs1 hP1 _ hS1 => ?_)
  rw [nn_clamp hi (Nat.lt_trans hj hn)] at hP1
  refine kk p e s m below meth c H1 locs1 la C (hM.set ha hq hP1 rfl ?_ sL_ne (fun _ _ => trivial)) hS1 hl
  show (Sum.inl (g.2.1 21, n, .inr (.inl (up σ.2.2.1 a (up (σ.2.2.1 a) j x) a))) : va_E) = _
  rw [up_eq]
  rfl
theorem zfit_q {t : Nat} (h : 25 ≤ t) (x : Int32) : zfit t x := by
  unfold zfit
  split <;> first | omega | trivial
theorem j_aast {a t n j v ci nv : Nat} {i : Int32} (hd : decode Y.2.1 pc = .ok (.aastore, 1)) (ht : ∀ g : Gx, (zTs g)[t - 20]? = some (g.2.1 t, .object (zCn ci))) (h25 : 25 ≤ t) (hci : ci < 14) (ha : σ.1 a = some (t, n)) (hv : σ.1 v = some (ci, nv)) (hi : i = nI j) (hj : j < n) (hn : n < 2 ^ 31) (kk : Tj g l d Y av mc ms Qr Qx c0 n0 (pc + 1) ls st (sR σ a j (some v))) : Tj g l d Y av mc ms Qr Qx c0 n0 pc ls (.ref v :: .int i :: .ref a :: st) σ := by
  intro p e s m below meth c H locs la C hM hS hl
  obtain ⟨q0, hq⟩ := hM.at ha
  have hq2 := hq
  rw [ze_q h25] at hq
  obtain ⟨q1, hq1⟩ := hM.at hv
  rw [ze_o hci] at hq1
  refine va_astq (f := σ.2.2.2 a) (r := (zCn ci, zCt ci, zN ci)) C.1 C.2.1 C.2.2.2.2.2.2.2.1.2.1 hM.P hM.D hS q0 (t - 20) q1 ci hq (ht g) hq1 (zC_at ci hci) (by rw [hi]; exact vp_in_nI hj hn) hd (fun H1 locs1 hP1 _ hS1 => ?_)
  rw [nn_clamp hi (Nat.lt_trans hj hn)] at hP1
  refine kk p e s m below meth c H1 locs1 la C (hM.set ha hq2 hP1 rfl ?_ sR_ne (fun _ _ => zfit_q h25 _)) hS1 hl
  rw [ze_q h25]
  show (Sum.inl (g.2.1 t, n, .inr (.inr (.inr (.inr (up σ.2.2.2 a (up (σ.2.2.2 a) j (some v)) a))))) : va_E) = _
  rw [up_eq]
  rfl
theorem j_alen {a t n : Nat} {ty : FieldType} (hd : decode Y.2.1 pc = .ok (.arraylength, 1)) (ht : ∀ g : Gx, (zTs g)[t - 20]? = some (g.2.1 t, ty)) (h20 : 20 ≤ t) (ha : σ.1 a = some (t, n)) (kk : Tj g l d Y av mc ms Qr Qx c0 n0 (pc + 1) ls (.int (nI n) :: st) σ) : Tj g l d Y av mc ms Qr Qx c0 n0 pc ls (.ref a :: st) σ := by
  intro p e s m below meth c H locs la C hM hS hl
  obtain ⟨q0, hq⟩ := hM.at ha
  unfold ze at hq
  rw [if_neg (by omega)] at hq
  exact va_alen C.1 C.2.1 C.2.2.2.2.2.2.2.1.2.1 hM.P q0 (t - 20) hq (ht g) rfl hd (kk p e s m below meth c H locs la C hM hS hl)
theorem zA_ge {g : Gx} {H0 : Heap} (h : g.2.2.1 ≤ H0.size) : ∀ q : Nat, H0.size ≤ q → zA g q := fun _ hq => Nat.le_trans h hq
theorem j_new {ix ci : Nat} (hd : decode Y.2.1 pc = .ok (.new ix, 3)) (hci : ci < 14) (hw : Cond.classLink Y.1.cls ix (zCn ci) ∈ lw_all) (hi : Cond.instantiable (zCn ci) (zN ci) ∈ lw_all) (hini : Cond.initialized (zCn ci) ∈ lw_all) (hc : c0 + 1 ≤ mc) (hs : n0 + zN ci ≤ ms) (kk : ∀ q, σ.1 q = none → zA g q → Tj g l d Y av mc ms Qr Qx (c0 + 1) (n0 + zN ci) (pc + 3) ls (.ref q :: st) (sN σ q ci 0)) : Tj g l d Y av mc ms Qr Qx c0 n0 pc ls st σ := by
  intro p e s m below meth c H locs la C hM hS hl
  have hts := C.2.2.2.2.2.2.1
  refine va_new (C := zCn ci) (T := zCt ci) (N := zN ci) (fs := (List.range (zN ci)).map (fun k => zv (zK (zY ci k)) 0 0 none)) C.1 C.2.1 hts (zC_in ci hci) (zY ci) (zC_ty ci hci) C.2.2.2.2.2.1 (hts _ hw) (hts _ hi) (hts _ hini) C.2.2.2.2.2.2.2.1.2.1 hM.P hM.D hS (zA_ge C.2.2.2.2.2.2.2.2.2.1) (zC_at ci hci) ?_ hc hs hd (fun q H1 hP1 hD1 hS1 => ?_)
  · intro j hj
    unfold vp_V
    rw [List.getD_eq_getElem?_getD, List.getElem?_map, List.getElem?_range hj]
    exact zT0_d (zT0_all ci hci j hj)
  · obtain ⟨h1, h2⟩ := hM.push (σ' := sN σ q ci 0) hP1 hD1 rfl (by rw [ze_o hci]; unfold zo sN; simp only [up_eq]) sN_ne (fun k hk => absurd hk (Nat.not_lt_zero k))
    have hAq : zA g q := (h1 q ci 0 (up_eq _ _ _)).1
    exact kk q h2 hAq p e s m below meth c H1 locs la C h1 hS1 hl
/-- a new array of whole numbers: of the tag t, of N places -/
theorem j_newaI {t N : Nat} {n : Int32} {at' : ArrayType} {ty : FieldType} (hd : decode Y.2.1 pc = .ok (.newarray at', 2)) (hty : newarray.typeOf at' = ty) (hw : Cond.arrayClass ty ∈ lw_all) (ht : ∀ g : Gx, (zTs g)[t - 20]? = some (g.2.1 t, ty)) (he : ∀ (g : Gx) (σ : Sg) (a n : Nat), ze g σ a t n = .inl (g.2.1 t, n, .inl (σ.2.1 a))) (hdv : defaultValue ty = .int 0) (hb : componentBytes ty ≤ 8)
    (hi : n = nI N) (hN : N < 65536) (hc : c0 + 1 ≤ mc) (hs : n0 + N ≤ ms) (kk : ∀ q, σ.1 q = none → zA g q → Tj g l d Y av mc ms Qr Qx (c0 + 1) (n0 + N) (pc + 2) ls (.ref q :: st) (sN σ q t N)) : Tj g l d Y av mc ms Qr Qx c0 n0 pc ls (.int n :: st) σ := by
  intro p e s m below meth c H locs la C hM hS hl
  have hts := C.2.2.2.2.2.2.1
  subst hi
  refine va_newa (ty := ty) (a0 := (N, .inl (fun _ => 0))) (N' := N) C.1 C.2.1 (by rw [hty]; exact hts _ hw) hty C.2.2.2.2.2.2.2.1.2.1 hM.P hM.D hS (zA_ge C.2.2.2.2.2.2.2.2.2.1) (fun cA => by rw [hdv]; rfl) (nI_pos (by omega)) (nI_clamp (by omega)) ?_ hc hs hd (fun q cA H1 hK1 hP1 hD1 hS1 => ?_)
  · have := Nat.mul_le_mul (Nat.le_of_lt hN) hb
    omega
  · have e1 : cA = g.2.1 t := by
      have h9 : (zTs g ++ [(cA, ty)])[(zTs g).length]? = some (cA, ty) := by
        rw [List.getElem?_append_right (Nat.le_refl _), Nat.sub_self]; rfl
      exact va_RA.inj (hK1.2 _ _ h9).2 (zTs_RA C.2.2.2.2.2.2.2.1 (ht g))
    subst e1
    obtain ⟨h1, h2⟩ := hM.push (σ' := sN σ q t N) hP1 hD1 rfl (by rw [he]; unfold sN; simp only [up_eq]) sN_ne (fun k _ => by unfold sN; simp only [up_eq]; exact zfit0 t)
    exact kk q h2 (h1 q t N (up_eq _ _ _)).1 p e s m below meth c H1 locs la C h1 hS1 hl
theorem j_newaL {N : Nat} {n : Int32} (hd : decode Y.2.1 pc = .ok (.newarray .long, 2)) (hw : Cond.arrayClass .long ∈ lw_all)
    (hi : n = nI N) (hN : N < 65536) (hc : c0 + 1 ≤ mc) (hs : n0 + N ≤ ms) (kk : ∀ q, σ.1 q = none → zA g q → Tj g l d Y av mc ms Qr Qx (c0 + 1) (n0 + N) (pc + 2) ls (.ref q :: st) (sN σ q 21 N)) : Tj g l d Y av mc ms Qr Qx c0 n0 pc ls (.int n :: st) σ := by
  intro p e s m below meth c H locs la C hM hS hl
  have hts := C.2.2.2.2.2.2.1
  subst hi
  refine va_newa (atype := .long) (ty := .long) (a0 := (N, .inr (.inl (fun _ => 0)))) (N' := N) C.1 C.2.1 (hts _ hw) rfl C.2.2.2.2.2.2.2.1.2.1 hM.P hM.D hS (zA_ge C.2.2.2.2.2.2.2.2.2.1) (fun cA => rfl) (nI_pos (by omega)) (nI_clamp (by omega)) ?_ hc hs hd (fun q cA H1 hK1 hP1 hD1 hS1 => ?_)
  · show N * 8 ≤ 536870912
    omega
  · have e1 : cA = g.2.1 21 := by
      have h9 : (zTs g ++ [(cA, FieldType.long)])[(zTs g).length]? = some (cA, FieldType.long) := by
        rw [List.getElem?_append_right (Nat.le_refl _), Nat.sub_self]; rfl
      exact va_RA.inj (hK1.2 _ _ h9).2 (zTs_RA C.2.2.2.2.2.2.2.1 (t := 21) rfl)
    subst e1
    obtain ⟨h1, h2⟩ := hM.push (σ' := sN σ q 21 N) hP1 hD1 rfl (by show (Sum.inl (g.2.1 21, N, .inr (.inl (up σ.2.2.1 q (fun _ => 0) q))) : va_E) = _; rw [up_eq]) sN_ne (fun k _ => trivial)
    exact kk q h2 (h1 q 21 N (up_eq _ _ _)).1 p e s m below meth c H1 locs la C h1 hS1 hl
theorem j_newaR {t N ix : Nat} {n : Int32} {C0 : String} (hd : decode Y.2.1 pc = .ok (.anewarray ix, 3)) (hw : Cond.classLink Y.1.cls ix C0 ∈ lw_all) (hC : C0 ∈ aoAll) (ht : ∀ g : Gx, (zTs g)[t - 20]? = some (g.2.1 t, .object C0)) (h25 : 25 ≤ t)
    (hi : n = nI N) (hN : N < 65536) (hc : c0 + 1 ≤ mc) (hs : n0 + N ≤ ms) (kk : ∀ q, σ.1 q = none → zA g q → Tj g l d Y av mc ms Qr Qx (c0 + 1) (n0 + N) (pc + 3) ls (.ref q :: st) (sN σ q t N)) : Tj g l d Y av mc ms Qr Qx c0 n0 pc ls (.int n :: st) σ := by
  intro p e s m below meth c H locs la C hM hS hl
  have hts := C.2.2.2.2.2.2.1
  subst hi
  refine va_newq (C := C0) (N' := N) C.1 C.2.1 C.2.2.2.2.2.1 (hts _ hw) (C.2.2.2.2.2.2.2.1.2.2.2.1 _ hC) C.2.2.2.2.2.2.2.1.2.1 hM.P hM.D hS (zA_ge C.2.2.2.2.2.2.2.2.2.1) (nI_pos (by omega)) (nI_clamp (by omega)) (by omega) hc hs hd (fun q cA H1 hK1 hP1 hD1 hS1 => ?_)
  have e1 : cA = g.2.1 t := by
    have h9 : (zTs g ++ [(cA, FieldType.object C0)])[(zTs g).length]? = some (cA, FieldType.object C0) := by
      rw [List.getElem?_append_right (Nat.le_refl _), Nat.sub_self]; rfl
    exact va_RA.inj (hK1.2 _ _ h9).2 (zTs_RA C.2.2.2.2.2.2.2.1 (ht g))
  subst e1
  obtain ⟨h1, h2⟩ := hM.push (σ' := sN σ q t N) hP1 hD1 rfl (by rw [ze_q h25]; unfold sN; simp only [up_eq]) sN_ne (fun k _ => zfit_q h25 _)
  exact kk q h2 (h1 q t N (up_eq _ _ _)).1 p e s m below meth c H1 locs la C h1 hS1 hl
theorem j_castN {ix : Nat} (hd : decode Y.2.1 pc = .ok (.checkcast ix, 3)) (kk : Tj g l d Y av mc ms Qr Qx c0 n0 (pc + 3) ls (.null :: st) σ) : Tj g l d Y av mc ms Qr Qx c0 n0 pc ls (.null :: st) σ :=
  fun p e s m below meth c H locs la C hM hS hl => lv_castN C.1 C.2.1 hd (kk p e s m below meth c H locs la C hM hS hl)
theorem j_castA {a t n ix : Nat} {nm : String} {ty : FieldType} (hd : decode Y.2.1 pc = .ok (.checkcast ix, 3)) (hw : Cond.classLink Y.1.cls ix nm ∈ lw_all) (ht : ∀ g : Gx, (zTs g)[t - 20]? = some (g.2.1 t, ty)) (h20 : 20 ≤ t) (hp : ∀ (s : State) (cA : ClassId), va_RA s cA ty → s.vm.findClass nm = some cA) (ha : σ.1 a = some (t, n)) (kk : Tj g l d Y av mc ms Qr Qx c0 n0 (pc + 3) ls (.ref a :: st) σ) : Tj g l d Y av mc ms Qr Qx c0 n0 pc ls (.ref a :: st) σ := by
  intro p e s m below meth c H locs la C hM hS hl
  obtain ⟨q0, hq⟩ := hM.at ha
  unfold ze at hq
  rw [if_neg (by omega)] at hq
  exact va_castA C.1 C.2.1 C.2.2.2.2.2.1 (C.2.2.2.2.2.2.1 _ hw) hM.P q0 hq (hp _ _ (zTs_RA C.2.2.2.2.2.2.2.1 (ht g))) hd (kk p e s m below meth c H locs la C hM hS hl)
theorem j_acmpeq {rx ry : Option Nat} {off : Int} {tgt : Nat} (hd : decode Y.2.1 pc = .ok (.if_acmp .eq off, 3)) (ht : (pc : Int) + off = (tgt : Int)) (kt : rx = ry → Tj g l d Y av mc ms Qr Qx c0 n0 tgt ls st σ) (kf : ¬ rx = ry → Tj g l d Y av mc ms Qr Qx c0 n0 (pc + 3) ls st σ) : Tj g l d Y av mc ms Qr Qx c0 n0 pc ls (va_rf ry :: va_rf rx :: st) σ :=
  fun p e s m below meth c H locs la C hM hS hl => lv_acmp_eq C.1 C.2.1 hd ht (fun q => kt q p e s m below meth c H locs la C hM hS hl) (fun q => kf q p e s m below meth c H locs la C hM hS hl)
/-- the script -/
theorem j_scrld {i : Int32} {j : Nat} (hd : decode Y.2.1 pc = .ok (.iaload, 1)) (hi : i = nI j) (hj : j < g.2.2.2.1.2.1) (hn : g.2.2.2.1.2.1 < 2 ^ 31) (kk : Tj g l d Y av mc ms Qr Qx c0 n0 (pc + 1) ls (.int (g.2.2.2.1.2.2 j) :: st) σ) : Tj g l d Y av mc ms Qr Qx c0 n0 pc ls (.int i :: .ref g.2.2.2.1.1 :: st) σ := by
  intro p e s m below meth c H locs la C hM hS hl
  have hO := C.2.2.2.2.2.2.2.2.1
  have hb : g.2.2.2.1.1 < s.heap.size := by
    obtain ⟨scr, e1, -⟩ := hO.1
    exact (Array.getElem?_eq_some_iff.mp e1).1
  refine va_sld C.1 C.2.1 hO.1 hb hO.2.1 hS (by rw [hi]; exact vp_in_nI hj hn) hd ?_
  rw [nn_clamp hi (Nat.lt_trans hj hn)]
  exact kk p e s m below meth c H locs la C hM hS hl
theorem j_scrlen (hd : decode Y.2.1 pc = .ok (.arraylength, 1)) (kk : Tj g l d Y av mc ms Qr Qx c0 n0 (pc + 1) ls (.int (nI g.2.2.2.1.2.1) :: st) σ) : Tj g l d Y av mc ms Qr Qx c0 n0 pc ls (.ref g.2.2.2.1.1 :: st) σ := by
  intro p e s m below meth c H locs la C hM hS hl
  have hO := C.2.2.2.2.2.2.2.2.1
  have hb : g.2.2.2.1.1 < s.heap.size := by
    obtain ⟨scr, e1, -⟩ := hO.1
    exact (Array.getElem?_eq_some_iff.mp e1).1
  exact va_slen C.1 C.2.1 hO.1 hb hO.2.1 hS hd (kk p e s m below meth c H locs la C hM hS hl)
end TA
