/-! BITS, BOOLEANS; THE SMALL STATIC METHODS -/
set_option maxRecDepth 100000
theorem Kt.go {g : Gx} {l : Launch} {d : Nat} {Y : Mi} {av : List Value} {mc ms : Nat} {Qr : Option Value → Sg → Prop} {Qx : Nat → String → Sg → Prop} {σ : Sg} {ls : List (Option Value)} (hy : plainName Y.1.cls = true) (hn : (lg_sl av).length ≤ Y.2.2.1) (hls : zent Y.2.2.1 av = ls) (T : Tj g l d Y av mc ms Qr Qx 0 0 0 ls [] σ) : Kt g l d Y av σ mc ms Qr Qx := Kt.of hy hn (by rw [hls]; exact T)
/-- a boolean as an int -/
def bI (b : Bool) : Int32 := if b then nI 1 else nI 0
theorem bI_t : bI true = nI 1 := rfl
theorem bI_f : bI false = nI 0 := rfl
theorem bI_nar (b : Bool) : narrow .boolean (.int (bI b)) = .int (bI b) := by cases b <;> rfl
theorem bI_fit (b : Bool) : fits .boolean (.int (bI b)) = true := by cases b <;> decide +kernel
theorem bI_01 (b : Bool) : bI b = 0 ∨ bI b = 1 := by cases b <;> first | exact Or.inl rfl | exact Or.inr rfl
theorem bI_inj {a b : Bool} (h : bI a = bI b) : a = b := by
  cases a <;> cases b <;> first | rfl | exact absurd h (by decide +kernel)
section TB
variable {g : Gx} {l : Launch} {d : Nat} {Y : Mi} {av : List Value} {mc ms : Nat} {Qr : Option Value → Sg → Prop} {Qx : Nat → String → Sg → Prop} {c0 n0 pc : Nat} {ls : List (Option Value)} {st : List Value} {σ : Sg}
theorem j_if_eqB {b : Bool} {off : Int} {tgt : Nat} (hd : decode Y.2.1 pc = .ok (.ifCond .eq off, 3)) (ht : (pc : Int) + off = (tgt : Int)) (kt : b = false → Tj g l d Y av mc ms Qr Qx c0 n0 tgt ls st σ) (kf : b = true → Tj g l d Y av mc ms Qr Qx c0 n0 (pc + 3) ls st σ) : Tj g l d Y av mc ms Qr Qx c0 n0 pc ls (.int (bI b) :: st) σ := by
  cases b
  · exact j_if_eq hd ht (fun _ => kt rfl) (fun q => absurd (by decide +kernel) q)
  · exact j_if_eq hd ht (fun q => absurd q (by decide +kernel)) (fun _ => kf rfl)
theorem j_if_neB {b : Bool} {off : Int} {tgt : Nat} (hd : decode Y.2.1 pc = .ok (.ifCond .ne off, 3)) (ht : (pc : Int) + off = (tgt : Int)) (kt : b = true → Tj g l d Y av mc ms Qr Qx c0 n0 tgt ls st σ) (kf : b = false → Tj g l d Y av mc ms Qr Qx c0 n0 (pc + 3) ls st σ) : Tj g l d Y av mc ms Qr Qx c0 n0 pc ls (.int (bI b) :: st) σ := by
  cases b
  · exact j_if_ne hd ht (fun q => absurd (by decide +kernel) q) (fun _ => kf rfl)
  · exact j_if_ne hd ht (fun _ => kt rfl) (fun q => absurd q (by decide +kernel))
/-- gates: the top of the stack has this form -/
theorem j_gN {a : Nat} (k : Tj g l d Y av mc ms Qr Qx c0 n0 pc ls (.int (nI a) :: st) σ) : Tj g l d Y av mc ms Qr Qx c0 n0 pc ls (.int (nI a) :: st) σ := k
theorem j_gNN {a b : Nat} (k : Tj g l d Y av mc ms Qr Qx c0 n0 pc ls (.int (nI b) :: .int (nI a) :: st) σ) : Tj g l d Y av mc ms Qr Qx c0 n0 pc ls (.int (nI b) :: .int (nI a) :: st) σ := k
theorem j_gB {b : Bool} (k : Tj g l d Y av mc ms Qr Qx c0 n0 pc ls (.int (bI b) :: st) σ) : Tj g l d Y av mc ms Qr Qx c0 n0 pc ls (.int (bI b) :: st) σ := k
/-- Math.min, max, abs -/
def mn (x y : Int32) : Int32 := if y < x then y else x
def mx (x y : Int32) : Int32 := if x < y then y else x
def abL (x : Int64) : Int64 := if 0 < x then x else -x
theorem j_min {ix : Nat} {x y : Int32} (hd : decode Y.2.1 pc = .ok (.invokestatic ix, 3)) (h1 : Cond.methodLink Y.1.cls ix Lib.Math.min.name ∈ lw_all) (h2 : Cond.static Lib.Math.min.name ∈ lw_all) (h3 : Cond.initialized "java/lang/Math" ∈ lw_all) (h4 : Cond.code Lib.Math.min.name Lib.Math.min.code 2 (some .int) ∈ lw_all) (hrest : (st.map fun v => v.category).sum ≤ 8) (hc : c0 ≤ mc) (hs : n0 ≤ ms) (k : Tj g l d Y av mc ms Qr Qx c0 n0 (pc + 3) ls (.int (mn x y) :: st) σ) : Tj g l d Y av mc ms Qr Qx c0 n0 pc ls (.int y :: .int x :: st) σ := by
  intro p e s m below meth c H locs la C hM hS hl
  have hts := C.2.2.2.2.2.2.1
  exact va_mmin C.1 C.2.1 (C.2.2.2.1.trans hl.1.symm) C.2.2.2.2.2.1 (hts _ h1) (hts _ h2) (hts _ h3) (hts _ h4) (by unfold zR; dsimp only; omega) (by unfold zR; dsimp only; omega) hc hs hd (k p e s m below meth c H locs la C hM hS hl)
theorem j_max {ix : Nat} {x y : Int32} (hd : decode Y.2.1 pc = .ok (.invokestatic ix, 3)) (h1 : Cond.methodLink Y.1.cls ix Lib.Math.max.name ∈ lw_all) (h2 : Cond.static Lib.Math.max.name ∈ lw_all) (h3 : Cond.initialized "java/lang/Math" ∈ lw_all) (h4 : Cond.code Lib.Math.max.name Lib.Math.max.code 2 (some .int) ∈ lw_all) (hrest : (st.map fun v => v.category).sum ≤ 8) (hc : c0 ≤ mc) (hs : n0 ≤ ms) (k : Tj g l d Y av mc ms Qr Qx c0 n0 (pc + 3) ls (.int (mx x y) :: st) σ) : Tj g l d Y av mc ms Qr Qx c0 n0 pc ls (.int y :: .int x :: st) σ := by
  intro p e s m below meth c H locs la C hM hS hl
  have hts := C.2.2.2.2.2.2.1
  exact va_mmax C.1 C.2.1 (C.2.2.2.1.trans hl.1.symm) C.2.2.2.2.2.1 (hts _ h1) (hts _ h2) (hts _ h3) (hts _ h4) (by unfold zR; dsimp only; omega) (by unfold zR; dsimp only; omega) hc hs hd (k p e s m below meth c H locs la C hM hS hl)
theorem j_absL {ix : Nat} {x : Int64} (hd : decode Y.2.1 pc = .ok (.invokestatic ix, 3)) (h1 : Cond.methodLink Y.1.cls ix Lib.MathLoose.abs_long.x ∈ lw_all) (h2 : Cond.static Lib.MathLoose.abs_long.x ∈ lw_all) (h3 : Cond.initialized "java/lang/Math" ∈ lw_all) (h4 : Cond.code Lib.MathLoose.abs_long.x Lib.MathLoose.abs_long.code 2 (some .long) ∈ lw_all) (hrest : (st.map fun v => v.category).sum ≤ 8) (hc : c0 ≤ mc) (hs : n0 ≤ ms) (k : Tj g l d Y av mc ms Qr Qx c0 n0 (pc + 3) ls (.long (abL x) :: st) σ) : Tj g l d Y av mc ms Qr Qx c0 n0 pc ls (.long x :: st) σ := by
  intro p e s m below meth c H locs la C hM hS hl
  have hts := C.2.2.2.2.2.2.1
  exact va_mabs_long C.1 C.2.1 (C.2.2.2.1.trans hl.1.symm) C.2.2.2.2.2.1 (hts _ h1) (hts _ h2) (hts _ h3) (hts _ h4) (by unfold zR; dsimp only; omega) (by unfold zR; dsimp only; omega) hc hs hd (k p e s m below meth c H locs la C hM hS hl)
/-- the hairpin: a joined goal -/
theorem j_at {pc' : Nat} (h : pc = pc') (k : Tj g l d Y av mc ms Qr Qx c0 n0 pc' ls st σ) : Tj g l d Y av mc ms Qr Qx c0 n0 pc ls st σ := by rw [h]; exact k
end TB
/-- bit k of x -/
def hs (x : Int32) (k : Nat) : Bool := (x >>> (nI k &&& 31)) &&& nI 1 == nI 1
theorem hs_true {x : Int32} {k : Nat} (h : (x >>> (nI k &&& 31)) &&& nI 1 = nI 1) : hs x k = true := by unfold hs; rw [h]; rfl
theorem hs_false {x : Int32} {k : Nat} (h : ¬ (x >>> (nI k &&& 31)) &&& nI 1 = nI 1) : hs x k = false := by unfold hs; exact beq_eq_false_iff_ne.mpr h
section B1
variable (g : Gx) (l : Launch) (σ : Sg)
theorem k_isIn (x : Int32) (k : Nat) : Kd g l 0 MX0_isIn [.int x, .int (nI k)] σ (some (.int (bI (hs x k)))) σ := by
  refine Kt.go (Y := MX0_isIn) (ls := [some (.int x), some (.int (nI k))]) (by decide) (Nat.le_of_ble_eq_true rfl) rfl ?_
  refine j_iload_n dX0_isIn_0 rfl ?_
  refine j_iload_n dX0_isIn_1 rfl ?_
  refine j_ishr dX0_isIn_2 ?_
  refine j_iconst (v := nI 1) dX0_isIn_3 (by decide +kernel) ?_
  refine j_iand dX0_isIn_4 ?_
  refine j_iconst (v := nI 1) dX0_isIn_5 (by decide +kernel) ?_
  first | (with_reducible refine j_gNN ?_; refine j_icmp_neN (tgt := 13) dX0_isIn_6 (by decide) (by omega) (by omega) (fun c_6 => ?_) (fun c_6 => ?_)) | refine j_icmp_ne (tgt := 13) dX0_isIn_6 (by decide) (fun c_6 => ?_) (fun c_6 => ?_)
  · refine j_iconst (v := nI 0) dX0_isIn_13 (by decide +kernel) ?_
    refine j_iret dX0_isIn_14 ⟨_, rfl, rfl⟩ (by omega) (by omega) ?_
    exact ⟨by first | (rw [hs_false c_6]; rfl) | (rw [hs_true c_6]; rfl), rfl⟩
  · refine j_iconst (v := nI 1) dX0_isIn_9 (by decide +kernel) ?_
    refine j_goto (tgt := 14) dX0_isIn_10 (by decide) ?_
    refine j_iret dX0_isIn_14 ⟨_, rfl, rfl⟩ (by omega) (by omega) ?_
    exact ⟨by first | (rw [hs_false c_6]; rfl) | (rw [hs_true c_6]; rfl), rfl⟩
theorem k_has (x : Int32) (k : Nat) : Kd g l 0 MX9_has [.int x, .int (nI k)] σ (some (.int (bI (hs x k)))) σ := by
  refine Kt.go (Y := MX9_has) (ls := [some (.int x), some (.int (nI k))]) (by decide) (Nat.le_of_ble_eq_true rfl) rfl ?_
  refine j_iload_n dX9_has_0 rfl ?_
  refine j_iload_n dX9_has_1 rfl ?_
  refine j_ishr dX9_has_2 ?_
  refine j_iconst (v := nI 1) dX9_has_3 (by decide +kernel) ?_
  refine j_iand dX9_has_4 ?_
  refine j_iconst (v := nI 1) dX9_has_5 (by decide +kernel) ?_
  first | (with_reducible refine j_gNN ?_; refine j_icmp_neN (tgt := 13) dX9_has_6 (by decide) (by omega) (by omega) (fun c_6 => ?_) (fun c_6 => ?_)) | refine j_icmp_ne (tgt := 13) dX9_has_6 (by decide) (fun c_6 => ?_) (fun c_6 => ?_)
  · refine j_iconst (v := nI 0) dX9_has_13 (by decide +kernel) ?_
    refine j_iret dX9_has_14 ⟨_, rfl, rfl⟩ (by omega) (by omega) ?_
    exact ⟨by first | (rw [hs_false c_6]; rfl) | (rw [hs_true c_6]; rfl), rfl⟩
  · refine j_iconst (v := nI 1) dX9_has_9 (by decide +kernel) ?_
    refine j_goto (tgt := 14) dX9_has_10 (by decide) ?_
    refine j_iret dX9_has_14 ⟨_, rfl, rfl⟩ (by omega) (by omega) ?_
    exact ⟨by first | (rw [hs_false c_6]; rfl) | (rw [hs_true c_6]; rfl), rfl⟩
end B1
