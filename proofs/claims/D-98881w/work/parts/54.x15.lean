/-! X: WHO DINES WITH WHOM -/
set_option maxRecDepth 100000
theorem rm_nI {a b : Nat} (ha : a < 2 ^ 31) (hb : b < 2 ^ 31) (h0 : b ≠ 0) : rm (nI a) (nI b) = nI (a % b) := by
  have e1 : nI a / nI b = nI (a / b) := by
    apply Int32.toInt_inj.mp
    have hd := Nat.div_le_self a b
    have h1 : ((a : Int).tdiv (b : Int)) = ((a / b : Nat) : Int) := rfl
    rw [Int32.toInt_div, nI_toInt ha, nI_toInt hb, nI_toInt (by omega), h1]
    generalize a / b = c at hd
    apply Int.bmod_eq_of_le <;> omega
  unfold rm
  rw [e1, nI_mul]
  have h := Nat.div_add_mod a b
  rw [Nat.mul_comm] at h
  rw [nI_sub (by omega)]
  congr 1
  omega
theorem fUp_first {f : Nat → Bool} {n k : Nat} (h1 : ∀ t, t < k → f t = false) (h2 : f k = true) (hk : k < n) : fUp f n = some k := by
  have h0 : ∀ j, j ≤ k → fUp f j = none := by
    intro j
    induction j with
    | zero => intro _; rfl
    | succ j ih => intro hj; rw [fUp, ih (by omega), h1 j (by omega)]; rfl
  exact fUp_le (j := k + 1) (by rw [fUp, h0 k (Nat.le_refl _), h2]; rfl) hk
theorem fUp_all {f : Nat → Bool} {n : Nat} (h1 : ∀ t, t < n → f t = false) : fUp f n = none := by
  induction n with
  | zero => rfl
  | succ n ih => rw [fUp, ih (fun t ht => h1 t (by omega)), h1 n (by omega)]; rfl
/-- the guests of some -/
def gst (C : Nat → Int32) (P Dn : Nat) (set : Int32) : Int32 := itr (fun q a => itr (rumR C Dn set q) P a) P (nI 0)
theorem rumR_or {C : Nat → Int32} {Dn q : Nat} {set a : Int32} : ∀ n, itr (rumR C Dn set q) n a = a ||| itr (rumR C Dn set q) n (nI 0) := by
  intro n
  induction n with
  | zero => show a = a ||| nI 0; rw [nI_0, Int32.or_zero]
  | succ n ih =>
    rw [itr, itr, ih]
    unfold rumR
    split
    · rw [Int32.or_assoc]
    · rfl
theorem rumQ_or {C : Nat → Int32} {P Dn : Nat} {set a : Int32} : ∀ n, itr (fun q a => itr (rumR C Dn set q) P a) n a = a ||| itr (fun q a => itr (rumR C Dn set q) P a) n (nI 0) := by
  intro n
  induction n with
  | zero => show a = a ||| nI 0; rw [nI_0, Int32.or_zero]
  | succ n ih =>
    rw [itr, itr]
    rw [ih, rumR_or P (a := a ||| _), rumR_or P (a := itr _ n (nI 0)), Int32.or_assoc]
theorem rumQ_gst {C : Nat → Int32} {P Dn : Nat} {set : Int32} : rumQ C P Dn set = set ||| gst C P Dn set := rumQ_or P
theorem gst_one {C : Nat → Int32} {P Dn p : Nat} (hp : p < P) (hP : P ≤ 6) : gst C P Dn (bt p) = orTo (fun b => if mDining C Dn (nI p) (nI b) = true then bt b else nI 0) P := by
  have hbit : ∀ q, q < 8 → hs (bt p) q = decide (p = q) := fun q hq => by
    have h2 : 2 ^ p < 2 ^ 8 := Nat.pow_lt_pow_right (by decide) (by omega)
    rw [bt_nI (by omega), hs_nI h2 (by omega), Nat.testBit_two_pow]
  have inn : ∀ q, q < 8 → ∀ n, itr (rumR C Dn (bt p) q) n (nI 0) = if p = q then orTo (fun b => if mDining C Dn (nI p) (nI b) = true then bt b else nI 0) n else nI 0 := by
    intro q hq n
    induction n with
    | zero => show nI 0 = _; split <;> rfl
    | succ n ih =>
      rw [itr, ih, rumR, hbit q hq, orTo]
      by_cases e : p = q
      · subst e
        rw [if_pos rfl, if_pos rfl]
        by_cases z : mDining C Dn (nI p) (nI n) = true
        · rw [if_pos ⟨decide_eq_true rfl, z⟩, if_pos z]
        · rw [if_neg (fun y => z y.2), if_neg z, nI_0, Int32.or_zero]
      · rw [if_neg e, if_neg e, if_neg (fun y => e (of_decide_eq_true y.1))]
  have out : ∀ n, n ≤ 6 → itr (fun q a => itr (rumR C Dn (bt p) q) P a) n (nI 0) = if p < n then orTo (fun b => if mDining C Dn (nI p) (nI b) = true then bt b else nI 0) P else nI 0 := by
    intro n
    induction n with
    | zero => intro _; rw [if_neg (by omega)]; rfl
    | succ n ih =>
      intro hn
      rw [itr]
      rw [ih (by omega), rumR_or, inn n (by omega)]
      by_cases e : p = n
      · subst e
        rw [if_neg (Nat.lt_irrefl p), if_pos rfl, if_pos (by omega), nI_0, Int32.zero_or]
      · rw [if_neg e]
        by_cases e2 : p < n
        · rw [if_pos e2, if_pos (by omega), nI_0, Int32.or_zero]
        · rw [if_neg e2, if_neg (by omega), nI_0, Int32.or_zero]
  unfold gst
  rw [out P hP, if_pos hp]
theorem tel_and {C : Nat → Int32} {P Dn k p : Nat} (hP : P ≤ 6) : mPeopleWith C P 37 k &&& orTo (fun b => if mDining C Dn (nI p) (nI b) = true then bt b else nI 0) P = orTo (fun q => if hs (C (37 + q)) k = true ∧ mDining C Dn (nI p) (nI q) = true then bt q else nI 0) P := by
  obtain ⟨m1, a1, a2, a3⟩ := mPeopleWith_nI (C := C) (P := P) (r := 37) (k := k) hP
  obtain ⟨m2, b1, b2, b3⟩ := orTo_bt (u := fun b => mDining C Dn (nI p) (nI b)) P (by omega)
  obtain ⟨m3, c1, c2, c3⟩ := orTo_bt (u := fun q => hs (C (37 + q)) k && mDining C Dn (nI p) (nI q)) P (by omega)
  have e : orTo (fun q => if hs (C (37 + q)) k = true ∧ mDining C Dn (nI p) (nI q) = true then bt q else nI 0) P = nI m3 := by
    rw [← c2]
    refine orTo_eq P fun q _ => ?_
    refine ite_congr (propext ?_) (fun _ => rfl) (fun _ => rfl)
    rw [Bool.and_eq_true]
  rw [a2, b2, e, nI_and]
  congr 1
  apply Nat.eq_of_testBit_eq
  intro i
  rw [Nat.testBit_and, a3, b3, c3]
  cases decide (i < P) <;> rfl
section X15s
variable {g : Gx} {l : Launch} {σ τ : Sg} {L : Nat → Nat → Option Nat} {A B : Nat → Nat} {C S M : Nat → Int32} {N : Nat → Int64} {W P Dn Hn k p q d hx : Nat}
theorem x_isOf (hR : Pv σ L A C W P Dn Hn) (hd : d < Dn) (x : Int32) : Kd g l 0 MX11_isOf [.ref (A (50 + d)), .int x] (put σ L C) (some (.int (bI (mDW C d x)))) (put σ L C) := by
  refine Kt.go (Y := MX11_isOf) (ls := [some (.ref (A (50 + d))), some (.int x)]) (by decide) (Nat.le_of_ble_eq_true rfl) rfl ?_
  refine j_iload_n dX11_isOf_0 rfl ?_
  first | refine j_aload_n dX11_isOf_1 rfl ?_ | refine j_aload_nN dX11_isOf_1 rfl ?_
  refine j_getI dX11_isOf_2 fl_X11_7 rfl (by first | exact Pv.ds hR (by omega) | assumption) (by first | exact Pv.d0 hR (by omega) | assumption) ?_
  first | (with_reducible refine j_gNN ?_; refine j_icmp_eqN (tgt := 16) dX11_isOf_5 (by decide) (by omega) (by omega) (fun c_5 => ?_) (fun c_5 => ?_)) | refine j_icmp_eq (tgt := 16) dX11_isOf_5 (by decide) (fun c_5 => ?_) (fun c_5 => ?_)
  · refine j_iconst (v := nI 1) dX11_isOf_16 (by decide +kernel) ?_
    refine j_goto (tgt := 21) dX11_isOf_17 (by decide) ?_
    refine j_iret dX11_isOf_21 ⟨_, rfl, rfl⟩ (by omega) (by omega) ?_
    first
    | (have z : x = C (145 + d) := c_5
       exact ⟨by unfold mDW; rw [decide_eq_true z.symm]; rfl, rfl⟩)
    | (have z : x = C (151 + d) := c_13
       exact ⟨by unfold mDW; rw [decide_eq_true z.symm, Bool.or_true]; rfl, rfl⟩)
    | (have z : ¬ x = C (145 + d) := c_5
       have z2 : ¬ x = C (151 + d) := c_13
       exact ⟨by unfold mDW; rw [decide_eq_false (fun e => z e.symm), decide_eq_false (fun e => z2 e.symm)]; rfl, rfl⟩)
  · refine j_iload_n dX11_isOf_8 rfl ?_
    first | refine j_aload_n dX11_isOf_9 rfl ?_ | refine j_aload_nN dX11_isOf_9 rfl ?_
    refine j_getI dX11_isOf_10 fl_X11_13 rfl (by first | exact Pv.ds hR (by omega) | assumption) (by first | exact Pv.d1 hR (by omega) | assumption) ?_
    first | (with_reducible refine j_gNN ?_; refine j_icmp_neN (tgt := 20) dX11_isOf_13 (by decide) (by omega) (by omega) (fun c_13 => ?_) (fun c_13 => ?_)) | refine j_icmp_ne (tgt := 20) dX11_isOf_13 (by decide) (fun c_13 => ?_) (fun c_13 => ?_)
    · refine j_iconst (v := nI 0) dX11_isOf_20 (by decide +kernel) ?_
      refine j_iret dX11_isOf_21 ⟨_, rfl, rfl⟩ (by omega) (by omega) ?_
      first
      | (have z : x = C (145 + d) := c_5
         exact ⟨by unfold mDW; rw [decide_eq_true z.symm]; rfl, rfl⟩)
      | (have z : x = C (151 + d) := c_13
         exact ⟨by unfold mDW; rw [decide_eq_true z.symm, Bool.or_true]; rfl, rfl⟩)
      | (have z : ¬ x = C (145 + d) := c_5
         have z2 : ¬ x = C (151 + d) := c_13
         exact ⟨by unfold mDW; rw [decide_eq_false (fun e => z e.symm), decide_eq_false (fun e => z2 e.symm)]; rfl, rfl⟩)
    · refine j_iconst (v := nI 1) dX11_isOf_16 (by decide +kernel) ?_
      refine j_goto (tgt := 21) dX11_isOf_17 (by decide) ?_
      refine j_iret dX11_isOf_21 ⟨_, rfl, rfl⟩ (by omega) (by omega) ?_
      first
      | (have z : x = C (145 + d) := c_5
         exact ⟨by unfold mDW; rw [decide_eq_true z.symm]; rfl, rfl⟩)
      | (have z : x = C (151 + d) := c_13
         exact ⟨by unfold mDW; rw [decide_eq_true z.symm, Bool.or_true]; rfl, rfl⟩)
      | (have z : ¬ x = C (145 + d) := c_5
         have z2 : ¬ x = C (151 + d) := c_13
         exact ⟨by unfold mDW; rw [decide_eq_false (fun e => z e.symm), decide_eq_false (fun e => z2 e.symm)]; rfl, rfl⟩)
theorem x_areBoth (hR : Pv σ L A C W P Dn Hn) (hd : d < Dn) (x y : Int32) : Kd g l 1 MX11_areBoth [.ref (A (50 + d)), .int x, .int y] (put σ L C) (some (.int (bI (!mDinF C x y d)))) (put σ L C) := by
  refine Kt.go (Y := MX11_areBoth) (ls := [some (.ref (A (50 + d))), some (.int x), some (.int y)]) (by decide) (Nat.le_of_ble_eq_true rfl) rfl ?_
  refine j_iload_n dX11_areBoth_0 rfl ?_
  refine j_iload_n dX11_areBoth_1 rfl ?_
  first | (with_reducible refine j_gNN ?_; refine j_icmp_eqN (tgt := 25) dX11_areBoth_2 (by decide) (by omega) (by omega) (fun c_2 => ?_) (fun c_2 => ?_)) | refine j_icmp_eq (tgt := 25) dX11_areBoth_2 (by decide) (fun c_2 => ?_) (fun c_2 => ?_)
  · refine j_iconst (v := nI 0) dX11_areBoth_25 (by decide +kernel) ?_
    refine j_iret dX11_areBoth_26 ⟨_, rfl, rfl⟩ (by omega) (by omega) ?_
    first
    | (have z : x = y := c_2
       exact ⟨by unfold mDinF; rw [decide_eq_false (fun e => e z), Bool.and_false]; rfl, rfl⟩)
    | (have z : mDW C d x = false := c_10
       exact ⟨by unfold mDinF; rw [z, Bool.false_and, Bool.false_and]; rfl, rfl⟩)
    | (have z : mDW C d y = false := c_18
       exact ⟨by unfold mDinF; rw [z, Bool.and_false, Bool.false_and]; rfl, rfl⟩)
    | (have z : mDW C d y = true := c_18
       exact ⟨by unfold mDinF; rw [z, c_10, decide_eq_true c_2]; rfl, rfl⟩)
  · first | refine j_aload_n dX11_areBoth_5 rfl ?_ | refine j_aload_nN dX11_areBoth_5 rfl ?_
    refine j_iload_n dX11_areBoth_6 rfl ?_
    refine j_dV1 kl_X11_19 (x_isOf hR hd _) dX11_areBoth_7 rfl rfl (by decide) (by first | exact Pv.ds hR (by omega) | assumption) (Nat.le_of_ble_eq_true rfl) (by first | decide | omega) (by omega) (by omega) ?_
    first | (with_reducible refine j_gB ?_; refine j_if_eqB (tgt := 25) dX11_areBoth_10 (by decide) (fun c_10 => ?_) (fun c_10 => ?_)) | (with_reducible refine j_gC ?_; refine j_if_eqC (tgt := 25) dX11_areBoth_10 (by decide) (fun c_10 => ?_) (fun c_10 => ?_)) | (with_reducible refine j_gN ?_; refine j_if_eqN (tgt := 25) dX11_areBoth_10 (by decide) (by omega) (fun c_10 => ?_) (fun c_10 => ?_)) | refine j_if_eq (tgt := 25) dX11_areBoth_10 (by decide) (fun c_10 => ?_) (fun c_10 => ?_)
    · refine j_iconst (v := nI 0) dX11_areBoth_25 (by decide +kernel) ?_
      refine j_iret dX11_areBoth_26 ⟨_, rfl, rfl⟩ (by omega) (by omega) ?_
      first
      | (have z : x = y := c_2
         exact ⟨by unfold mDinF; rw [decide_eq_false (fun e => e z), Bool.and_false]; rfl, rfl⟩)
      | (have z : mDW C d x = false := c_10
         exact ⟨by unfold mDinF; rw [z, Bool.false_and, Bool.false_and]; rfl, rfl⟩)
      | (have z : mDW C d y = false := c_18
         exact ⟨by unfold mDinF; rw [z, Bool.and_false, Bool.false_and]; rfl, rfl⟩)
      | (have z : mDW C d y = true := c_18
         exact ⟨by unfold mDinF; rw [z, c_10, decide_eq_true c_2]; rfl, rfl⟩)
    · first | refine j_aload_n dX11_areBoth_13 rfl ?_ | refine j_aload_nN dX11_areBoth_13 rfl ?_
      refine j_iload_n dX11_areBoth_14 rfl ?_
      refine j_dV1 kl_X11_19 (x_isOf hR hd _) dX11_areBoth_15 rfl rfl (by decide) (by first | exact Pv.ds hR (by omega) | assumption) (Nat.le_of_ble_eq_true rfl) (by first | decide | omega) (by omega) (by omega) ?_
      first | (with_reducible refine j_gB ?_; refine j_if_eqB (tgt := 25) dX11_areBoth_18 (by decide) (fun c_18 => ?_) (fun c_18 => ?_)) | (with_reducible refine j_gC ?_; refine j_if_eqC (tgt := 25) dX11_areBoth_18 (by decide) (fun c_18 => ?_) (fun c_18 => ?_)) | (with_reducible refine j_gN ?_; refine j_if_eqN (tgt := 25) dX11_areBoth_18 (by decide) (by omega) (fun c_18 => ?_) (fun c_18 => ?_)) | refine j_if_eq (tgt := 25) dX11_areBoth_18 (by decide) (fun c_18 => ?_) (fun c_18 => ?_)
      · refine j_iconst (v := nI 0) dX11_areBoth_25 (by decide +kernel) ?_
        refine j_iret dX11_areBoth_26 ⟨_, rfl, rfl⟩ (by omega) (by omega) ?_
        first
        | (have z : x = y := c_2
           exact ⟨by unfold mDinF; rw [decide_eq_false (fun e => e z), Bool.and_false]; rfl, rfl⟩)
        | (have z : mDW C d x = false := c_10
           exact ⟨by unfold mDinF; rw [z, Bool.false_and, Bool.false_and]; rfl, rfl⟩)
        | (have z : mDW C d y = false := c_18
           exact ⟨by unfold mDinF; rw [z, Bool.and_false, Bool.false_and]; rfl, rfl⟩)
        | (have z : mDW C d y = true := c_18
           exact ⟨by unfold mDinF; rw [z, c_10, decide_eq_true c_2]; rfl, rfl⟩)
      · refine j_iconst (v := nI 1) dX11_areBoth_21 (by decide +kernel) ?_
        refine j_goto (tgt := 26) dX11_areBoth_22 (by decide) ?_
        refine j_iret dX11_areBoth_26 ⟨_, rfl, rfl⟩ (by omega) (by omega) ?_
        first
        | (have z : x = y := c_2
           exact ⟨by unfold mDinF; rw [decide_eq_false (fun e => e z), Bool.and_false]; rfl, rfl⟩)
        | (have z : mDW C d x = false := c_10
           exact ⟨by unfold mDinF; rw [z, Bool.false_and, Bool.false_and]; rfl, rfl⟩)
        | (have z : mDW C d y = false := c_18
           exact ⟨by unfold mDinF; rw [z, Bool.and_false, Bool.false_and]; rfl, rfl⟩)
        | (have z : mDW C d y = true := c_18
           exact ⟨by unfold mDinF; rw [z, c_10, decide_eq_true c_2]; rfl, rfl⟩)
theorem x_doDine (hf : Fa σ hx B) (hg : Fq σ hx A) (hR : Pv σ L A C W P Dn Hn) (hw : Wx C W P Dn) (x y : Int32) : Kd g l 2 MX0_doDine [.ref hx, .int x, .int y] (put σ L C) (some (.int (bI (mDining C Dn x y)))) (put σ L C) := by
  obtain ⟨⟨⟨hW, hW8⟩, ⟨hP, hP6⟩, ⟨hD, hD6⟩, hdn⟩, hWv, hPp⟩ := id hw
  refine Kt.go (Y := MX0_doDine) (ls := [some (.ref hx), some (.int x), some (.int y), none]) (by decide) (Nat.le_of_ble_eq_true rfl) rfl ?_
  have key : ∀ j, j ≤ Dn → allB (mDinF C x y) j = true → Td g l 2 MX0_doDine [.ref hx, .int x, .int y] (put σ L C) (some (.int (bI (mDining C Dn x y)))) 2 [some (.ref hx), some (.int x), some (.int y), some (.int (nI j))] [] (put σ L C) := by
    refine loop_up fun j hj ih => ?_
    intro hb
    refine j_iload_n dX0_doDine_2 rfl ?_
    first | refine j_aload_n dX0_doDine_3 rfl ?_ | refine j_aload_nN dX0_doDine_3 rfl ?_
    refine j_getR dX0_doDine_4 fl_X0_38 rfl (by first | exact Fa.sh hf | assumption) (by first | exact Fq.f3 hg | assumption) ?_
    refine j_getI dX0_doDine_7 fl_X0_155 rfl (by first | exact Pv.sh hR | assumption) (by first | exact pg (Pv.li hR 6 2 rfl (by decide)) | assumption) ?_
    rw [hD]
    first | (with_reducible refine j_gNN ?_; refine j_icmp_geN (tgt := 38) dX0_doDine_10 (by decide) (by omega) (by omega) (fun c_10 => ?_) (fun c_10 => ?_)) | refine j_icmp_ge (tgt := 38) dX0_doDine_10 (by decide) (fun c_10 => ?_) (fun c_10 => ?_)
    · refine j_iconst (v := nI 0) dX0_doDine_38 (by decide +kernel) ?_
      refine j_iret dX0_doDine_39 ⟨_, rfl, rfl⟩ (by omega) (by omega) ?_
      exact ⟨by rw [mDining, ← show j = Dn by omega, hb]; rfl, rfl⟩
    · first | refine j_aload_n dX0_doDine_13 rfl ?_ | refine j_aload_nN dX0_doDine_13 rfl ?_
      refine j_getR dX0_doDine_14 fl_X0_38 rfl (by first | exact Fa.sh hf | assumption) (by first | exact Fq.f3 hg | assumption) ?_
      refine j_getR dX0_doDine_17 fl_X0_291 rfl (by first | exact Pv.sh hR | assumption) (by first | exact Pv.r2 hR | assumption) ?_
      refine j_iload_n dX0_doDine_20 rfl ?_
      refine j_aald (t := 28) dX0_doDine_21 (fun _ => rfl) (by decide) (by first | exact Pe.sl hp | exact Pe.sa hp | exact Pe.sl hq | exact Pe.sa hq | exact Pv.sw hR | exact Pv.sp hR | exact Pv.sd hR | exact Fa.s0 hf | exact Fa.s12 hf | exact Fa.s13 hf | exact Fa.s14 hf | exact Fa.s15 hf | exact Fa.s16 hf | exact Fa.s20 hf | exact Fa.s21 hf | exact Fa.s23 hf | assumption) rfl (by omega) (by decide) (by first | exact Pv.rw hR (by omega) | exact Pv.rp hR (by omega) | exact Pv.rd hR (by omega) | exact Fa.tr hf (by omega) | assumption) ?_
      refine j_iload_n dX0_doDine_22 rfl ?_
      refine j_iload_n dX0_doDine_23 rfl ?_
      refine j_dV1 kl_X0_426 (x_areBoth hR (by omega) _ _) dX0_doDine_24 rfl rfl (by decide) (by first | exact Pv.ds hR (by omega) | assumption) (Nat.le_of_ble_eq_true rfl) (by first | decide | omega) (by omega) (by omega) ?_
      first | (with_reducible refine j_gB ?_; refine j_if_eqB (tgt := 32) dX0_doDine_27 (by decide) (fun c_27 => ?_) (fun c_27 => ?_)) | (with_reducible refine j_gC ?_; refine j_if_eqC (tgt := 32) dX0_doDine_27 (by decide) (fun c_27 => ?_) (fun c_27 => ?_)) | (with_reducible refine j_gN ?_; refine j_if_eqN (tgt := 32) dX0_doDine_27 (by decide) (by omega) (fun c_27 => ?_) (fun c_27 => ?_)) | refine j_if_eq (tgt := 32) dX0_doDine_27 (by decide) (fun c_27 => ?_) (fun c_27 => ?_)
      · first | refine j_iincN dX0_doDine_32 rfl (by decide) ?_ | refine j_iinc dX0_doDine_32 rfl rfl (by decide) ?_
        refine j_goto (tgt := 2) dX0_doDine_35 (by decide) ?_
        exact ih (by omega) (by rw [allB, hb, Bool.true_and]; rw [Bool.not_eq_false'] at c_27; exact c_27)
      · refine j_iconst (v := nI 1) dX0_doDine_30 (by decide +kernel) ?_
        refine j_iret dX0_doDine_31 ⟨_, rfl, rfl⟩ (by omega) (by omega) ?_
        exact ⟨by
          have z : allB (mDinF C x y) (j + 1) = false := by rw [allB, hb, Bool.true_and]; rw [Bool.not_eq_true'] at c_27; exact c_27
          rw [mDining, allB_le z (by omega)]; rfl, rfl⟩
  refine j_iconst (v := nI 0) dX0_doDine_0 (by decide +kernel) ?_
  refine j_istore_n dX0_doDine_1 (by decide) ?_
  exact key 0 (by omega) rfl
theorem x_guestsOf (hf : Fa σ hx B) (hg : Fq σ hx A) (hR : Pv σ L A C W P Dn Hn) (hw : Wx C W P Dn) (set : Int32) : Kd g l 3 MX0_guestsOf [.ref hx, .int set] (put σ L C) (some (.int (gst C P Dn set))) (put σ L C) := by
  obtain ⟨⟨⟨hW, hW8⟩, ⟨hP, hP6⟩, ⟨hD, hD6⟩, hdn⟩, hWv, hPp⟩ := id hw
  refine Kt.go (Y := MX0_guestsOf) (ls := [some (.ref hx), some (.int set), none, none, none]) (by decide) (Nat.le_of_ble_eq_true rfl) rfl ?_
  have key : ∀ j, j ≤ P → ∀ a x4, a = itr (fun q a => itr (rumR C Dn set q) P a) j (nI 0) → Td g l 3 MX0_guestsOf [.ref hx, .int set] (put σ L C) (some (.int (gst C P Dn set))) 4 [some (.ref hx), some (.int set), some (.int a), some (.int (nI j)), x4] [] (put σ L C) := by
    refine loop_up fun j hj ih => ?_
    intro a x4 ha
    have inner : j < P → ∀ i, i ≤ P → ∀ b, b = itr (rumR C Dn set j) i a → Td g l 3 MX0_guestsOf [.ref hx, .int set] (put σ L C) (some (.int (gst C P Dn set))) 18 [some (.ref hx), some (.int set), some (.int b), some (.int (nI j)), some (.int (nI i))] [] (put σ L C) := by
      intro hjP
      refine loop_up fun i hi ihi => ?_
      intro b hb
      refine j_iload dX0_guestsOf_18 rfl ?_
      first | refine j_aload_n dX0_guestsOf_20 rfl ?_ | refine j_aload_nN dX0_guestsOf_20 rfl ?_
      refine j_getR dX0_guestsOf_21 fl_X0_38 rfl (by first | exact Fa.sh hf | assumption) (by first | exact Fq.f3 hg | assumption) ?_
      refine j_getI dX0_guestsOf_24 fl_X0_152 rfl (by first | exact Pv.sh hR | assumption) (by first | exact pg (Pv.li hR 5 1 rfl (by decide)) | assumption) ?_
      rw [hP]
      first | (with_reducible refine j_gNN ?_; refine j_icmp_geN (tgt := 65) dX0_guestsOf_27 (by decide) (by omega) (by omega) (fun c_27 => ?_) (fun c_27 => ?_)) | refine j_icmp_ge (tgt := 65) dX0_guestsOf_27 (by decide) (fun c_27 => ?_) (fun c_27 => ?_)
      · first | refine j_iincN dX0_guestsOf_65 rfl (by decide) ?_ | refine j_iinc dX0_guestsOf_65 rfl rfl (by decide) ?_
        refine j_goto (tgt := 4) dX0_guestsOf_68 (by decide) ?_
        exact ih hjP _ _ (by rw [itr, ← ha, hb, show i = P by omega])
      · refine j_iload_n dX0_guestsOf_30 rfl ?_
        refine j_iload_n dX0_guestsOf_31 rfl ?_
        refine j_iload_n dX0_guestsOf_32 rfl ?_
        refine j_dS1 kl_X0_279 (k_isIn _ _ _ _ j) dX0_guestsOf_33 rfl rfl (Nat.le_of_ble_eq_true rfl) (by first | decide | omega) (by omega) (by omega) ?_
        first | (with_reducible refine j_gB ?_; refine j_if_eqB (tgt := 56) dX0_guestsOf_36 (by decide) (fun c_36 => ?_) (fun c_36 => ?_)) | (with_reducible refine j_gC ?_; refine j_if_eqC (tgt := 56) dX0_guestsOf_36 (by decide) (fun c_36 => ?_) (fun c_36 => ?_)) | (with_reducible refine j_gN ?_; refine j_if_eqN (tgt := 56) dX0_guestsOf_36 (by decide) (by omega) (fun c_36 => ?_) (fun c_36 => ?_)) | refine j_if_eq (tgt := 56) dX0_guestsOf_36 (by decide) (fun c_36 => ?_) (fun c_36 => ?_)
        · refine j_iconst (v := nI 0) dX0_guestsOf_56 (by decide +kernel) ?_
          refine j_ior dX0_guestsOf_57 ?_
          refine j_istore_n dX0_guestsOf_58 (by decide) ?_
          first | refine j_iincN dX0_guestsOf_59 rfl (by decide) ?_ | refine j_iinc dX0_guestsOf_59 rfl rfl (by decide) ?_
          refine j_goto (tgt := 18) dX0_guestsOf_62 (by decide) ?_
          refine ihi (by omega) _ ?_
          rw [itr, ← hb]
          unfold rumR
          first
          | (have z : hs set j = false := c_36
             rw [if_neg (fun q => Bool.false_ne_true (z.symm.trans q.1)), nI_0, Int32.or_zero])
          | (have z : mDining C Dn (nI j) (nI i) = false := c_46
             rw [if_neg (fun q => Bool.false_ne_true (z.symm.trans q.2)), nI_0, Int32.or_zero])
          | (have z : mDining C Dn (nI j) (nI i) = true := c_46
             rw [if_pos ⟨c_36, z⟩]
             rfl)
        · first | refine j_aload_n dX0_guestsOf_39 rfl ?_ | refine j_aload_nN dX0_guestsOf_39 rfl ?_
          refine j_iload_n dX0_guestsOf_40 rfl ?_
          refine j_iload dX0_guestsOf_41 rfl ?_
          refine j_dV1 kl_X0_429 (x_doDine hf hg hR hw _ _) dX0_guestsOf_43 rfl rfl (by decide) (by first | exact Fa.sh hf | assumption) (Nat.le_of_ble_eq_true rfl) (by first | decide | omega) (by omega) (by omega) ?_
          first | (with_reducible refine j_gB ?_; refine j_if_eqB (tgt := 56) dX0_guestsOf_46 (by decide) (fun c_46 => ?_) (fun c_46 => ?_)) | (with_reducible refine j_gC ?_; refine j_if_eqC (tgt := 56) dX0_guestsOf_46 (by decide) (fun c_46 => ?_) (fun c_46 => ?_)) | (with_reducible refine j_gN ?_; refine j_if_eqN (tgt := 56) dX0_guestsOf_46 (by decide) (by omega) (fun c_46 => ?_) (fun c_46 => ?_)) | refine j_if_eq (tgt := 56) dX0_guestsOf_46 (by decide) (fun c_46 => ?_) (fun c_46 => ?_)
          · refine j_iconst (v := nI 0) dX0_guestsOf_56 (by decide +kernel) ?_
            refine j_ior dX0_guestsOf_57 ?_
            refine j_istore_n dX0_guestsOf_58 (by decide) ?_
            first | refine j_iincN dX0_guestsOf_59 rfl (by decide) ?_ | refine j_iinc dX0_guestsOf_59 rfl rfl (by decide) ?_
            refine j_goto (tgt := 18) dX0_guestsOf_62 (by decide) ?_
            refine ihi (by omega) _ ?_
            rw [itr, ← hb]
            unfold rumR
            first
            | (have z : hs set j = false := c_36
               rw [if_neg (fun q => Bool.false_ne_true (z.symm.trans q.1)), nI_0, Int32.or_zero])
            | (have z : mDining C Dn (nI j) (nI i) = false := c_46
               rw [if_neg (fun q => Bool.false_ne_true (z.symm.trans q.2)), nI_0, Int32.or_zero])
            | (have z : mDining C Dn (nI j) (nI i) = true := c_46
               rw [if_pos ⟨c_36, z⟩]
               rfl)
          · refine j_iconst (v := nI 1) dX0_guestsOf_49 (by decide +kernel) ?_
            refine j_iload dX0_guestsOf_50 rfl ?_
            refine j_ishl dX0_guestsOf_52 ?_
            refine j_goto (tgt := 57) dX0_guestsOf_53 (by decide) ?_
            refine j_ior dX0_guestsOf_57 ?_
            refine j_istore_n dX0_guestsOf_58 (by decide) ?_
            first | refine j_iincN dX0_guestsOf_59 rfl (by decide) ?_ | refine j_iinc dX0_guestsOf_59 rfl rfl (by decide) ?_
            refine j_goto (tgt := 18) dX0_guestsOf_62 (by decide) ?_
            refine ihi (by omega) _ ?_
            rw [itr, ← hb]
            unfold rumR
            first
            | (have z : hs set j = false := c_36
               rw [if_neg (fun q => Bool.false_ne_true (z.symm.trans q.1)), nI_0, Int32.or_zero])
            | (have z : mDining C Dn (nI j) (nI i) = false := c_46
               rw [if_neg (fun q => Bool.false_ne_true (z.symm.trans q.2)), nI_0, Int32.or_zero])
            | (have z : mDining C Dn (nI j) (nI i) = true := c_46
               rw [if_pos ⟨c_36, z⟩]
               rfl)
    refine j_iload_n dX0_guestsOf_4 rfl ?_
    first | refine j_aload_n dX0_guestsOf_5 rfl ?_ | refine j_aload_nN dX0_guestsOf_5 rfl ?_
    refine j_getR dX0_guestsOf_6 fl_X0_38 rfl (by first | exact Fa.sh hf | assumption) (by first | exact Fq.f3 hg | assumption) ?_
    refine j_getI dX0_guestsOf_9 fl_X0_152 rfl (by first | exact Pv.sh hR | assumption) (by first | exact pg (Pv.li hR 5 1 rfl (by decide)) | assumption) ?_
    rw [hP]
    first | (with_reducible refine j_gNN ?_; refine j_icmp_geN (tgt := 71) dX0_guestsOf_12 (by decide) (by omega) (by omega) (fun c_12 => ?_) (fun c_12 => ?_)) | refine j_icmp_ge (tgt := 71) dX0_guestsOf_12 (by decide) (fun c_12 => ?_) (fun c_12 => ?_)
    · refine j_iload_n dX0_guestsOf_71 rfl ?_
      refine j_iret dX0_guestsOf_72 ⟨_, rfl, rfl⟩ (by omega) (by omega) ?_
      exact ⟨by rw [ha, show j = P by omega]; rfl, rfl⟩
    · refine j_iconst (v := nI 0) dX0_guestsOf_15 (by decide +kernel) ?_
      refine j_istore dX0_guestsOf_16 (by decide) ?_
      exact inner (by omega) 0 (by omega) _ rfl
  refine j_iconst (v := nI 0) dX0_guestsOf_0 (by decide +kernel) ?_
  refine j_istore_n dX0_guestsOf_1 (by decide) ?_
  refine j_iconst (v := nI 0) dX0_guestsOf_2 (by decide +kernel) ?_
  refine j_istore_n dX0_guestsOf_3 (by decide) ?_
  exact key 0 (by omega) _ _ rfl
theorem q_tellers (hf : Fa σ hx B) (hg : Fq σ hx A) (hR : Pv σ L A C W P Dn Hn) (hw : Wx C W P Dn) (k0 p0 : Int32) : Kd g l 4 MX0_tellers [.ref hx, .int k0, .int p0] (put σ L C) (some (.int (oTellers C W P Dn k0 p0).1)) (put (xS σ hx (oTellers C W P Dn k0 p0).2) L C) := by
  obtain ⟨⟨⟨hW, hW8⟩, ⟨hP, hP6⟩, ⟨hD, hD6⟩, hdn⟩, hWv, hPp⟩ := id hw
  have hn := hR.nf hf
  refine Kt.go (Y := MX0_tellers) (ls := [some (.ref hx), some (.int k0), some (.int p0)]) (by decide) (Nat.le_of_ble_eq_true rfl) rfl ?_
  first | refine j_aload_n dX0_tellers_0 rfl ?_ | refine j_aload_nN dX0_tellers_0 rfl ?_
  refine j_iload_n dX0_tellers_1 rfl ?_
  refine j_dV1 kl_X0_242 (x_isWord hf hg hR hW hW8 _) dX0_tellers_2 rfl rfl (by decide) (by first | exact Fa.sh hf | assumption) (Nat.le_of_ble_eq_true rfl) (by first | decide | omega) (by omega) (by omega) ?_
  first | (with_reducible refine j_gB ?_; refine j_if_eqB (tgt := 40) dX0_tellers_5 (by decide) (fun c_5 => ?_) (fun c_5 => ?_)) | (with_reducible refine j_gC ?_; refine j_if_eqC (tgt := 40) dX0_tellers_5 (by decide) (fun c_5 => ?_) (fun c_5 => ?_)) | (with_reducible refine j_gN ?_; refine j_if_eqN (tgt := 40) dX0_tellers_5 (by decide) (by omega) (fun c_5 => ?_) (fun c_5 => ?_)) | refine j_if_eq (tgt := 40) dX0_tellers_5 (by decide) (fun c_5 => ?_) (fun c_5 => ?_)
  · first | refine j_aload_n dX0_tellers_40 rfl ?_ | refine j_aload_nN dX0_tellers_40 rfl ?_
    refine j_iconst (v := nI 2) dX0_tellers_41 (by decide +kernel) ?_
    refine j_dV1 kl_X0_98 (x_none (Fa.sh hf) _) dX0_tellers_42 rfl rfl (by decide) (by first | exact Fa.sh hf | assumption) (Nat.le_of_ble_eq_true rfl) (by first | decide | omega) (by omega) (by omega) ?_
    refine j_iret dX0_tellers_45 ⟨_, rfl, rfl⟩ (by omega) (by omega) ?_
    first
    | exact pxR hn (by simp [oTellers, *])
    | exact pxR hn (by unfold oTellers; rw [if_pos ⟨c_5, c_13⟩, ek])
  · first | refine j_aload_n dX0_tellers_8 rfl ?_ | refine j_aload_nN dX0_tellers_8 rfl ?_
    refine j_iload_n dX0_tellers_9 rfl ?_
    refine j_dV1 kl_X0_264 (x_isPerson hf hg hR hP hP6 _) dX0_tellers_10 rfl rfl (by decide) (by first | exact Fa.sh hf | assumption) (Nat.le_of_ble_eq_true rfl) (by first | decide | omega) (by omega) (by omega) ?_
    first | (with_reducible refine j_gB ?_; refine j_if_eqB (tgt := 40) dX0_tellers_13 (by decide) (fun c_13 => ?_) (fun c_13 => ?_)) | (with_reducible refine j_gC ?_; refine j_if_eqC (tgt := 40) dX0_tellers_13 (by decide) (fun c_13 => ?_) (fun c_13 => ?_)) | (with_reducible refine j_gN ?_; refine j_if_eqN (tgt := 40) dX0_tellers_13 (by decide) (by omega) (fun c_13 => ?_) (fun c_13 => ?_)) | refine j_if_eq (tgt := 40) dX0_tellers_13 (by decide) (fun c_13 => ?_) (fun c_13 => ?_)
    · first | refine j_aload_n dX0_tellers_40 rfl ?_ | refine j_aload_nN dX0_tellers_40 rfl ?_
      refine j_iconst (v := nI 2) dX0_tellers_41 (by decide +kernel) ?_
      refine j_dV1 kl_X0_98 (x_none (Fa.sh hf) _) dX0_tellers_42 rfl rfl (by decide) (by first | exact Fa.sh hf | assumption) (Nat.le_of_ble_eq_true rfl) (by first | decide | omega) (by omega) (by omega) ?_
      refine j_iret dX0_tellers_45 ⟨_, rfl, rfl⟩ (by omega) (by omega) ?_
      first
      | exact pxR hn (by simp [oTellers, *])
      | exact pxR hn (by unfold oTellers; rw [if_pos ⟨c_5, c_13⟩, ek])
    · obtain ⟨k0, hk0, rfl⟩ := okN_nI c_5
      obtain ⟨p0, hp0, rfl⟩ := okN_nI c_13
      have ek : ixn (nI k0) = k0 := ixn_nI (by omega)
      first | refine j_aload_n dX0_tellers_16 rfl ?_ | refine j_aload_nN dX0_tellers_16 rfl ?_
      first | refine j_aload_n dX0_tellers_17 rfl ?_ | refine j_aload_nN dX0_tellers_17 rfl ?_
      refine j_getR dX0_tellers_18 fl_X0_38 rfl (by first | exact Fa.sh hf | assumption) (by first | exact Fq.f3 hg | assumption) ?_
      refine j_iload_n dX0_tellers_21 rfl ?_
      refine j_iconst (v := nI 0) dX0_tellers_22 (by decide +kernel) ?_
      refine j_dV1 kl_X0_257 (x_peopleK hR hP hP6) dX0_tellers_23 rfl rfl (by decide) (by first | exact Pv.sh hR | assumption) (Nat.le_of_ble_eq_true rfl) (by first | decide | omega) (by omega) (by omega) ?_
      first | refine j_aload_n dX0_tellers_26 rfl ?_ | refine j_aload_nN dX0_tellers_26 rfl ?_
      refine j_iconst (v := nI 1) dX0_tellers_27 (by decide +kernel) ?_
      refine j_iload_n dX0_tellers_28 rfl ?_
      refine j_ishl dX0_tellers_29 ?_
      refine j_dV1 kl_X0_432 (x_guestsOf hf hg hR hw _) dX0_tellers_30 rfl rfl (by decide) (by first | exact Fa.sh hf | assumption) (Nat.le_of_ble_eq_true rfl) (by first | decide | omega) (by omega) (by omega) ?_
      refine j_eq (st' := [.int (gst C P Dn (bt p0)), .int (mPeopleWith C P 37 k0), .ref hx]) rfl rfl rfl ?_
      rw [gst_one hp0 hP6]
      refine j_iand dX0_tellers_33 ?_
      rw [tel_and hP6]
      refine j_dV1 kl_X0_102 (x_gives (Fa.sh hf) _) dX0_tellers_34 rfl rfl (by decide) (by first | exact Fa.sh hf | assumption) (Nat.le_of_ble_eq_true rfl) (by first | decide | omega) (by omega) (by omega) ?_
      refine j_goto (tgt := 45) dX0_tellers_37 (by decide) ?_
      refine j_iret dX0_tellers_45 ⟨_, rfl, rfl⟩ (by omega) (by omega) ?_
      first
      | exact pxR hn (by simp [oTellers, *])
      | exact pxR hn (by unfold oTellers; rw [if_pos ⟨c_5, c_13⟩, ek])
theorem q_rumour (hf : Fa σ hx B) (hg : Fq σ hx A) (hR : Pv σ L A C W P Dn Hn) (hw : Wx C W P Dn) (k0 p0 : Int32) : Kd g l 4 MX0_rumour [.ref hx, .int k0, .int p0] (put σ L C) (some (.int (oRumour C W P Dn k0 p0).1)) (put (xS σ hx (oRumour C W P Dn k0 p0).2) L C) := by
  obtain ⟨⟨⟨hW, hW8⟩, ⟨hP, hP6⟩, ⟨hD, hD6⟩, hdn⟩, hWv, hPp⟩ := id hw
  have hn := hR.nf hf
  refine Kt.go (Y := MX0_rumour) (ls := [some (.ref hx), some (.int k0), some (.int p0), none, none]) (by decide) (Nat.le_of_ble_eq_true rfl) rfl ?_
  have key : ∀ kk pp, k0 = nI kk → p0 = nI pp → kk < 8 → pp < P → okN k0 W = true → okN p0 P = true → ∀ j, j ≤ 7 → fUp (fun n => hs (rumF C P Dn (mPeopleWith C P 37 kk) n) pp) j = none → Td g l 4 MX0_rumour [.ref hx, .int k0, .int p0] (put (xS σ hx (oRumour C W P Dn k0 p0).2) L C) (some (.int (oRumour C W P Dn k0 p0).1)) 35 [some (.ref hx), some (.int k0), some (.int (nI pp)), some (.int (rumF C P Dn (mPeopleWith C P 37 kk) j)), some (.int (nI j))] [] (put σ L C) := by
    intro kk pp e1 e2 hkk hpp o1 o2
    have eo : oRumour C W P Dn k0 p0 = oFound 0 (fUp (fun n => hs (rumF C P Dn (mPeopleWith C P 37 kk) n) pp) 7) := by unfold oRumour; rw [if_pos ⟨o1, o2⟩, e1, e2, ixn_nI (by omega), ixn_nI (by omega)]
    rw [eo]
    refine loop_up fun j hj ih => ?_
    intro hu
    refine j_iload dX0_rumour_35 rfl ?_
    refine j_bipush (v := nI 6) dX0_rumour_37 (by decide +kernel) ?_
    first | (with_reducible refine j_gNN ?_; refine j_icmp_gtN (tgt := 71) dX0_rumour_39 (by decide) (by omega) (by omega) (fun c_39 => ?_) (fun c_39 => ?_)) | refine j_icmp_gt (tgt := 71) dX0_rumour_39 (by decide) (fun c_39 => ?_) (fun c_39 => ?_)
    · first | refine j_aload_n dX0_rumour_71 rfl ?_ | refine j_aload_nN dX0_rumour_71 rfl ?_
      refine j_bipush (v := nI 8) dX0_rumour_72 (by decide +kernel) ?_
      refine j_dV1 kl_X0_98 (x_none (Fa.sh hf) _) dX0_rumour_74 rfl rfl (by decide) (by first | exact Fa.sh hf | assumption) (Nat.le_of_ble_eq_true rfl) (by first | decide | omega) (by omega) (by omega) ?_
      refine j_iret dX0_rumour_77 ⟨_, rfl, rfl⟩ (by omega) (by omega) ?_
      exact pxR hn (by rw [show (7 : Nat) = j by omega, hu]; rfl)
    · refine j_iload_n dX0_rumour_42 rfl ?_
      refine j_iload_n dX0_rumour_43 rfl ?_
      refine j_dS1 kl_X0_279 (k_isIn _ _ _ _ pp) dX0_rumour_44 rfl rfl (Nat.le_of_ble_eq_true rfl) (by first | decide | omega) (by omega) (by omega) ?_
      first | (with_reducible refine j_gB ?_; refine j_if_eqB (tgt := 57) dX0_rumour_47 (by decide) (fun c_47 => ?_) (fun c_47 => ?_)) | (with_reducible refine j_gC ?_; refine j_if_eqC (tgt := 57) dX0_rumour_47 (by decide) (fun c_47 => ?_) (fun c_47 => ?_)) | (with_reducible refine j_gN ?_; refine j_if_eqN (tgt := 57) dX0_rumour_47 (by decide) (by omega) (fun c_47 => ?_) (fun c_47 => ?_)) | refine j_if_eq (tgt := 57) dX0_rumour_47 (by decide) (fun c_47 => ?_) (fun c_47 => ?_)
      · refine j_iload_n dX0_rumour_57 rfl ?_
        first | refine j_aload_n dX0_rumour_58 rfl ?_ | refine j_aload_nN dX0_rumour_58 rfl ?_
        refine j_iload_n dX0_rumour_59 rfl ?_
        refine j_dV1 kl_X0_432 (x_guestsOf hf hg hR hw _) dX0_rumour_60 rfl rfl (by decide) (by first | exact Fa.sh hf | assumption) (Nat.le_of_ble_eq_true rfl) (by first | decide | omega) (by omega) (by omega) ?_
        refine j_ior dX0_rumour_63 ?_
        rw [← rumQ_gst]
        refine j_istore_n dX0_rumour_64 (by decide) ?_
        first | refine j_iincN dX0_rumour_65 rfl (by decide) ?_ | refine j_iinc dX0_rumour_65 rfl rfl (by decide) ?_
        refine j_goto (tgt := 35) dX0_rumour_68 (by decide) ?_
        exact ih (by omega) (by rw [fUp, hu, c_47]; rfl)
      · first | refine j_aload_n dX0_rumour_50 rfl ?_ | refine j_aload_nN dX0_rumour_50 rfl ?_
        refine j_iload dX0_rumour_51 rfl ?_
        refine j_dV1 kl_X0_102 (x_gives (Fa.sh hf) _) dX0_rumour_53 rfl rfl (by decide) (by first | exact Fa.sh hf | assumption) (Nat.le_of_ble_eq_true rfl) (by first | decide | omega) (by omega) (by omega) ?_
        refine j_iret dX0_rumour_56 ⟨_, rfl, rfl⟩ (by omega) (by omega) ?_
        exact pxR hn (by rw [fUp_le (j := j + 1) (k := j) (by rw [fUp, hu, c_47]; rfl) (by omega)]; rfl)
  first | refine j_aload_n dX0_rumour_0 rfl ?_ | refine j_aload_nN dX0_rumour_0 rfl ?_
  refine j_iload_n dX0_rumour_1 rfl ?_
  refine j_dV1 kl_X0_242 (x_isWord hf hg hR hW hW8 _) dX0_rumour_2 rfl rfl (by decide) (by first | exact Fa.sh hf | assumption) (Nat.le_of_ble_eq_true rfl) (by first | decide | omega) (by omega) (by omega) ?_
  first | (with_reducible refine j_gB ?_; refine j_if_eqB (tgt := 16) dX0_rumour_5 (by decide) (fun c_5 => ?_) (fun c_5 => ?_)) | (with_reducible refine j_gC ?_; refine j_if_eqC (tgt := 16) dX0_rumour_5 (by decide) (fun c_5 => ?_) (fun c_5 => ?_)) | (with_reducible refine j_gN ?_; refine j_if_eqN (tgt := 16) dX0_rumour_5 (by decide) (by omega) (fun c_5 => ?_) (fun c_5 => ?_)) | refine j_if_eq (tgt := 16) dX0_rumour_5 (by decide) (fun c_5 => ?_) (fun c_5 => ?_)
  · first | refine j_aload_n dX0_rumour_16 rfl ?_ | refine j_aload_nN dX0_rumour_16 rfl ?_
    refine j_iconst (v := nI 2) dX0_rumour_17 (by decide +kernel) ?_
    refine j_dV1 kl_X0_98 (x_none (Fa.sh hf) _) dX0_rumour_18 rfl rfl (by decide) (by first | exact Fa.sh hf | assumption) (Nat.le_of_ble_eq_true rfl) (by first | decide | omega) (by omega) (by omega) ?_
    refine j_iret dX0_rumour_21 ⟨_, rfl, rfl⟩ (by omega) (by omega) ?_
    exact pxR hn (by simp [oRumour, *])
  · first | refine j_aload_n dX0_rumour_8 rfl ?_ | refine j_aload_nN dX0_rumour_8 rfl ?_
    refine j_iload_n dX0_rumour_9 rfl ?_
    refine j_dV1 kl_X0_264 (x_isPerson hf hg hR hP hP6 _) dX0_rumour_10 rfl rfl (by decide) (by first | exact Fa.sh hf | assumption) (Nat.le_of_ble_eq_true rfl) (by first | decide | omega) (by omega) (by omega) ?_
    first | (with_reducible refine j_gB ?_; refine j_if_neB (tgt := 22) dX0_rumour_13 (by decide) (fun c_13 => ?_) (fun c_13 => ?_)) | (with_reducible refine j_gC ?_; refine j_if_neC (tgt := 22) dX0_rumour_13 (by decide) (fun c_13 => ?_) (fun c_13 => ?_)) | (with_reducible refine j_gN ?_; refine j_if_neN (tgt := 22) dX0_rumour_13 (by decide) (by omega) (fun c_13 => ?_) (fun c_13 => ?_)) | refine j_if_ne (tgt := 22) dX0_rumour_13 (by decide) (fun c_13 => ?_) (fun c_13 => ?_)
    · obtain ⟨kk, hk0, rfl⟩ := okN_nI c_5
      obtain ⟨pp, hp0, rfl⟩ := okN_nI c_13
      first | refine j_aload_n dX0_rumour_22 rfl ?_ | refine j_aload_nN dX0_rumour_22 rfl ?_
      refine j_getR dX0_rumour_23 fl_X0_38 rfl (by first | exact Fa.sh hf | assumption) (by first | exact Fq.f3 hg | assumption) ?_
      refine j_iload_n dX0_rumour_26 rfl ?_
      refine j_iconst (v := nI 0) dX0_rumour_27 (by decide +kernel) ?_
      refine j_dV1 kl_X0_257 (x_peopleK hR hP hP6) dX0_rumour_28 rfl rfl (by decide) (by first | exact Pv.sh hR | assumption) (Nat.le_of_ble_eq_true rfl) (by first | decide | omega) (by omega) (by omega) ?_
      refine j_istore_n dX0_rumour_31 (by decide) ?_
      refine j_iconst (v := nI 0) dX0_rumour_32 (by decide +kernel) ?_
      refine j_istore dX0_rumour_33 (by decide) ?_
      exact key kk pp rfl rfl (by omega) hp0 c_5 c_13 0 (by omega) rfl
    · first | refine j_aload_n dX0_rumour_16 rfl ?_ | refine j_aload_nN dX0_rumour_16 rfl ?_
      refine j_iconst (v := nI 2) dX0_rumour_17 (by decide +kernel) ?_
      refine j_dV1 kl_X0_98 (x_none (Fa.sh hf) _) dX0_rumour_18 rfl rfl (by decide) (by first | exact Fa.sh hf | assumption) (Nat.le_of_ble_eq_true rfl) (by first | decide | omega) (by omega) (by omega) ?_
      refine j_iret dX0_rumour_21 ⟨_, rfl, rfl⟩ (by omega) (by omega) ?_
      exact pxR hn (by simp [oRumour, *])
theorem q_dinesIn (hf : Fa σ hx B) (hg : Fq σ hx A) (hR : Pv σ L A C W P Dn Hn) (hw : Wx C W P Dn) {dy : Nat} (hdy : C 6 = nI dy) (hd4 : dy ≤ 20000) (p0 : Int32) : Kd g l 4 MX0_dinesIn [.ref hx, .int p0] (put σ L C) (some (.int (oDinesIn C P Dn p0).1)) (put (xS σ hx (oDinesIn C P Dn p0).2) L C) := by
  obtain ⟨⟨⟨hW, hW8⟩, ⟨hP, hP6⟩, ⟨hD, hD6⟩, hdn⟩, hWv, hPp⟩ := id hw
  have hn := hR.nf hf
  refine Kt.go (Y := MX0_dinesIn) (ls := [some (.ref hx), some (.int p0), none, none, none, none]) (by decide) (Nat.le_of_ble_eq_true rfl) rfl ?_
  have hits : ∀ d, d < Dn → ∃ e, C (157 + d) = nI e ∧ 1 ≤ e ∧ e ≤ 30 ∧ ∀ t, dinF C p0 t d = !(mDW C d p0 && decide ((dy + t) % e = 0)) ∨ 100 < t := fun d hd => by
    obtain ⟨a, b, e, q1, q2, q3, q4, q5, q6, q7, q8⟩ := hdn d hd
    refine ⟨e, q6, q7, q8, fun t => ?_⟩
    by_cases ht : 100 < t
    · exact Or.inr ht
    · left
      unfold dinF
      rw [hdy, q6, nI_add, rm_nI (by omega) (by omega) (by omega)]
      have hml := Nat.mod_lt (dy + t) (show e > 0 by omega)
      congr 2
      rw [decide_eq_decide]
      rw [← nI_0]
      exact nI_eq (by omega) (by omega)
  have key : okN p0 P = true → ∀ j, j ≤ Dn → ∀ b x4 x5, (b = 0 ∧ ∀ d, d < j → mDW C d p0 = false) ∨ (1 ≤ b ∧ b ≤ 30 ∧ (∃ d e, d < j ∧ mDW C d p0 = true ∧ C (157 + d) = nI e ∧ 1 ≤ e ∧ e ≤ 30 ∧ b = e - dy % e) ∧ ∀ d e, d < j → mDW C d p0 = true → C (157 + d) = nI e → 1 ≤ e → e ≤ 30 → b ≤ e - dy % e) → Td g l 4 MX0_dinesIn [.ref hx, .int p0] (put (xS σ hx (oDinesIn C P Dn p0).2) L C) (some (.int (oDinesIn C P Dn p0).1)) 18 [some (.ref hx), some (.int p0), some (.int (if b = 0 then -1 else nI b)), some (.int (nI j)), x4, x5] [] (put σ L C) := by
    intro eP
    refine loop_up fun j hj ih => ?_
    intro b x4 x5 hb
    by_cases hjD : j < Dn
    · obtain ⟨e, q6, q7, q8, -⟩ := hits j hjD
      have hml := Nat.mod_lt dy (show e > 0 by omega)
      have he : ¬ nI e = 0 := nI_ne0 (by omega) (by omega)
      have erm : nI dy - nI dy / nI e * nI e = nI (dy % e) := rm_nI (by omega) (by omega) (by omega)
      have hee : ∀ e', C (157 + j) = nI e' → e' ≤ 30 → e' = e := fun e' h1 h2 => by rw [q6] at h1; exact ((nI_eq (by omega) (by omega)).mp h1).symm
      have keep : (mDW C j p0 = false ∨ (b ≠ 0 ∧ b ≤ e - dy % e)) → (b = 0 ∧ ∀ d, d < j + 1 → mDW C d p0 = false) ∨ (1 ≤ b ∧ b ≤ 30 ∧ (∃ d e, d < j + 1 ∧ mDW C d p0 = true ∧ C (157 + d) = nI e ∧ 1 ≤ e ∧ e ≤ 30 ∧ b = e - dy % e) ∧ ∀ d e, d < j + 1 → mDW C d p0 = true → C (157 + d) = nI e → 1 ≤ e → e ≤ 30 → b ≤ e - dy % e) := fun hk => by
        rcases hb with ⟨b0, b1⟩ | ⟨b1, b2, ⟨d, e1, d1, d2, d3, d4, d5, d6⟩, b4⟩
        · refine Or.inl ⟨b0, fun d hd => ?_⟩
          by_cases z : d = j
          · subst z; rcases hk with h | h
            · exact h
            · exact absurd b0 h.1
          · exact b1 d (by omega)
        · refine Or.inr ⟨b1, b2, ⟨d, e1, by omega, d2, d3, d4, d5, d6⟩, fun d e' hd h1 h2 h3 h4 => ?_⟩
          by_cases z : d = j
          · subst z
            rcases hk with h | h
            · rw [h1] at h; cases h
            · rw [hee e' h2 h4]; exact h.2
          · exact b4 d e' (by omega) h1 h2 h3 h4
      have take : mDW C j p0 = true → (b = 0 ∨ e - dy % e < b) → (e - dy % e = 0 ∧ ∀ d, d < j + 1 → mDW C d p0 = false) ∨ (1 ≤ e - dy % e ∧ e - dy % e ≤ 30 ∧ (∃ d e', d < j + 1 ∧ mDW C d p0 = true ∧ C (157 + d) = nI e' ∧ 1 ≤ e' ∧ e' ≤ 30 ∧ e - dy % e = e' - dy % e') ∧ ∀ d e', d < j + 1 → mDW C d p0 = true → C (157 + d) = nI e' → 1 ≤ e' → e' ≤ 30 → e - dy % e ≤ e' - dy % e') := fun hw1 hlt => by
        refine Or.inr ⟨by omega, by omega, ⟨j, e, by omega, hw1, q6, q7, q8, rfl⟩, fun d e' hd h1 h2 h3 h4 => ?_⟩
        by_cases z : d = j
        · subst z; rw [hee e' h2 h4]; exact Nat.le_refl _
        · rcases hb with ⟨b0, b1⟩ | ⟨b1, b2, -, b4⟩
          · rw [b1 d (by omega)] at h1; cases h1
          · have := b4 d e' (by omega) h1 h2 h3 h4
            omega
      refine j_iload_n dX0_dinesIn_18 rfl ?_
      first | refine j_aload_n dX0_dinesIn_19 rfl ?_ | refine j_aload_nN dX0_dinesIn_19 rfl ?_
      refine j_getR dX0_dinesIn_20 fl_X0_38 rfl (by first | exact Fa.sh hf | assumption) (by first | exact Fq.f3 hg | assumption) ?_
      refine j_getI dX0_dinesIn_23 fl_X0_155 rfl (by first | exact Pv.sh hR | assumption) (by first | exact pg (Pv.li hR 6 2 rfl (by decide)) | assumption) ?_
      rw [hD]
      first | (with_reducible refine j_gNN ?_; refine j_icmp_geN (tgt := 90) dX0_dinesIn_26 (by decide) (by omega) (by omega) (fun c_26 => ?_) (fun c_26 => ?_)) | refine j_icmp_ge (tgt := 90) dX0_dinesIn_26 (by decide) (fun c_26 => ?_) (fun c_26 => ?_)
      · exact absurd hjD (Nat.not_lt.mpr c_26)
      · first | refine j_aload_n dX0_dinesIn_29 rfl ?_ | refine j_aload_nN dX0_dinesIn_29 rfl ?_
        refine j_getR dX0_dinesIn_30 fl_X0_38 rfl (by first | exact Fa.sh hf | assumption) (by first | exact Fq.f3 hg | assumption) ?_
        refine j_getR dX0_dinesIn_33 fl_X0_291 rfl (by first | exact Pv.sh hR | assumption) (by first | exact Pv.r2 hR | assumption) ?_
        refine j_iload_n dX0_dinesIn_36 rfl ?_
        refine j_aald (t := 28) dX0_dinesIn_37 (fun _ => rfl) (by decide) (by first | exact Pe.sl hp | exact Pe.sa hp | exact Pe.sl hq | exact Pe.sa hq | exact Pv.sw hR | exact Pv.sp hR | exact Pv.sd hR | exact Fa.s0 hf | exact Fa.s12 hf | exact Fa.s13 hf | exact Fa.s14 hf | exact Fa.s15 hf | exact Fa.s16 hf | exact Fa.s20 hf | exact Fa.s21 hf | exact Fa.s23 hf | assumption) rfl (by omega) (by decide) (by first | exact Pv.rw hR (by omega) | exact Pv.rp hR (by omega) | exact Pv.rd hR (by omega) | exact Fa.tr hf (by omega) | assumption) ?_
        first | refine j_astore dX0_dinesIn_38 (by decide) ?_ | refine j_astoreN dX0_dinesIn_38 (by decide) ?_
        first | refine j_aload dX0_dinesIn_40 rfl ?_ | refine j_aloadN dX0_dinesIn_40 rfl ?_
        refine j_getI dX0_dinesIn_42 fl_X0_303 rfl (by first | exact Pv.ds hR (by omega) | assumption) (by first | exact Pv.d2 hR (by omega) | assumption) ?_
        rw [q6]
        first | refine j_aload_n dX0_dinesIn_45 rfl ?_ | refine j_aload_nN dX0_dinesIn_45 rfl ?_
        refine j_getR dX0_dinesIn_46 fl_X0_38 rfl (by first | exact Fa.sh hf | assumption) (by first | exact Fq.f3 hg | assumption) ?_
        refine j_getI dX0_dinesIn_49 fl_X0_227 rfl (by first | exact Pv.sh hR | assumption) (by first | exact pg (Pv.li hR 10 6 rfl (by decide)) | assumption) ?_
        rw [hdy]
        first | refine j_aload dX0_dinesIn_52 rfl ?_ | refine j_aloadN dX0_dinesIn_52 rfl ?_
        refine j_getI dX0_dinesIn_54 fl_X0_303 rfl (by first | exact Pv.ds hR (by omega) | assumption) (by first | exact Pv.d2 hR (by omega) | assumption) ?_
        rw [q6]
        refine j_irem dX0_dinesIn_57 he ?_
        rw [erm]
        refine j_isub dX0_dinesIn_58 ?_
        rw [nI_sub (by omega)]
        refine j_istore dX0_dinesIn_59 (by decide) ?_
        first | refine j_aload dX0_dinesIn_61 rfl ?_ | refine j_aloadN dX0_dinesIn_61 rfl ?_
        refine j_iload_n dX0_dinesIn_63 rfl ?_
        refine j_dV1 kl_X0_351 (x_isOf hR hjD _) dX0_dinesIn_64 rfl rfl (by decide) (by first | exact Pv.ds hR (by omega) | assumption) (Nat.le_of_ble_eq_true rfl) (by first | decide | omega) (by omega) (by omega) ?_
        first | (with_reducible refine j_gB ?_; refine j_if_eqB (tgt := 84) dX0_dinesIn_67 (by decide) (fun c_67 => ?_) (fun c_67 => ?_)) | (with_reducible refine j_gC ?_; refine j_if_eqC (tgt := 84) dX0_dinesIn_67 (by decide) (fun c_67 => ?_) (fun c_67 => ?_)) | (with_reducible refine j_gN ?_; refine j_if_eqN (tgt := 84) dX0_dinesIn_67 (by decide) (by omega) (fun c_67 => ?_) (fun c_67 => ?_)) | refine j_if_eq (tgt := 84) dX0_dinesIn_67 (by decide) (fun c_67 => ?_) (fun c_67 => ?_)
        · first | refine j_iincN dX0_dinesIn_84 rfl (by decide) ?_ | refine j_iinc dX0_dinesIn_84 rfl rfl (by decide) ?_
          refine j_goto (tgt := 18) dX0_dinesIn_87 (by decide) ?_
          first
          | (have z : mDW C j p0 = false := c_67
             exact ih (by omega) b _ _ (keep (Or.inl z)))
          | (have z : (if b = 0 then (-1 : Int32) else nI b) = -1 := c_72
             have z0 : b = 0 := by
               by_cases y : b = 0
               · exact y
               · rw [if_neg y] at z
                 have : b ≤ 30 := by rcases hb with ⟨b0, -⟩ | ⟨-, b2, -⟩ <;> omega
                 exact absurd z (nI_m1 (by omega))
             have y := ih (by omega) (e - dy % e) (some (.ref (A (50 + j)))) (some (.int (nI (e - dy % e)))) (take c_67 (Or.inl z0))
             rw [if_neg (show ¬ e - dy % e = 0 by omega)] at y
             exact y)
          | (have z : ¬ (if b = 0 then (-1 : Int32) else nI b) = -1 := c_72
             have z0 : b ≠ 0 := fun y => z (if_pos y)
             have hb30 : b ≤ 30 := by rcases hb with ⟨b0, -⟩ | ⟨-, b2, -⟩ <;> omega
             rw [if_neg z0] at c_78
             first
             | (have c2 : b ≤ e - dy % e := by have y := c_78; rw [nI_leI (by omega) (by omega)] at y; exact y
                exact ih (by omega) b _ _ (keep (Or.inr ⟨z0, c2⟩)))
             | (have c2 : e - dy % e < b := by
                  have y := Int32.not_le.mp c_78
                  exact (nI_ltI (by omega) (by omega)).mp y
                have y := ih (by omega) (e - dy % e) (some (.ref (A (50 + j)))) (some (.int (nI (e - dy % e)))) (take c_67 (Or.inr c2))
                rw [if_neg (show ¬ e - dy % e = 0 by omega)] at y
                exact y))
        · refine j_iload_n dX0_dinesIn_70 rfl ?_
          refine j_iconst (v := -1) dX0_dinesIn_71 (by decide +kernel) ?_
          first | (with_reducible refine j_gNN ?_; refine j_icmp_eqN (tgt := 81) dX0_dinesIn_72 (by decide) (by omega) (by omega) (fun c_72 => ?_) (fun c_72 => ?_)) | refine j_icmp_eq (tgt := 81) dX0_dinesIn_72 (by decide) (fun c_72 => ?_) (fun c_72 => ?_)
          · refine j_iload dX0_dinesIn_81 rfl ?_
            refine j_istore_n dX0_dinesIn_83 (by decide) ?_
            first | refine j_iincN dX0_dinesIn_84 rfl (by decide) ?_ | refine j_iinc dX0_dinesIn_84 rfl rfl (by decide) ?_
            refine j_goto (tgt := 18) dX0_dinesIn_87 (by decide) ?_
            first
            | (have z : mDW C j p0 = false := c_67
               exact ih (by omega) b _ _ (keep (Or.inl z)))
            | (have z : (if b = 0 then (-1 : Int32) else nI b) = -1 := c_72
               have z0 : b = 0 := by
                 by_cases y : b = 0
                 · exact y
                 · rw [if_neg y] at z
                   have : b ≤ 30 := by rcases hb with ⟨b0, -⟩ | ⟨-, b2, -⟩ <;> omega
                   exact absurd z (nI_m1 (by omega))
               have y := ih (by omega) (e - dy % e) (some (.ref (A (50 + j)))) (some (.int (nI (e - dy % e)))) (take c_67 (Or.inl z0))
               rw [if_neg (show ¬ e - dy % e = 0 by omega)] at y
               exact y)
            | (have z : ¬ (if b = 0 then (-1 : Int32) else nI b) = -1 := c_72
               have z0 : b ≠ 0 := fun y => z (if_pos y)
               have hb30 : b ≤ 30 := by rcases hb with ⟨b0, -⟩ | ⟨-, b2, -⟩ <;> omega
               rw [if_neg z0] at c_78
               first
               | (have c2 : b ≤ e - dy % e := by have y := c_78; rw [nI_leI (by omega) (by omega)] at y; exact y
                  exact ih (by omega) b _ _ (keep (Or.inr ⟨z0, c2⟩)))
               | (have c2 : e - dy % e < b := by
                    have y := Int32.not_le.mp c_78
                    exact (nI_ltI (by omega) (by omega)).mp y
                  have y := ih (by omega) (e - dy % e) (some (.ref (A (50 + j)))) (some (.int (nI (e - dy % e)))) (take c_67 (Or.inr c2))
                  rw [if_neg (show ¬ e - dy % e = 0 by omega)] at y
                  exact y))
          · refine j_iload dX0_dinesIn_75 rfl ?_
            refine j_iload_n dX0_dinesIn_77 rfl ?_
            first | (with_reducible refine j_gNN ?_; refine j_icmp_geN (tgt := 84) dX0_dinesIn_78 (by decide) (by omega) (by omega) (fun c_78 => ?_) (fun c_78 => ?_)) | refine j_icmp_ge (tgt := 84) dX0_dinesIn_78 (by decide) (fun c_78 => ?_) (fun c_78 => ?_)
            · first | refine j_iincN dX0_dinesIn_84 rfl (by decide) ?_ | refine j_iinc dX0_dinesIn_84 rfl rfl (by decide) ?_
              refine j_goto (tgt := 18) dX0_dinesIn_87 (by decide) ?_
              first
              | (have z : mDW C j p0 = false := c_67
                 exact ih (by omega) b _ _ (keep (Or.inl z)))
              | (have z : (if b = 0 then (-1 : Int32) else nI b) = -1 := c_72
                 have z0 : b = 0 := by
                   by_cases y : b = 0
                   · exact y
                   · rw [if_neg y] at z
                     have : b ≤ 30 := by rcases hb with ⟨b0, -⟩ | ⟨-, b2, -⟩ <;> omega
                     exact absurd z (nI_m1 (by omega))
                 have y := ih (by omega) (e - dy % e) (some (.ref (A (50 + j)))) (some (.int (nI (e - dy % e)))) (take c_67 (Or.inl z0))
                 rw [if_neg (show ¬ e - dy % e = 0 by omega)] at y
                 exact y)
              | (have z : ¬ (if b = 0 then (-1 : Int32) else nI b) = -1 := c_72
                 have z0 : b ≠ 0 := fun y => z (if_pos y)
                 have hb30 : b ≤ 30 := by rcases hb with ⟨b0, -⟩ | ⟨-, b2, -⟩ <;> omega
                 rw [if_neg z0] at c_78
                 first
                 | (have c2 : b ≤ e - dy % e := by have y := c_78; rw [nI_leI (by omega) (by omega)] at y; exact y
                    exact ih (by omega) b _ _ (keep (Or.inr ⟨z0, c2⟩)))
                 | (have c2 : e - dy % e < b := by
                      have y := Int32.not_le.mp c_78
                      exact (nI_ltI (by omega) (by omega)).mp y
                    have y := ih (by omega) (e - dy % e) (some (.ref (A (50 + j)))) (some (.int (nI (e - dy % e)))) (take c_67 (Or.inr c2))
                    rw [if_neg (show ¬ e - dy % e = 0 by omega)] at y
                    exact y))
            · refine j_iload dX0_dinesIn_81 rfl ?_
              refine j_istore_n dX0_dinesIn_83 (by decide) ?_
              first | refine j_iincN dX0_dinesIn_84 rfl (by decide) ?_ | refine j_iinc dX0_dinesIn_84 rfl rfl (by decide) ?_
              refine j_goto (tgt := 18) dX0_dinesIn_87 (by decide) ?_
              first
              | (have z : mDW C j p0 = false := c_67
                 exact ih (by omega) b _ _ (keep (Or.inl z)))
              | (have z : (if b = 0 then (-1 : Int32) else nI b) = -1 := c_72
                 have z0 : b = 0 := by
                   by_cases y : b = 0
                   · exact y
                   · rw [if_neg y] at z
                     have : b ≤ 30 := by rcases hb with ⟨b0, -⟩ | ⟨-, b2, -⟩ <;> omega
                     exact absurd z (nI_m1 (by omega))
                 have y := ih (by omega) (e - dy % e) (some (.ref (A (50 + j)))) (some (.int (nI (e - dy % e)))) (take c_67 (Or.inl z0))
                 rw [if_neg (show ¬ e - dy % e = 0 by omega)] at y
                 exact y)
              | (have z : ¬ (if b = 0 then (-1 : Int32) else nI b) = -1 := c_72
                 have z0 : b ≠ 0 := fun y => z (if_pos y)
                 have hb30 : b ≤ 30 := by rcases hb with ⟨b0, -⟩ | ⟨-, b2, -⟩ <;> omega
                 rw [if_neg z0] at c_78
                 first
                 | (have c2 : b ≤ e - dy % e := by have y := c_78; rw [nI_leI (by omega) (by omega)] at y; exact y
                    exact ih (by omega) b _ _ (keep (Or.inr ⟨z0, c2⟩)))
                 | (have c2 : e - dy % e < b := by
                      have y := Int32.not_le.mp c_78
                      exact (nI_ltI (by omega) (by omega)).mp y
                    have y := ih (by omega) (e - dy % e) (some (.ref (A (50 + j)))) (some (.int (nI (e - dy % e)))) (take c_67 (Or.inr c2))
                    rw [if_neg (show ¬ e - dy % e = 0 by omega)] at y
                    exact y))
    · skip
      refine j_iload_n dX0_dinesIn_18 rfl ?_
      first | refine j_aload_n dX0_dinesIn_19 rfl ?_ | refine j_aload_nN dX0_dinesIn_19 rfl ?_
      refine j_getR dX0_dinesIn_20 fl_X0_38 rfl (by first | exact Fa.sh hf | assumption) (by first | exact Fq.f3 hg | assumption) ?_
      refine j_getI dX0_dinesIn_23 fl_X0_155 rfl (by first | exact Pv.sh hR | assumption) (by first | exact pg (Pv.li hR 6 2 rfl (by decide)) | assumption) ?_
      rw [hD]
      first | (with_reducible refine j_gNN ?_; refine j_icmp_geN (tgt := 90) dX0_dinesIn_26 (by decide) (by omega) (by omega) (fun c_26 => ?_) (fun c_26 => ?_)) | refine j_icmp_ge (tgt := 90) dX0_dinesIn_26 (by decide) (fun c_26 => ?_) (fun c_26 => ?_)
      · first | refine j_aload_n dX0_dinesIn_90 rfl ?_ | refine j_aload_nN dX0_dinesIn_90 rfl ?_
        refine j_iload_n dX0_dinesIn_91 rfl ?_
        refine j_dV1 kl_X0_309 (x_orNothing (Fa.sh hf) _) dX0_dinesIn_92 rfl rfl (by decide) (by first | exact Fa.sh hf | assumption) (Nat.le_of_ble_eq_true rfl) (by first | decide | omega) (by omega) (by omega) ?_
        refine j_iret dX0_dinesIn_95 ⟨_, rfl, rfl⟩ (by omega) (by omega) ?_
        have e : j = Dn := by omega
        subst e
        refine pxR hn ?_
        unfold oDinesIn
        rw [if_pos eP]
        rcases hb with ⟨b0, b1⟩ | ⟨b1, b2, ⟨d, e1, d1, d2, d3, d4, d5, d6⟩, b4⟩
        · rw [fUp_all (fun t ht => by
            rw [Bool.not_eq_false', allB_iff]
            intro d hd
            obtain ⟨e, -, -, -, z⟩ := hits d hd
            rcases z (t + 1) with z | z
            · rw [z, b1 d hd]; rfl
            · omega), if_pos b0]
          rfl
        · have hz : fUp (fun t => !allB (dinF C p0 (t + 1)) j) 30 = some (b - 1) := by
            refine fUp_first (fun t ht => ?_) ?_ (by omega)
            · rw [Bool.not_eq_false', allB_iff]
              intro d' hd'
              obtain ⟨e, z1, z2, z3, z⟩ := hits d' hd'
              rcases z (t + 1) with z | z
              · rw [z]
                cases y : mDW C d' p0 with
                | false => rfl
                | true =>
                  have h1 := b4 d' e hd' y z1 z2 z3
                  have h2 : ¬ (dy + (t + 1)) % e = 0 := fun h3 => by
                    have hml := Nat.mod_lt dy (show e > 0 by omega)
                    rw [Nat.add_mod, ← Nat.add_mod, ← Nat.mod_add_mod] at h3
                    rw [Nat.mod_eq_of_lt (by omega)] at h3
                    omega
                  rw [decide_eq_false h2]
                  rfl
              · omega
            · rw [Bool.not_eq_true', Bool.eq_false_iff]
              intro h
              have h1 := (allB_iff j).mp h d d1
              obtain ⟨e, z1, z2, z3, z⟩ := hits d d1
              have ee : e = e1 := by rw [z1] at d3; exact (nI_eq (by omega) (by omega)).mp d3
              subst ee
              have hml := Nat.mod_lt dy (show e > 0 by omega)
              rcases z (b - 1 + 1) with z | z
              · rw [z, d2, Bool.true_and] at h1
                have h2 : (dy + (b - 1 + 1)) % e = 0 := by
                  rw [← Nat.mod_add_mod, show dy % e + (b - 1 + 1) = e by omega, Nat.mod_self]
                rw [decide_eq_true h2] at h1
                cases h1
              · omega
          rw [hz, if_neg (show ¬ b = 0 by omega), if_neg (nI_m1 (by omega))]
          show (nI (b - 1 + 1), nI 0) = (nI b, nI 0)
          rw [show b - 1 + 1 = b by omega]
      · exact absurd c_26 hjD
  first | refine j_aload_n dX0_dinesIn_0 rfl ?_ | refine j_aload_nN dX0_dinesIn_0 rfl ?_
  refine j_iload_n dX0_dinesIn_1 rfl ?_
  refine j_dV1 kl_X0_264 (x_isPerson hf hg hR hP hP6 _) dX0_dinesIn_2 rfl rfl (by decide) (by first | exact Fa.sh hf | assumption) (Nat.le_of_ble_eq_true rfl) (by first | decide | omega) (by omega) (by omega) ?_
  first | (with_reducible refine j_gB ?_; refine j_if_neB (tgt := 14) dX0_dinesIn_5 (by decide) (fun c_5 => ?_) (fun c_5 => ?_)) | (with_reducible refine j_gC ?_; refine j_if_neC (tgt := 14) dX0_dinesIn_5 (by decide) (fun c_5 => ?_) (fun c_5 => ?_)) | (with_reducible refine j_gN ?_; refine j_if_neN (tgt := 14) dX0_dinesIn_5 (by decide) (by omega) (fun c_5 => ?_) (fun c_5 => ?_)) | refine j_if_ne (tgt := 14) dX0_dinesIn_5 (by decide) (fun c_5 => ?_) (fun c_5 => ?_)
  · refine j_iconst (v := -1) dX0_dinesIn_14 (by decide +kernel) ?_
    refine j_istore_n dX0_dinesIn_15 (by decide) ?_
    refine j_iconst (v := nI 0) dX0_dinesIn_16 (by decide +kernel) ?_
    refine j_istore_n dX0_dinesIn_17 (by decide) ?_
    exact key c_5 0 (by omega) 0 _ _ (Or.inl ⟨rfl, fun d hd => by omega⟩)
  · first | refine j_aload_n dX0_dinesIn_8 rfl ?_ | refine j_aload_nN dX0_dinesIn_8 rfl ?_
    refine j_iconst (v := nI 2) dX0_dinesIn_9 (by decide +kernel) ?_
    refine j_dV1 kl_X0_98 (x_none (Fa.sh hf) _) dX0_dinesIn_10 rfl rfl (by decide) (by first | exact Fa.sh hf | assumption) (Nat.le_of_ble_eq_true rfl) (by first | decide | omega) (by omega) (by omega) ?_
    refine j_iret dX0_dinesIn_13 ⟨_, rfl, rfl⟩ (by omega) (by omega) ?_
    exact pxR hn (by simp [oDinesIn, *])
end X15s
