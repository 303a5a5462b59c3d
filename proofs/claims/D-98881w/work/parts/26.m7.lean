/-! THE MODEL: unlike lengths; plaits' reasons; dining; games; odds; copies; trays -/
set_option maxRecDepth 100000
theorem lN_0 : lN 0 = 0 := by decide +kernel
theorem lN_to {n : Nat} (h : n < 2 ^ 62) : (lN n).toInt = n := lg_ofNat_toInt (by omega)
theorem lN_inj {a b : Nat} (ha : a < 2 ^ 62) (hb : b < 2 ^ 62) (h : lN a = lN b) : a = b := by
  have := congrArg Int64.toInt h
  rw [lN_to ha, lN_to hb] at this
  omega
theorem lN_div {a b : Nat} (ha : a < 2 ^ 62) (hb : b < 2 ^ 62) : lN a / lN b = lN (a / b) := by
  apply Int64.toInt_inj.mp
  have h1 : a / b ≤ a := Nat.div_le_self a b
  rw [Int64.toInt_div, lN_to ha, lN_to hb, lN_to (by omega), Int.tdiv_eq_ediv_of_nonneg (by omega)]
  have h2 : ((a : Int) / (b : Int)) = ((a / b : Nat) : Int) := by rw [Int.natCast_ediv]
  rw [h2]
  generalize a / b = q at h1 ⊢
  exact Int.bmod_eq_of_le (by omega) (by omega)
theorem lN_mul' {a b : Nat} : lN a * lN b = lN (a * b) := (Int64.ofNat_mul a b).symm
theorem lN_add' {a b : Nat} : lN a + lN b = lN (a + b) := (Int64.ofNat_add a b).symm
theorem lN_sub' {a b : Nat} (h : b ≤ a) : lN a - lN b = lN (a - b) := by
  have e : lN a = lN (a - b) + lN b := by rw [lN_add', Nat.sub_add_cancel h]
  rw [e, Int64.add_sub_cancel]
theorem lN_rem {a b : Nat} (ha : a < 2 ^ 62) (hb : b < 2 ^ 62) : lN a - lN a / lN b * lN b = lN (a % b) := by
  rw [lN_div ha hb, lN_mul', lN_sub' (Nat.div_mul_le_self a b), Nat.mod_eq_sub_div_mul]
theorem abL_lN {a : Nat} (ha : a < 2 ^ 62) : abL (lN a) = lN a := by
  unfold abL
  cases a with
  | zero => decide +kernel
  | succ k =>
    rw [if_pos]
    rw [Int64.lt_iff_toInt_lt, lN_to ha]
    have : (0 : Int64).toInt = 0 := by decide
    omega
def mDW (C : Nat → Int32) (d : Nat) (p : Int32) : Bool := decide (C (145 + d) = p) || decide (C (151 + d) = p)
def mDinF (C : Nat → Int32) (p q : Int32) (d : Nat) : Bool := !(mDW C d p && mDW C d q && decide (¬ p = q))
def mDining (C : Nat → Int32) (Dn : Nat) (p q : Int32) : Bool := !allB (mDinF C p q) Dn
/-- n places of A from off on -/
def cpO (off n : Nat) (A B : Nat → Int32) : Nat → Int32 := fun i => if off ≤ i ∧ i < off + n then A (i - off) else B i
theorem cpO_0 {off : Nat} {A B : Nat → Int32} : cpO off 0 A B = B := by funext i; exact if_neg (by omega)
theorem cpO_s {off n : Nat} {A B : Nat → Int32} : up (cpO off n A B) (off + n) (A n) = cpO off (n + 1) A B := by
  funext i
  unfold up cpO
  by_cases h : i = off + n
  · subst h; rw [if_pos rfl, if_pos (by omega), Nat.add_sub_cancel_left]
  · rw [if_neg h]
    by_cases h2 : off ≤ i ∧ i < off + n
    · rw [if_pos h2, if_pos (by omega)]
    · rw [if_neg h2, if_neg (by omega)]
def cpOL (off n : Nat) (A B : Nat → Int64) : Nat → Int64 := fun i => if off ≤ i ∧ i < off + n then A (i - off) else B i
theorem cpOL_0 {off : Nat} {A B : Nat → Int64} : cpOL off 0 A B = B := by funext i; exact if_neg (by omega)
theorem cpOL_s {off n : Nat} {A B : Nat → Int64} : up (cpOL off n A B) (off + n) (A n) = cpOL off (n + 1) A B := by
  funext i
  unfold up cpOL
  by_cases h : i = off + n
  · subst h; rw [if_pos rfl, if_pos (by omega), Nat.add_sub_cancel_left]
  · rw [if_neg h]
    by_cases h2 : off ≤ i ∧ i < off + n
    · rw [if_pos h2, if_pos (by omega)]
    · rw [if_neg h2, if_neg (by omega)]
def sUL (σ : Sg) (a : Nat) (f : Nat → Int64) : Sg := (σ.1, σ.2.1, up σ.2.2.1 a f, σ.2.2.2)
theorem sUL_I {σ : Sg} {a k : Nat} {f : Nat → Int64} {x : Int64} : sL (sUL σ a f) a k x = sUL σ a (up f k x) := by unfold sL sUL; simp only [up_eq, up_up]
theorem sUL_e {σ : Sg} {a : Nat} {f : Nat → Int64} : (sUL σ a f).2.2.1 a = f := up_eq _ _ _
theorem sUL_n {σ : Sg} {a b : Nat} {f : Nat → Int64} (h : b ≠ a) : (sUL σ a f).2.2.1 b = σ.2.2.1 b := up_ne h
theorem sUL_self {σ : Sg} {a : Nat} : sUL σ a (σ.2.2.1 a) = σ := by unfold sUL; rw [up_self]
def sfP (C : Nat → Int32) (times : Int32) (k : Nat) : Int64 := if nI k < times then (nI 16 - C 5).toInt64 else 16
def mSafeBy (C : Nat → Int32) (times : Int32) : Nat → Int64
  | 0 => 1
  | k + 1 => mSafeBy C times k * sfP C times k
def mWhyG (P : Nat) (a b t least : Int32) : Int32 := if okN a P && okN b P then (if ¬ a = b ∧ inL t.toInt64 least.toInt64 3 = true then nI 0 else nI 5) else nI 2
def mTrayed (M : Nat → Int32) (t : Int32) : Int32 := if okN t 4 then (if M (ixn t) < 0 then nI 3 else nI 0) else nI 1
def mPlaced (M : Nat → Int32) (t k : Int32) : Int32 := if mTrayed M t = nI 0 then (if 0 ≤ k ∧ k < M (ixn t) then nI 0 else nI 4) else mTrayed M t
def mCutL (sort : Int32) (v : Int64) : Int64 := if sort = 0 then v.toInt32.toInt8.toInt32.toInt64 else if sort = nI 1 then v.toInt32.toInt16.toInt32.toInt64 else if sort = nI 2 then v.toInt32.toInt64 else v
theorem okN_f {t : Int32} {n : Nat} (hn : n < 2 ^ 31) (h : t < 0 ∨ nI n ≤ t) : okN t n = false := by
  unfold okN
  rw [Bool.and_eq_false_iff, decide_eq_false_iff_not, decide_eq_false_iff_not]
  rcases h with h | h
  · left
    have := Int32.lt_iff_toInt_lt.mp h
    rw [Int32.toInt_zero] at this
    omega
  · right
    have := Int32.le_iff_toInt_le.mp h
    rw [nI_toInt hn] at this
    omega
theorem okN_t {t : Int32} {n : Nat} (hn : n < 2 ^ 31) (h1 : ¬ t < 0) (h2 : t < nI n) : okN t n = true := by
  unfold okN
  rw [Bool.and_eq_true, decide_eq_true_eq, decide_eq_true_eq]
  have e1 := Int32.le_iff_toInt_le.mp (Int32.not_lt.mp h1)
  rw [Int32.toInt_zero] at e1
  have e2 := Int32.lt_iff_toInt_lt.mp h2
  rw [nI_toInt hn] at e2
  exact ⟨e1, e2⟩
section M7
variable {g : Gx} {l : Launch} {σ : Sg} {h : Nat} {ad : Nat → Nat} {C : Nat → Int32}
theorem m_dinesWith (H : Mo σ h ad) (hC : σ.2.1 (ad 20) = C) {d : Nat} (hd : d < 6) (p : Int32) : Kd g l 0 MX9_dinesWith [.ref h, .int (nI d), .int p] σ (some (.int (bI (mDW C d p)))) σ := by
  refine Kt.go (Y := MX9_dinesWith) (ls := [some (.ref h), some (.int (nI d)), some (.int p)]) (by decide) (Nat.le_of_ble_eq_true rfl) rfl ?_
  first | refine j_aload_n dX9_dinesWith_0 rfl ?_ | refine j_aload_nN dX9_dinesWith_0 rfl ?_
  refine j_getR dX9_dinesWith_1 fl_X9_35 rfl (Mo.h H) (Mo.R H _ _ _ rfl) ?_
  refine j_sipush (v := nI 145) dX9_dinesWith_4 (by decide +kernel) ?_
  refine j_iload_n dX9_dinesWith_7 rfl ?_
  first | (with_reducible refine j_gNN ?_; refine j_iaddN dX9_dinesWith_8 ?_) | refine j_iadd dX9_dinesWith_8 ?_
  refine j_iald dX9_dinesWith_9 (Mo.S H _ _ _ rfl) rfl (by omega) (by decide) (by first | assumption | (rewrite [hC]; first | assumption | rfl) | rfl) ?_
  refine j_iload_n dX9_dinesWith_10 rfl ?_
  first | (with_reducible refine j_gNN ?_; refine j_icmp_eqN (tgt := 28) dX9_dinesWith_11 (by decide) (by omega) (by omega) (fun c_11 => ?_) (fun c_11 => ?_)) | refine j_icmp_eq (tgt := 28) dX9_dinesWith_11 (by decide) (fun c_11 => ?_) (fun c_11 => ?_)
  · refine j_iconst (v := nI 1) dX9_dinesWith_28 (by decide +kernel) ?_
    refine j_goto (tgt := 33) dX9_dinesWith_29 (by decide) ?_
    refine j_iret dX9_dinesWith_33 ⟨_, rfl, rfl⟩ (by omega) (by omega) ?_
    exact ⟨by unfold mDW; first | (rw [decide_eq_true c_11]; rfl) | (rw [decide_eq_true c_25, Bool.or_true]; rfl) | (rw [decide_eq_false c_11, decide_eq_false c_25]; rfl), rfl⟩
  · first | refine j_aload_n dX9_dinesWith_14 rfl ?_ | refine j_aload_nN dX9_dinesWith_14 rfl ?_
    refine j_getR dX9_dinesWith_15 fl_X9_35 rfl (Mo.h H) (Mo.R H _ _ _ rfl) ?_
    refine j_sipush (v := nI 151) dX9_dinesWith_18 (by decide +kernel) ?_
    refine j_iload_n dX9_dinesWith_21 rfl ?_
    first | (with_reducible refine j_gNN ?_; refine j_iaddN dX9_dinesWith_22 ?_) | refine j_iadd dX9_dinesWith_22 ?_
    refine j_iald dX9_dinesWith_23 (Mo.S H _ _ _ rfl) rfl (by omega) (by decide) (by first | assumption | (rewrite [hC]; first | assumption | rfl) | rfl) ?_
    refine j_iload_n dX9_dinesWith_24 rfl ?_
    first | (with_reducible refine j_gNN ?_; refine j_icmp_neN (tgt := 32) dX9_dinesWith_25 (by decide) (by omega) (by omega) (fun c_25 => ?_) (fun c_25 => ?_)) | refine j_icmp_ne (tgt := 32) dX9_dinesWith_25 (by decide) (fun c_25 => ?_) (fun c_25 => ?_)
    · refine j_iconst (v := nI 0) dX9_dinesWith_32 (by decide +kernel) ?_
      refine j_iret dX9_dinesWith_33 ⟨_, rfl, rfl⟩ (by omega) (by omega) ?_
      exact ⟨by unfold mDW; first | (rw [decide_eq_true c_11]; rfl) | (rw [decide_eq_true c_25, Bool.or_true]; rfl) | (rw [decide_eq_false c_11, decide_eq_false c_25]; rfl), rfl⟩
    · refine j_iconst (v := nI 1) dX9_dinesWith_28 (by decide +kernel) ?_
      refine j_goto (tgt := 33) dX9_dinesWith_29 (by decide) ?_
      refine j_iret dX9_dinesWith_33 ⟨_, rfl, rfl⟩ (by omega) (by omega) ?_
      exact ⟨by unfold mDW; first | (rw [decide_eq_true c_11]; rfl) | (rw [decide_eq_true c_25, Bool.or_true]; rfl) | (rw [decide_eq_false c_11, decide_eq_false c_25]; rfl), rfl⟩
theorem m_areDining (H : Mo σ h ad) (hC : σ.2.1 (ad 20) = C) {Dn : Nat} (hD : C 2 = nI Dn) (hD6 : Dn ≤ 6) (p q : Int32) : Kd g l 1 MX9_areDining [.ref h, .int p, .int q] σ (some (.int (bI (mDining C Dn p q)))) σ := by
  refine Kt.go (Y := MX9_areDining) (ls := [some (.ref h), some (.int p), some (.int q), none]) (by decide) (Nat.le_of_ble_eq_true rfl) rfl ?_
  have key : ∀ j, j ≤ Dn → allB (mDinF C p q) j = true → Td g l 1 MX9_areDining [.ref h, .int p, .int q] σ (some (.int (bI (mDining C Dn p q)))) 2 [some (.ref h), some (.int p), some (.int q), some (.int (nI j))] [] σ := by
    refine loop_up fun j hj ih => ?_
    intro hA
    refine j_iload_n dX9_areDining_2 rfl ?_
    first | refine j_aload_n dX9_areDining_3 rfl ?_ | refine j_aload_nN dX9_areDining_3 rfl ?_
    refine j_getR dX9_areDining_4 fl_X9_35 rfl (Mo.h H) (Mo.R H _ _ _ rfl) ?_
    refine j_iconst (v := nI 2) dX9_areDining_7 (by decide +kernel) ?_
    refine j_iald dX9_areDining_8 (Mo.S H _ _ _ rfl) rfl (by omega) (by decide) (by first | assumption | (rewrite [hC]; first | assumption | rfl) | rfl) ?_
    first | (with_reducible refine j_gNN ?_; refine j_icmp_geN (tgt := 43) dX9_areDining_9 (by decide) (by omega) (by omega) (fun c_9 => ?_) (fun c_9 => ?_)) | refine j_icmp_ge (tgt := 43) dX9_areDining_9 (by decide) (fun c_9 => ?_) (fun c_9 => ?_)
    · refine j_iconst (v := nI 0) dX9_areDining_43 (by decide +kernel) ?_
      refine j_iret dX9_areDining_44 ⟨_, rfl, rfl⟩ (by omega) (by omega) ?_
      exact ⟨by rw [mDining, ← show j = Dn by omega, hA]; rfl, rfl⟩
    · first | refine j_aload_n dX9_areDining_12 rfl ?_ | refine j_aload_nN dX9_areDining_12 rfl ?_
      refine j_iload_n dX9_areDining_13 rfl ?_
      refine j_iload_n dX9_areDining_14 rfl ?_
      refine j_dV1 kl_X9_418 (m_dinesWith H hC (by omega) p) dX9_areDining_15 rfl rfl (by decide) (Mo.h H) (Nat.le_of_ble_eq_true rfl) (by first | decide | omega) (by omega) (by omega) ?_
      first | (with_reducible refine j_gB ?_; refine j_if_eqB (tgt := 37) dX9_areDining_18 (by decide) (fun c_18 => ?_) (fun c_18 => ?_)) | (with_reducible refine j_gC ?_; refine j_if_eqC (tgt := 37) dX9_areDining_18 (by decide) (fun c_18 => ?_) (fun c_18 => ?_)) | (with_reducible refine j_gN ?_; refine j_if_eqN (tgt := 37) dX9_areDining_18 (by decide) (by omega) (fun c_18 => ?_) (fun c_18 => ?_)) | refine j_if_eq (tgt := 37) dX9_areDining_18 (by decide) (fun c_18 => ?_) (fun c_18 => ?_)
      · first | refine j_iincN dX9_areDining_37 rfl (by decide) ?_ | refine j_iinc dX9_areDining_37 rfl rfl (by decide) ?_
        refine j_goto (tgt := 2) dX9_areDining_40 (by decide) ?_
        refine ih (by omega) ?_
        rw [allB, hA, mDinF]
        first
        | (rw [c_18]; rfl)
        | (rw [c_18, c_27]; rfl)
        | (rw [c_18, c_27, decide_eq_false (fun q => q c_32)]; rfl)
      · first | refine j_aload_n dX9_areDining_21 rfl ?_ | refine j_aload_nN dX9_areDining_21 rfl ?_
        refine j_iload_n dX9_areDining_22 rfl ?_
        refine j_iload_n dX9_areDining_23 rfl ?_
        refine j_dV1 kl_X9_418 (m_dinesWith H hC (by omega) q) dX9_areDining_24 rfl rfl (by decide) (Mo.h H) (Nat.le_of_ble_eq_true rfl) (by first | decide | omega) (by omega) (by omega) ?_
        first | (with_reducible refine j_gB ?_; refine j_if_eqB (tgt := 37) dX9_areDining_27 (by decide) (fun c_27 => ?_) (fun c_27 => ?_)) | (with_reducible refine j_gC ?_; refine j_if_eqC (tgt := 37) dX9_areDining_27 (by decide) (fun c_27 => ?_) (fun c_27 => ?_)) | (with_reducible refine j_gN ?_; refine j_if_eqN (tgt := 37) dX9_areDining_27 (by decide) (by omega) (fun c_27 => ?_) (fun c_27 => ?_)) | refine j_if_eq (tgt := 37) dX9_areDining_27 (by decide) (fun c_27 => ?_) (fun c_27 => ?_)
        · first | refine j_iincN dX9_areDining_37 rfl (by decide) ?_ | refine j_iinc dX9_areDining_37 rfl rfl (by decide) ?_
          refine j_goto (tgt := 2) dX9_areDining_40 (by decide) ?_
          refine ih (by omega) ?_
          rw [allB, hA, mDinF]
          first
          | (rw [c_18]; rfl)
          | (rw [c_18, c_27]; rfl)
          | (rw [c_18, c_27, decide_eq_false (fun q => q c_32)]; rfl)
        · refine j_iload_n dX9_areDining_30 rfl ?_
          refine j_iload_n dX9_areDining_31 rfl ?_
          first | (with_reducible refine j_gNN ?_; refine j_icmp_eqN (tgt := 37) dX9_areDining_32 (by decide) (by omega) (by omega) (fun c_32 => ?_) (fun c_32 => ?_)) | refine j_icmp_eq (tgt := 37) dX9_areDining_32 (by decide) (fun c_32 => ?_) (fun c_32 => ?_)
          · first | refine j_iincN dX9_areDining_37 rfl (by decide) ?_ | refine j_iinc dX9_areDining_37 rfl rfl (by decide) ?_
            refine j_goto (tgt := 2) dX9_areDining_40 (by decide) ?_
            refine ih (by omega) ?_
            rw [allB, hA, mDinF]
            first
            | (rw [c_18]; rfl)
            | (rw [c_18, c_27]; rfl)
            | (rw [c_18, c_27, decide_eq_false (fun q => q c_32)]; rfl)
          · refine j_iconst (v := nI 1) dX9_areDining_35 (by decide +kernel) ?_
            refine j_iret dX9_areDining_36 ⟨_, rfl, rfl⟩ (by omega) (by omega) ?_
            exact ⟨by rw [mDining, allB_le (m := j + 1) (by rw [allB, hA, mDinF, c_18, c_27, decide_eq_true c_32]; rfl) (by omega)]; rfl, rfl⟩
  refine j_iconst (v := nI 0) dX9_areDining_0 (by decide +kernel) ?_
  refine j_istore_n dX9_areDining_1 (by decide) ?_
  exact key 0 (by omega) rfl
theorem m_laysTurn (H : Mo σ h ad) (hC : σ.2.1 (ad 20) = C) {T : Nat → Int32} (hT : σ.2.1 (ad 32) = T) {t : Nat} (ht : t ≤ 3) : Kd g l 0 MX9_laysTurn [.ref h, .int (nI t)] σ none (sU σ (ad 32) (cpO (175 * t) 175 C T)) := by
  have ne : ad 20 ≠ ad 32 := Mo.ne H (by decide) (by decide) (by decide)
  have H0 := H
  have hC0 := hC
  refine Kt.go (Y := MX9_laysTurn) (ls := [some (.ref h), some (.int (nI t)), none]) (by decide) (Nat.le_of_ble_eq_true rfl) rfl ?_
  have key : ∀ j, j ≤ 175 → ∀ D, D = cpO (175 * t) j C T → Td g l 0 MX9_laysTurn [.ref h, .int (nI t)] (sU σ (ad 32) (cpO (175 * t) 175 C T)) none 2 [some (.ref h), some (.int (nI t)), some (.int (nI j))] [] (sU σ (ad 32) D) := by
    refine loop_up fun j hj ih => ?_
    intro D hD
    have H : Mo (sU σ (ad 32) D) h ad := H0
    have hC : (sU σ (ad 32) D).2.1 (ad 20) = C := (sU_n ne).trans hC0
    refine j_iload_n dX9_laysTurn_2 rfl ?_
    refine j_sipush (v := nI 175) dX9_laysTurn_3 (by decide +kernel) ?_
    first | (with_reducible refine j_gNN ?_; refine j_icmp_geN (tgt := 33) dX9_laysTurn_6 (by decide) (by omega) (by omega) (fun c_6 => ?_) (fun c_6 => ?_)) | refine j_icmp_ge (tgt := 33) dX9_laysTurn_6 (by decide) (fun c_6 => ?_) (fun c_6 => ?_)
    · refine j_vret dX9_laysTurn_33 rfl (by omega) (by omega) ?_
      exact ⟨rfl, by rw [hD, show j = 175 by omega]⟩
    · first | refine j_aload_n dX9_laysTurn_9 rfl ?_ | refine j_aload_nN dX9_laysTurn_9 rfl ?_
      refine j_getR dX9_laysTurn_10 fl_X9_57 rfl (Mo.h H) (Mo.R H _ _ _ rfl) ?_
      refine j_sipush (v := nI 175) dX9_laysTurn_13 (by decide +kernel) ?_
      refine j_iload_n dX9_laysTurn_16 rfl ?_
      first | (with_reducible refine j_gNN ?_; refine j_imulN dX9_laysTurn_17 ?_) | refine j_imul dX9_laysTurn_17 ?_
      refine j_iload_n dX9_laysTurn_18 rfl ?_
      first | (with_reducible refine j_gNN ?_; refine j_iaddN dX9_laysTurn_19 ?_) | refine j_iadd dX9_laysTurn_19 ?_
      first | refine j_aload_n dX9_laysTurn_20 rfl ?_ | refine j_aload_nN dX9_laysTurn_20 rfl ?_
      refine j_getR dX9_laysTurn_21 fl_X9_35 rfl (Mo.h H) (Mo.R H _ _ _ rfl) ?_
      refine j_iload_n dX9_laysTurn_24 rfl ?_
      refine j_iald dX9_laysTurn_25 (Mo.S H _ _ _ rfl) rfl (by omega) (by decide) (by first | assumption | (rewrite [hC]; first | assumption | rfl) | rfl) ?_
      refine j_iast dX9_laysTurn_26 (Mo.S H _ _ _ rfl) rfl (by omega) (by decide) ?_
      first | refine j_iincN dX9_laysTurn_27 rfl (by decide) ?_ | refine j_iinc dX9_laysTurn_27 rfl rfl (by decide) ?_
      refine j_goto (tgt := 2) dX9_laysTurn_30 (by decide) ?_
      exact j_eq rfl rfl sU_I (ih (by omega) _ (by rw [hD]; exact cpO_s))
  refine j_iconst (v := nI 0) dX9_laysTurn_0 (by decide +kernel) ?_
  refine j_istore_n dX9_laysTurn_1 (by decide) ?_
  exact j_eq rfl rfl (by rw [cpO_0, ← hT]; exact sU_self.symm) (key 0 (by omega) _ rfl)
theorem m_takesTurn (H : Mo σ h ad) (hC0 : σ.2.1 (ad 20) = C) {T : Nat → Int32} (hT : σ.2.1 (ad 32) = T) {t : Nat} (ht : t ≤ 3) : Kd g l 0 MX9_takesTurn [.ref h, .int (nI t)] σ none (sU σ (ad 20) (cpN 175 (fun k => T (175 * t + k)) C)) := by
  have ne : ad 32 ≠ ad 20 := Mo.ne H (by decide) (by decide) (by decide)
  have H0 := H
  refine Kt.go (Y := MX9_takesTurn) (ls := [some (.ref h), some (.int (nI t)), none]) (by decide) (Nat.le_of_ble_eq_true rfl) rfl ?_
  have key : ∀ j, j ≤ 175 → ∀ D, D = cpN j (fun k => T (175 * t + k)) C → Td g l 0 MX9_takesTurn [.ref h, .int (nI t)] (sU σ (ad 20) (cpN 175 (fun k => T (175 * t + k)) C)) none 2 [some (.ref h), some (.int (nI t)), some (.int (nI j))] [] (sU σ (ad 20) D) := by
    refine loop_up fun j hj ih => ?_
    intro D hD
    have H : Mo (sU σ (ad 20) D) h ad := H0
    have hC : (sU σ (ad 20) D).2.1 (ad 32) = T := (sU_n ne).trans hT
    refine j_iload_n dX9_takesTurn_2 rfl ?_
    refine j_sipush (v := nI 175) dX9_takesTurn_3 (by decide +kernel) ?_
    first | (with_reducible refine j_gNN ?_; refine j_icmp_geN (tgt := 33) dX9_takesTurn_6 (by decide) (by omega) (by omega) (fun c_6 => ?_) (fun c_6 => ?_)) | refine j_icmp_ge (tgt := 33) dX9_takesTurn_6 (by decide) (fun c_6 => ?_) (fun c_6 => ?_)
    · refine j_vret dX9_takesTurn_33 rfl (by omega) (by omega) ?_
      exact ⟨rfl, by rw [hD, show j = 175 by omega]⟩
    · first | refine j_aload_n dX9_takesTurn_9 rfl ?_ | refine j_aload_nN dX9_takesTurn_9 rfl ?_
      refine j_getR dX9_takesTurn_10 fl_X9_35 rfl (Mo.h H) (Mo.R H _ _ _ rfl) ?_
      refine j_iload_n dX9_takesTurn_13 rfl ?_
      first | refine j_aload_n dX9_takesTurn_14 rfl ?_ | refine j_aload_nN dX9_takesTurn_14 rfl ?_
      refine j_getR dX9_takesTurn_15 fl_X9_57 rfl (Mo.h H) (Mo.R H _ _ _ rfl) ?_
      refine j_sipush (v := nI 175) dX9_takesTurn_18 (by decide +kernel) ?_
      refine j_iload_n dX9_takesTurn_21 rfl ?_
      first | (with_reducible refine j_gNN ?_; refine j_imulN dX9_takesTurn_22 ?_) | refine j_imul dX9_takesTurn_22 ?_
      refine j_iload_n dX9_takesTurn_23 rfl ?_
      first | (with_reducible refine j_gNN ?_; refine j_iaddN dX9_takesTurn_24 ?_) | refine j_iadd dX9_takesTurn_24 ?_
      refine j_iald dX9_takesTurn_25 (Mo.S H _ _ _ rfl) rfl (by omega) (by decide) (by first | assumption | (rewrite [hC]; first | assumption | rfl) | rfl) ?_
      refine j_iast dX9_takesTurn_26 (Mo.S H _ _ _ rfl) rfl (by omega) (by decide) ?_
      first | refine j_iincN dX9_takesTurn_27 rfl (by decide) ?_ | refine j_iinc dX9_takesTurn_27 rfl rfl (by decide) ?_
      refine j_goto (tgt := 2) dX9_takesTurn_30 (by decide) ?_
      exact j_eq rfl rfl sU_I (ih (by omega) _ (by rw [hD]; exact cpN_s))
  refine j_iconst (v := nI 0) dX9_takesTurn_0 (by decide +kernel) ?_
  refine j_istore_n dX9_takesTurn_1 (by decide) ?_
  exact j_eq rfl rfl (by rw [cpN_0, ← hC0]; exact sU_self.symm) (key 0 (by omega) _ rfl)
theorem m_safeBy (H : Mo σ h ad) (hC : σ.2.1 (ad 20) = C) (times : Int32) {n : Nat} (hn : n ≤ 100) : Kd g l 0 MX9_safeBy [.ref h, .int times, .int (nI n)] σ (some (.long (mSafeBy C times n))) σ := by
  refine Kt.go (Y := MX9_safeBy) (ls := [some (.ref h), some (.int times), some (.int (nI n)), none, none, none]) (by decide) (Nat.le_of_ble_eq_true rfl) rfl ?_
  have key : ∀ j, j ≤ n → ∀ a, a = mSafeBy C times j → Td g l 0 MX9_safeBy [.ref h, .int times, .int (nI n)] σ (some (.long (mSafeBy C times n))) 5 [some (.ref h), some (.int times), some (.int (nI n)), some (.long a), none, some (.int (nI j))] [] σ := by
    refine loop_up fun j hj ih => ?_
    intro a ha
    refine j_iload dX9_safeBy_5 rfl ?_
    refine j_iload_n dX9_safeBy_7 rfl ?_
    first | (with_reducible refine j_gNN ?_; refine j_icmp_geN (tgt := 42) dX9_safeBy_8 (by decide) (by omega) (by omega) (fun c_8 => ?_) (fun c_8 => ?_)) | refine j_icmp_ge (tgt := 42) dX9_safeBy_8 (by decide) (fun c_8 => ?_) (fun c_8 => ?_)
    · refine j_lload_n dX9_safeBy_42 rfl ?_
      refine j_lret dX9_safeBy_43 rfl (by omega) (by omega) ?_
      exact ⟨by rw [ha, show j = n by omega], rfl⟩
    · refine j_lload_n dX9_safeBy_11 rfl ?_
      refine j_iload dX9_safeBy_12 rfl ?_
      refine j_iload_n dX9_safeBy_14 rfl ?_
      first | (with_reducible refine j_gNN ?_; refine j_icmp_geN (tgt := 31) dX9_safeBy_15 (by decide) (by omega) (by omega) (fun c_15 => ?_) (fun c_15 => ?_)) | refine j_icmp_ge (tgt := 31) dX9_safeBy_15 (by decide) (fun c_15 => ?_) (fun c_15 => ?_)
      · refine j_ldc2 (v := 16) dX9_safeBy_31 q2162 ?_
        refine j_lmul dX9_safeBy_34 ?_
        refine j_lstore_n dX9_safeBy_35 (by decide) ?_
        first | refine j_iincN dX9_safeBy_36 rfl (by decide) ?_ | refine j_iinc dX9_safeBy_36 rfl rfl (by decide) ?_
        refine j_goto (tgt := 5) dX9_safeBy_39 (by decide) ?_
        exact ih (by omega) _ (by rw [ha, mSafeBy, sfP]; first | rw [if_pos (Int32.not_le.mp c_15)] | rw [if_neg (Int32.not_lt.mpr c_15)])
      · refine j_bipush (v := nI 16) dX9_safeBy_18 (by decide +kernel) ?_
        first | refine j_aload_n dX9_safeBy_20 rfl ?_ | refine j_aload_nN dX9_safeBy_20 rfl ?_
        refine j_getR dX9_safeBy_21 fl_X9_35 rfl (Mo.h H) (Mo.R H _ _ _ rfl) ?_
        refine j_iconst (v := nI 5) dX9_safeBy_24 (by decide +kernel) ?_
        refine j_iald dX9_safeBy_25 (Mo.S H _ _ _ rfl) rfl (by omega) (by decide) (by first | assumption | (rewrite [hC]; first | assumption | rfl) | rfl) ?_
        refine j_isub dX9_safeBy_26 ?_
        refine j_i2l dX9_safeBy_27 ?_
        refine j_goto (tgt := 34) dX9_safeBy_28 (by decide) ?_
        refine j_lmul dX9_safeBy_34 ?_
        refine j_lstore_n dX9_safeBy_35 (by decide) ?_
        first | refine j_iincN dX9_safeBy_36 rfl (by decide) ?_ | refine j_iinc dX9_safeBy_36 rfl rfl (by decide) ?_
        refine j_goto (tgt := 5) dX9_safeBy_39 (by decide) ?_
        exact ih (by omega) _ (by rw [ha, mSafeBy, sfP]; first | rw [if_pos (Int32.not_le.mp c_15)] | rw [if_neg (Int32.not_lt.mpr c_15)])
  refine j_lconst (v := 1) dX9_safeBy_0 (by decide +kernel) ?_
  refine j_lstore_n dX9_safeBy_1 (by decide) ?_
  refine j_iconst (v := nI 0) dX9_safeBy_2 (by decide +kernel) ?_
  refine j_istore dX9_safeBy_3 (by decide) ?_
  exact key 0 (by omega) _ rfl
theorem m_fraction (H : Mo σ h ad) {n d : Nat} (hn : n < 2 ^ 62) (hd : d < 2 ^ 62) (hd1 : 1 ≤ d) : Kd g l 0 MX9_fraction [.ref h, .long (lN n), .long (lN d)] σ (some (.int (bI true))) (sL (sL σ h 2 (lN (n / n.gcd d))) h 3 (lN (d / n.gcd d))) := by
  refine Kt.go (Y := MX9_fraction) (ls := [some (.ref h), some (.long (lN n)), none, some (.long (lN d)), none, none, none, none, none, none, none]) (by decide) (Nat.le_of_ble_eq_true rfl) rfl ?_
  have key : ∀ b a x y, a < 2 ^ 62 → b < 2 ^ 62 → (a.gcd b = n.gcd d) → (0 < a ∨ 0 < b) → Td g l 0 MX9_fraction [.ref h, .long (lN n), .long (lN d)] (sL (sL σ h 2 (lN (n / n.gcd d))) h 3 (lN (d / n.gcd d))) (some (.int (bI true))) 9 [some (.ref h), some (.long (lN n)), none, some (.long (lN d)), none, some (.long (lN a)), none, some (.long (lN b)), none, x, y] [] σ := by
    refine loop_dn fun b ih => ?_
    intro a x y ha hb hg hp
    by_cases hb0 : b = 0
    · subst hb0
      have ea : a = n.gcd d := by rw [← hg, Nat.gcd_zero_right]
      have hne : ¬ lN a = 0 := fun q => by
        have := lN_inj (by omega) (by decide) (q.trans lN_0.symm)
        omega
      refine j_lload dX9_fraction_9 rfl ?_
      refine j_lconst (v := 0) dX9_fraction_11 (by decide +kernel) ?_
      refine j_lcmp dX9_fraction_12 ?_
      first | (with_reducible refine j_gB ?_; refine j_if_eqB (tgt := 34) dX9_fraction_13 (by decide) (fun c_13 => ?_) (fun c_13 => ?_)) | (with_reducible refine j_gC ?_; refine j_if_eqC (tgt := 34) dX9_fraction_13 (by decide) (fun c_13 => ?_) (fun c_13 => ?_)) | (with_reducible refine j_gN ?_; refine j_if_eqN (tgt := 34) dX9_fraction_13 (by decide) (by omega) (fun c_13 => ?_) (fun c_13 => ?_)) | refine j_if_eq (tgt := 34) dX9_fraction_13 (by decide) (fun c_13 => ?_) (fun c_13 => ?_)
      · first | refine j_aload_n dX9_fraction_34 rfl ?_ | refine j_aload_nN dX9_fraction_34 rfl ?_
        refine j_lload_n dX9_fraction_35 rfl ?_
        refine j_lload dX9_fraction_36 rfl ?_
        refine j_ldiv dX9_fraction_38 hne ?_
        refine j_putL dX9_fraction_39 fl_X9_73 rfl (Mo.h H) rfl rfl rfl ?_
        first | refine j_aload_n dX9_fraction_42 rfl ?_ | refine j_aload_nN dX9_fraction_42 rfl ?_
        refine j_lload_n dX9_fraction_43 rfl ?_
        refine j_lload dX9_fraction_44 rfl ?_
        refine j_ldiv dX9_fraction_46 hne ?_
        refine j_putL dX9_fraction_47 fl_X9_7 rfl (Mo.h H) rfl rfl rfl ?_
        refine j_iconst (v := nI 1) dX9_fraction_50 (by decide +kernel) ?_
        refine j_iret dX9_fraction_51 ⟨_, rfl, rfl⟩ (by omega) (by omega) ?_
        exact ⟨rfl, by rw [lN_div hn (by omega), lN_div hd (by omega), ea]⟩
      · exact absurd lN_0 c_13
    · have hne : ¬ lN b = 0 := fun q => hb0 (lN_inj (by omega) (by decide) (q.trans lN_0.symm))
      have hm : a % b < b := Nat.mod_lt _ (by omega)
      refine j_lload dX9_fraction_9 rfl ?_
      refine j_lconst (v := 0) dX9_fraction_11 (by decide +kernel) ?_
      refine j_lcmp dX9_fraction_12 ?_
      first | (with_reducible refine j_gB ?_; refine j_if_eqB (tgt := 34) dX9_fraction_13 (by decide) (fun c_13 => ?_) (fun c_13 => ?_)) | (with_reducible refine j_gC ?_; refine j_if_eqC (tgt := 34) dX9_fraction_13 (by decide) (fun c_13 => ?_) (fun c_13 => ?_)) | (with_reducible refine j_gN ?_; refine j_if_eqN (tgt := 34) dX9_fraction_13 (by decide) (by omega) (fun c_13 => ?_) (fun c_13 => ?_)) | refine j_if_eq (tgt := 34) dX9_fraction_13 (by decide) (fun c_13 => ?_) (fun c_13 => ?_)
      · exact absurd c_13 hne
      · refine j_lload dX9_fraction_16 rfl ?_
        refine j_lload dX9_fraction_18 rfl ?_
        refine j_lrem dX9_fraction_20 hne ?_
        refine j_topL (lN_rem ha hb) ?_
        refine j_lstore dX9_fraction_21 (by decide) ?_
        refine j_lload dX9_fraction_23 rfl ?_
        refine j_lstore dX9_fraction_25 (by decide) ?_
        refine j_lload dX9_fraction_27 rfl ?_
        refine j_lstore dX9_fraction_29 (by decide) ?_
        refine j_goto (tgt := 9) dX9_fraction_31 (by decide) ?_
        exact ih (a % b) hm b _ _ hb (by omega) (by rw [← hg, Nat.gcd_comm b, ← Nat.gcd_rec, Nat.gcd_comm]) (Or.inl (by omega))
  refine j_lload_n dX9_fraction_0 rfl ?_
  refine j_absL dX9_fraction_1 q2386 q2387 q194 q2388 (Nat.le_of_ble_eq_true rfl) (by omega) (by omega) ?_
  refine j_topL (abL_lN hn) ?_
  refine j_lstore dX9_fraction_4 (by decide) ?_
  refine j_lload_n dX9_fraction_6 rfl ?_
  refine j_lstore dX9_fraction_7 (by decide) ?_
  exact key d n none none hn hd rfl (Or.inr hd1)
theorem m_whyNoGame (H : Mo σ h ad) (hC : σ.2.1 (ad 20) = C) {P : Nat} (hP : C 1 = nI P) (hP6 : P ≤ 6) (a b t least : Int32) : Kd g l 2 MX9_whyNoGame [.ref h, .int a, .int b, .int t, .int least] σ (some (.int (mWhyG P a b t least))) σ := by
  refine Kt.go (Y := MX9_whyNoGame) (ls := [some (.ref h), some (.int a), some (.int b), some (.int t), some (.int least)]) (by decide) (Nat.le_of_ble_eq_true rfl) rfl ?_
  first | refine j_aload_n dX9_whyNoGame_0 rfl ?_ | refine j_aload_nN dX9_whyNoGame_0 rfl ?_
  refine j_iload_n dX9_whyNoGame_1 rfl ?_
  refine j_dV1 kl_X9_345 (m_isPersonAt H hC hP hP6 a) dX9_whyNoGame_2 rfl rfl (by decide) (Mo.h H) (Nat.le_of_ble_eq_true rfl) (by first | decide | omega) (by omega) (by omega) ?_
  first | (with_reducible refine j_gB ?_; refine j_if_eqB (tgt := 16) dX9_whyNoGame_5 (by decide) (fun c_5 => ?_) (fun c_5 => ?_)) | (with_reducible refine j_gC ?_; refine j_if_eqC (tgt := 16) dX9_whyNoGame_5 (by decide) (fun c_5 => ?_) (fun c_5 => ?_)) | (with_reducible refine j_gN ?_; refine j_if_eqN (tgt := 16) dX9_whyNoGame_5 (by decide) (by omega) (fun c_5 => ?_) (fun c_5 => ?_)) | refine j_if_eq (tgt := 16) dX9_whyNoGame_5 (by decide) (fun c_5 => ?_) (fun c_5 => ?_)
  · refine j_iconst (v := nI 2) dX9_whyNoGame_16 (by decide +kernel) ?_
    refine j_iret dX9_whyNoGame_17 ⟨_, rfl, rfl⟩ (by omega) (by omega) ?_
    refine ⟨?_, rfl⟩
    unfold mWhyG
    first
    | (rw [c_5]; rfl)
    | (rw [c_5, c_13]; rfl)
    | (rw [c_5, c_13, if_pos (by rfl), if_neg (fun q => q.1 c_20)]; done)
    | (rw [c_5, c_13, if_pos (by rfl), if_pos ⟨c_20, c_34⟩]; done)
    | (rw [c_5, c_13, if_pos (by rfl), if_neg (fun q => by rw [c_34] at q; exact absurd q.2 (by decide))]; done)
  · first | refine j_aload_n dX9_whyNoGame_8 rfl ?_ | refine j_aload_nN dX9_whyNoGame_8 rfl ?_
    refine j_iload_n dX9_whyNoGame_9 rfl ?_
    refine j_dV1 kl_X9_345 (m_isPersonAt H hC hP hP6 b) dX9_whyNoGame_10 rfl rfl (by decide) (Mo.h H) (Nat.le_of_ble_eq_true rfl) (by first | decide | omega) (by omega) (by omega) ?_
    first | (with_reducible refine j_gB ?_; refine j_if_neB (tgt := 18) dX9_whyNoGame_13 (by decide) (fun c_13 => ?_) (fun c_13 => ?_)) | (with_reducible refine j_gC ?_; refine j_if_neC (tgt := 18) dX9_whyNoGame_13 (by decide) (fun c_13 => ?_) (fun c_13 => ?_)) | (with_reducible refine j_gN ?_; refine j_if_neN (tgt := 18) dX9_whyNoGame_13 (by decide) (by omega) (fun c_13 => ?_) (fun c_13 => ?_)) | refine j_if_ne (tgt := 18) dX9_whyNoGame_13 (by decide) (fun c_13 => ?_) (fun c_13 => ?_)
    · refine j_iload_n dX9_whyNoGame_18 rfl ?_
      refine j_iload_n dX9_whyNoGame_19 rfl ?_
      first | (with_reducible refine j_gNN ?_; refine j_icmp_eqN (tgt := 41) dX9_whyNoGame_20 (by decide) (by omega) (by omega) (fun c_20 => ?_) (fun c_20 => ?_)) | refine j_icmp_eq (tgt := 41) dX9_whyNoGame_20 (by decide) (fun c_20 => ?_) (fun c_20 => ?_)
      · refine j_iconst (v := nI 5) dX9_whyNoGame_41 (by decide +kernel) ?_
        refine j_iret dX9_whyNoGame_42 ⟨_, rfl, rfl⟩ (by omega) (by omega) ?_
        refine ⟨?_, rfl⟩
        unfold mWhyG
        first
        | (rw [c_5]; rfl)
        | (rw [c_5, c_13]; rfl)
        | (rw [c_5, c_13, if_pos (by rfl), if_neg (fun q => q.1 c_20)]; done)
        | (rw [c_5, c_13, if_pos (by rfl), if_pos ⟨c_20, c_34⟩]; done)
        | (rw [c_5, c_13, if_pos (by rfl), if_neg (fun q => by rw [c_34] at q; exact absurd q.2 (by decide))]; done)
      · refine j_iload_n dX9_whyNoGame_23 rfl ?_
        refine j_i2l dX9_whyNoGame_24 ?_
        refine j_iload dX9_whyNoGame_25 rfl ?_
        refine j_i2l dX9_whyNoGame_27 ?_
        refine j_ldc2 (v := 3) dX9_whyNoGame_28 q2089 ?_
        refine j_dS1 kl_X9_102 (k_inL _ _ _) dX9_whyNoGame_31 rfl rfl (Nat.le_of_ble_eq_true rfl) (by first | decide | omega) (by omega) (by omega) ?_
        first | (with_reducible refine j_gB ?_; refine j_if_eqB (tgt := 41) dX9_whyNoGame_34 (by decide) (fun c_34 => ?_) (fun c_34 => ?_)) | (with_reducible refine j_gC ?_; refine j_if_eqC (tgt := 41) dX9_whyNoGame_34 (by decide) (fun c_34 => ?_) (fun c_34 => ?_)) | (with_reducible refine j_gN ?_; refine j_if_eqN (tgt := 41) dX9_whyNoGame_34 (by decide) (by omega) (fun c_34 => ?_) (fun c_34 => ?_)) | refine j_if_eq (tgt := 41) dX9_whyNoGame_34 (by decide) (fun c_34 => ?_) (fun c_34 => ?_)
        · refine j_iconst (v := nI 5) dX9_whyNoGame_41 (by decide +kernel) ?_
          refine j_iret dX9_whyNoGame_42 ⟨_, rfl, rfl⟩ (by omega) (by omega) ?_
          refine ⟨?_, rfl⟩
          unfold mWhyG
          first
          | (rw [c_5]; rfl)
          | (rw [c_5, c_13]; rfl)
          | (rw [c_5, c_13, if_pos (by rfl), if_neg (fun q => q.1 c_20)]; done)
          | (rw [c_5, c_13, if_pos (by rfl), if_pos ⟨c_20, c_34⟩]; done)
          | (rw [c_5, c_13, if_pos (by rfl), if_neg (fun q => by rw [c_34] at q; exact absurd q.2 (by decide))]; done)
        · refine j_iconst (v := nI 0) dX9_whyNoGame_37 (by decide +kernel) ?_
          refine j_goto (tgt := 42) dX9_whyNoGame_38 (by decide) ?_
          refine j_iret dX9_whyNoGame_42 ⟨_, rfl, rfl⟩ (by omega) (by omega) ?_
          refine ⟨?_, rfl⟩
          unfold mWhyG
          first
          | (rw [c_5]; rfl)
          | (rw [c_5, c_13]; rfl)
          | (rw [c_5, c_13, if_pos (by rfl), if_neg (fun q => q.1 c_20)]; done)
          | (rw [c_5, c_13, if_pos (by rfl), if_pos ⟨c_20, c_34⟩]; done)
          | (rw [c_5, c_13, if_pos (by rfl), if_neg (fun q => by rw [c_34] at q; exact absurd q.2 (by decide))]; done)
    · refine j_iconst (v := nI 2) dX9_whyNoGame_16 (by decide +kernel) ?_
      refine j_iret dX9_whyNoGame_17 ⟨_, rfl, rfl⟩ (by omega) (by omega) ?_
      refine ⟨?_, rfl⟩
      unfold mWhyG
      first
      | (rw [c_5]; rfl)
      | (rw [c_5, c_13]; rfl)
      | (rw [c_5, c_13, if_pos (by rfl), if_neg (fun q => q.1 c_20)]; done)
      | (rw [c_5, c_13, if_pos (by rfl), if_pos ⟨c_20, c_34⟩]; done)
      | (rw [c_5, c_13, if_pos (by rfl), if_neg (fun q => by rw [c_34] at q; exact absurd q.2 (by decide))]; done)
theorem m_trayed (H : Mo σ h ad) {M : Nat → Int32} (hC : σ.2.1 (ad 5) = M) (t : Int32) : Kd g l 0 MX9_trayed [.ref h, .int t] σ (some (.int (mTrayed M t))) σ := by
  refine Kt.go (Y := MX9_trayed) (ls := [some (.ref h), some (.int t)]) (by decide) (Nat.le_of_ble_eq_true rfl) rfl ?_
  cases e : okN t 4 with
  | false =>
    refine j_iload_n dX9_trayed_0 rfl ?_
    first | (with_reducible refine j_gC ?_; refine j_if_ltC (tgt := 9) dX9_trayed_1 (by decide) (fun c_1 => ?_) (fun c_1 => ?_)) | refine j_if_lt (tgt := 9) dX9_trayed_1 (by decide) (fun c_1 => ?_) (fun c_1 => ?_)
    · refine j_iconst (v := nI 1) dX9_trayed_9 (by decide +kernel) ?_
      refine j_goto (tgt := 27) dX9_trayed_10 (by decide) ?_
      refine j_iret dX9_trayed_27 ⟨_, rfl, rfl⟩ (by omega) (by omega) ?_
      exact ⟨by rw [mTrayed, e]; rfl, rfl⟩
    · refine j_iload_n dX9_trayed_4 rfl ?_
      refine j_iconst (v := nI 4) dX9_trayed_5 (by decide +kernel) ?_
      first | (with_reducible refine j_gNN ?_; refine j_icmp_ltN (tgt := 13) dX9_trayed_6 (by decide) (by omega) (by omega) (fun c_6 => ?_) (fun c_6 => ?_)) | refine j_icmp_lt (tgt := 13) dX9_trayed_6 (by decide) (fun c_6 => ?_) (fun c_6 => ?_)
      · rw [okN_t (by decide) c_1 c_6] at e; cases e
      · refine j_iconst (v := nI 1) dX9_trayed_9 (by decide +kernel) ?_
        refine j_goto (tgt := 27) dX9_trayed_10 (by decide) ?_
        refine j_iret dX9_trayed_27 ⟨_, rfl, rfl⟩ (by omega) (by omega) ?_
        exact ⟨by rw [mTrayed, e]; rfl, rfl⟩
  | true =>
    obtain ⟨k, hk, rfl⟩ := okN_nI e
    have ek : ixn (nI k) = k := ixn_nI (by omega)
    refine j_iload_n dX9_trayed_0 rfl ?_
    first | (with_reducible refine j_gC ?_; refine j_if_ltC (tgt := 9) dX9_trayed_1 (by decide) (fun c_1 => ?_) (fun c_1 => ?_)) | refine j_if_lt (tgt := 9) dX9_trayed_1 (by decide) (fun c_1 => ?_) (fun c_1 => ?_)
    · exact absurd c_1 (nI_pos (by omega))
    · refine j_iload_n dX9_trayed_4 rfl ?_
      refine j_iconst (v := nI 4) dX9_trayed_5 (by decide +kernel) ?_
      first | (with_reducible refine j_gNN ?_; refine j_icmp_ltN (tgt := 13) dX9_trayed_6 (by decide) (by omega) (by omega) (fun c_6 => ?_) (fun c_6 => ?_)) | refine j_icmp_lt (tgt := 13) dX9_trayed_6 (by decide) (fun c_6 => ?_) (fun c_6 => ?_)
      · first | refine j_aload_n dX9_trayed_13 rfl ?_ | refine j_aload_nN dX9_trayed_13 rfl ?_
        refine j_getR dX9_trayed_14 fl_X9_17 rfl (Mo.h H) (Mo.R H _ _ _ rfl) ?_
        refine j_iload_n dX9_trayed_17 rfl ?_
        refine j_iald dX9_trayed_18 (Mo.S H _ _ _ rfl) rfl (by omega) (by decide) (by first | assumption | (rewrite [hC]; first | assumption | rfl) | rfl) ?_
        first | (with_reducible refine j_gC ?_; refine j_if_geC (tgt := 26) dX9_trayed_19 (by decide) (fun c_19 => ?_) (fun c_19 => ?_)) | refine j_if_ge (tgt := 26) dX9_trayed_19 (by decide) (fun c_19 => ?_) (fun c_19 => ?_)
        · refine j_iconst (v := nI 0) dX9_trayed_26 (by decide +kernel) ?_
          refine j_iret dX9_trayed_27 ⟨_, rfl, rfl⟩ (by omega) (by omega) ?_
          exact ⟨by rw [mTrayed, e, if_pos rfl, ek]; first | rw [if_pos (Int32.not_le.mp c_19)] | rw [if_neg (Int32.not_lt.mpr c_19)], rfl⟩
        · refine j_iconst (v := nI 3) dX9_trayed_22 (by decide +kernel) ?_
          refine j_goto (tgt := 27) dX9_trayed_23 (by decide) ?_
          refine j_iret dX9_trayed_27 ⟨_, rfl, rfl⟩ (by omega) (by omega) ?_
          exact ⟨by rw [mTrayed, e, if_pos rfl, ek]; first | rw [if_pos (Int32.not_le.mp c_19)] | rw [if_neg (Int32.not_lt.mpr c_19)], rfl⟩
      · omega
theorem m_placed (H : Mo σ h ad) {M : Nat → Int32} (hC : σ.2.1 (ad 5) = M) (t k : Int32) : Kd g l 1 MX9_placed [.ref h, .int t, .int k] σ (some (.int (mPlaced M t k))) σ := by
  have h0 : mTrayed M t = nI 0 → okN t 4 = true := fun q => by
    unfold mTrayed at q
    split at q
    · assumption
    · exact absurd q (by decide +kernel)
  have h1 : mTrayed M t = nI 0 ∨ 0 < mTrayed M t := by
    unfold mTrayed
    split
    · split
      · exact Or.inr (by decide +kernel)
      · exact Or.inl rfl
    · exact Or.inr (by decide +kernel)
  refine Kt.go (Y := MX9_placed) (ls := [some (.ref h), some (.int t), some (.int k), none]) (by decide) (Nat.le_of_ble_eq_true rfl) rfl ?_
  rcases h1 with e | e
  · obtain ⟨i, hi, rfl⟩ := okN_nI (h0 e)
    have ek : ixn (nI i) = i := ixn_nI (by omega)
    first | refine j_aload_n dX9_placed_0 rfl ?_ | refine j_aload_nN dX9_placed_0 rfl ?_
    refine j_iload_n dX9_placed_1 rfl ?_
    refine j_dV1 kl_X9_86 (m_trayed H hC (nI i)) dX9_placed_2 rfl rfl (by decide) (Mo.h H) (Nat.le_of_ble_eq_true rfl) (by first | decide | omega) (by omega) (by omega) ?_
    refine j_istore_n dX9_placed_5 (by decide) ?_
    refine j_iload_n dX9_placed_6 rfl ?_
    first | (with_reducible refine j_gC ?_; refine j_if_leC (tgt := 14) dX9_placed_7 (by decide) (fun c_7 => ?_) (fun c_7 => ?_)) | refine j_if_le (tgt := 14) dX9_placed_7 (by decide) (fun c_7 => ?_) (fun c_7 => ?_)
    · refine j_iload_n dX9_placed_14 rfl ?_
      first | (with_reducible refine j_gC ?_; refine j_if_ltC (tgt := 28) dX9_placed_15 (by decide) (fun c_15 => ?_) (fun c_15 => ?_)) | refine j_if_lt (tgt := 28) dX9_placed_15 (by decide) (fun c_15 => ?_) (fun c_15 => ?_)
      · refine j_iconst (v := nI 4) dX9_placed_28 (by decide +kernel) ?_
        refine j_goto (tgt := 33) dX9_placed_29 (by decide) ?_
        refine j_iret dX9_placed_33 ⟨_, rfl, rfl⟩ (by omega) (by omega) ?_
        refine ⟨?_, rfl⟩
        rw [mPlaced, if_pos e, ek]
        first
        | (rw [if_neg (fun q => absurd q.1 (Int32.not_le.mpr c_15))]; done)
        | (rw [if_pos ⟨Int32.not_lt.mp c_15, c_25⟩]; done)
        | (rw [if_neg (fun q => c_25 q.2)]; done)
      · refine j_iload_n dX9_placed_18 rfl ?_
        first | refine j_aload_n dX9_placed_19 rfl ?_ | refine j_aload_nN dX9_placed_19 rfl ?_
        refine j_getR dX9_placed_20 fl_X9_17 rfl (Mo.h H) (Mo.R H _ _ _ rfl) ?_
        refine j_iload_n dX9_placed_23 rfl ?_
        refine j_iald dX9_placed_24 (Mo.S H _ _ _ rfl) rfl (by omega) (by decide) (by first | assumption | (rewrite [hC]; first | assumption | rfl) | rfl) ?_
        first | (with_reducible refine j_gNN ?_; refine j_icmp_ltN (tgt := 32) dX9_placed_25 (by decide) (by omega) (by omega) (fun c_25 => ?_) (fun c_25 => ?_)) | refine j_icmp_lt (tgt := 32) dX9_placed_25 (by decide) (fun c_25 => ?_) (fun c_25 => ?_)
        · refine j_iconst (v := nI 0) dX9_placed_32 (by decide +kernel) ?_
          refine j_iret dX9_placed_33 ⟨_, rfl, rfl⟩ (by omega) (by omega) ?_
          refine ⟨?_, rfl⟩
          rw [mPlaced, if_pos e, ek]
          first
          | (rw [if_neg (fun q => absurd q.1 (Int32.not_le.mpr c_15))]; done)
          | (rw [if_pos ⟨Int32.not_lt.mp c_15, c_25⟩]; done)
          | (rw [if_neg (fun q => c_25 q.2)]; done)
        · refine j_iconst (v := nI 4) dX9_placed_28 (by decide +kernel) ?_
          refine j_goto (tgt := 33) dX9_placed_29 (by decide) ?_
          refine j_iret dX9_placed_33 ⟨_, rfl, rfl⟩ (by omega) (by omega) ?_
          refine ⟨?_, rfl⟩
          rw [mPlaced, if_pos e, ek]
          first
          | (rw [if_neg (fun q => absurd q.1 (Int32.not_le.mpr c_15))]; done)
          | (rw [if_pos ⟨Int32.not_lt.mp c_15, c_25⟩]; done)
          | (rw [if_neg (fun q => c_25 q.2)]; done)
    · exact absurd (by rw [e]; decide +kernel) c_7
  · first | refine j_aload_n dX9_placed_0 rfl ?_ | refine j_aload_nN dX9_placed_0 rfl ?_
    refine j_iload_n dX9_placed_1 rfl ?_
    refine j_dV1 kl_X9_86 (m_trayed H hC t) dX9_placed_2 rfl rfl (by decide) (Mo.h H) (Nat.le_of_ble_eq_true rfl) (by first | decide | omega) (by omega) (by omega) ?_
    refine j_istore_n dX9_placed_5 (by decide) ?_
    refine j_iload_n dX9_placed_6 rfl ?_
    first | (with_reducible refine j_gC ?_; refine j_if_leC (tgt := 14) dX9_placed_7 (by decide) (fun c_7 => ?_) (fun c_7 => ?_)) | refine j_if_le (tgt := 14) dX9_placed_7 (by decide) (fun c_7 => ?_) (fun c_7 => ?_)
    · exact absurd e (Int32.not_lt.mpr c_7)
    · refine j_iload_n dX9_placed_10 rfl ?_
      refine j_goto (tgt := 33) dX9_placed_11 (by decide) ?_
      refine j_iret dX9_placed_33 ⟨_, rfl, rfl⟩ (by omega) (by omega) ?_
      exact ⟨by rw [mPlaced, if_neg (fun q => by rw [q] at e; exact absurd e (by decide +kernel))], rfl⟩
theorem m_cutL (s : Int32) (v : Int64) : Kd g l 0 MX9_cut [.int s, .long v] σ (some (.long (mCutL s v))) σ := by
  refine Kt.go (Y := MX9_cut) (ls := [some (.int s), some (.long v), none]) (by decide) (Nat.le_of_ble_eq_true rfl) rfl ?_
  refine j_iload_n dX9_cut_0 rfl ?_
  first | (with_reducible refine j_gB ?_; refine j_if_neB (tgt := 11) dX9_cut_1 (by decide) (fun c_1 => ?_) (fun c_1 => ?_)) | (with_reducible refine j_gC ?_; refine j_if_neC (tgt := 11) dX9_cut_1 (by decide) (fun c_1 => ?_) (fun c_1 => ?_)) | (with_reducible refine j_gN ?_; refine j_if_neN (tgt := 11) dX9_cut_1 (by decide) (by omega) (fun c_1 => ?_) (fun c_1 => ?_)) | refine j_if_ne (tgt := 11) dX9_cut_1 (by decide) (fun c_1 => ?_) (fun c_1 => ?_)
  · refine j_iload_n dX9_cut_11 rfl ?_
    refine j_iconst (v := nI 1) dX9_cut_12 (by decide +kernel) ?_
    first | (with_reducible refine j_gNN ?_; refine j_icmp_neN (tgt := 23) dX9_cut_13 (by decide) (by omega) (by omega) (fun c_13 => ?_) (fun c_13 => ?_)) | refine j_icmp_ne (tgt := 23) dX9_cut_13 (by decide) (fun c_13 => ?_) (fun c_13 => ?_)
    · refine j_iload_n dX9_cut_23 rfl ?_
      refine j_iconst (v := nI 2) dX9_cut_24 (by decide +kernel) ?_
      first | (with_reducible refine j_gNN ?_; refine j_icmp_neN (tgt := 34) dX9_cut_25 (by decide) (by omega) (by omega) (fun c_25 => ?_) (fun c_25 => ?_)) | refine j_icmp_ne (tgt := 34) dX9_cut_25 (by decide) (fun c_25 => ?_) (fun c_25 => ?_)
      · refine j_lload_n dX9_cut_34 rfl ?_
        refine j_lret dX9_cut_35 rfl (by omega) (by omega) ?_
        refine ⟨?_, rfl⟩
        unfold mCutL
        first
        | (rw [if_pos c_1]; done)
        | (rw [if_neg c_1, if_pos c_13]; done)
        | (rw [if_neg c_1, if_neg c_13, if_pos c_25]; done)
        | (rw [if_neg c_1, if_neg c_13, if_neg c_25]; done)
      · refine j_lload_n dX9_cut_28 rfl ?_
        refine j_l2i dX9_cut_29 ?_
        refine j_i2l dX9_cut_30 ?_
        refine j_goto (tgt := 35) dX9_cut_31 (by decide) ?_
        refine j_lret dX9_cut_35 rfl (by omega) (by omega) ?_
        refine ⟨?_, rfl⟩
        unfold mCutL
        first
        | (rw [if_pos c_1]; done)
        | (rw [if_neg c_1, if_pos c_13]; done)
        | (rw [if_neg c_1, if_neg c_13, if_pos c_25]; done)
        | (rw [if_neg c_1, if_neg c_13, if_neg c_25]; done)
    · refine j_lload_n dX9_cut_16 rfl ?_
      refine j_l2i dX9_cut_17 ?_
      refine j_i2s dX9_cut_18 ?_
      refine j_i2l dX9_cut_19 ?_
      refine j_goto (tgt := 35) dX9_cut_20 (by decide) ?_
      refine j_lret dX9_cut_35 rfl (by omega) (by omega) ?_
      refine ⟨?_, rfl⟩
      unfold mCutL
      first
      | (rw [if_pos c_1]; done)
      | (rw [if_neg c_1, if_pos c_13]; done)
      | (rw [if_neg c_1, if_neg c_13, if_pos c_25]; done)
      | (rw [if_neg c_1, if_neg c_13, if_neg c_25]; done)
  · refine j_lload_n dX9_cut_4 rfl ?_
    refine j_l2i dX9_cut_5 ?_
    refine j_i2b dX9_cut_6 ?_
    refine j_i2l dX9_cut_7 ?_
    refine j_goto (tgt := 35) dX9_cut_8 (by decide) ?_
    refine j_lret dX9_cut_35 rfl (by omega) (by omega) ?_
    refine ⟨?_, rfl⟩
    unfold mCutL
    first
    | (rw [if_pos c_1]; done)
    | (rw [if_neg c_1, if_pos c_13]; done)
    | (rw [if_neg c_1, if_neg c_13, if_pos c_25]; done)
    | (rw [if_neg c_1, if_neg c_13, if_neg c_25]; done)
end M7
