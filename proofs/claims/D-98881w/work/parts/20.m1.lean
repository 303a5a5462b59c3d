/-! THE MODEL's SMALL METHODS -/
set_option maxRecDepth 100000
/-- the Model's arrays, by the number of their field: tag and length -/
def mf : Nat → Option (Nat × Nat)
  | 4 => some (20, 4)
  | 5 => some (20, 4)
  | 6 => some (21, 240)
  | 7 => some (22, 900)
  | 20 => some (20, 2235)
  | 21 => some (20, 175)
  | 22 => some (20, 175)
  | 23 => some (21, 70)
  | 29 => some (24, 256)
  | 30 => some (20, 256)
  | 31 => some (20, 64)
  | 32 => some (20, 700)
  | 34 => some (20, 5)
  | _ => none
/-- the Model's object h and its arrays stand in the pure heap -/
def Mo (σ : Sg) (h : Nat) (ad : Nat → Nat) : Prop := σ.1 h = some (9, 0) ∧ (∀ k t n, mf k = some (t, n) → σ.2.2.2 h k = some (ad k)) ∧ (∀ k t n, mf k = some (t, n) → σ.1 (ad k) = some (t, n)) ∧ (∀ i j, mf i ≠ none → mf j ≠ none → ad i = ad j → i = j)
theorem Mo.h {σ : Sg} {h : Nat} {ad : Nat → Nat} (H : Mo σ h ad) : σ.1 h = some (9, 0) := H.1
theorem Mo.R {σ : Sg} {h : Nat} {ad : Nat → Nat} (H : Mo σ h ad) : ∀ k t n, mf k = some (t, n) → σ.2.2.2 h k = some (ad k) := H.2.1
theorem Mo.S {σ : Sg} {h : Nat} {ad : Nat → Nat} (H : Mo σ h ad) : ∀ k t n, mf k = some (t, n) → σ.1 (ad k) = some (t, n) := H.2.2.1
theorem Mo.ne {σ : Sg} {h : Nat} {ad : Nat → Nat} (H : Mo σ h ad) {i j : Nat} (hi : mf i ≠ none) (hj : mf j ≠ none) (hij : i ≠ j) : ad i ≠ ad j := fun e => hij (H.2.2.2 i j hi hj e)
theorem mf_tag : ∀ k t n, mf k = some (t, n) → 20 ≤ t := by
  intro k t n h
  unfold mf at h
  split at h <;> first | (cases h; decide) | cases h
theorem Mo.nh {σ : Sg} {h : Nat} {ad : Nat → Nat} (H : Mo σ h ad) {i t n : Nat} (hi : mf i = some (t, n)) : ad i ≠ h := by
  intro e
  have h1 := Mo.S H i t n hi
  rw [e, Mo.h H] at h1
  cases h1
  exact absurd (mf_tag i _ _ hi) (by decide)
section M1
variable {g : Gx} {l : Launch} {σ : Sg} {h : Nat} {ad : Nat → Nat}
theorem k_inL (v lo hi : Int64) : Kd g l 0 MX9_isIn [.long v, .long lo, .long hi] σ (some (.int (bI (inL v lo hi)))) σ := by
  refine Kt.go (Y := MX9_isIn) (ls := [some (.long v), none, some (.long lo), none, some (.long hi), none]) (by decide) (Nat.le_of_ble_eq_true rfl) rfl ?_
  refine j_lload_n dX9_isIn_0 rfl ?_
  refine j_lload_n dX9_isIn_1 rfl ?_
  refine j_lcmp dX9_isIn_2 ?_
  first | (with_reducible refine j_gC ?_; refine j_if_ltC (tgt := 17) dX9_isIn_3 (by decide) (fun c_3 => ?_) (fun c_3 => ?_)) | refine j_if_lt (tgt := 17) dX9_isIn_3 (by decide) (fun c_3 => ?_) (fun c_3 => ?_)
  · refine j_iconst (v := nI 0) dX9_isIn_17 (by decide +kernel) ?_
    refine j_iret dX9_isIn_18 ⟨_, rfl, rfl⟩ (by omega) (by omega) ?_
    exact ⟨by unfold inL; simp [*, bI], rfl⟩
  · refine j_lload_n dX9_isIn_6 rfl ?_
    refine j_lload dX9_isIn_7 rfl ?_
    refine j_lcmp dX9_isIn_9 ?_
    first | (with_reducible refine j_gC ?_; refine j_if_gtC (tgt := 17) dX9_isIn_10 (by decide) (fun c_10 => ?_) (fun c_10 => ?_)) | refine j_if_gt (tgt := 17) dX9_isIn_10 (by decide) (fun c_10 => ?_) (fun c_10 => ?_)
    · refine j_iconst (v := nI 0) dX9_isIn_17 (by decide +kernel) ?_
      refine j_iret dX9_isIn_18 ⟨_, rfl, rfl⟩ (by omega) (by omega) ?_
      exact ⟨by unfold inL; simp [*, bI], rfl⟩
    · refine j_iconst (v := nI 1) dX9_isIn_13 (by decide +kernel) ?_
      refine j_goto (tgt := 18) dX9_isIn_14 (by decide) ?_
      refine j_iret dX9_isIn_18 ⟨_, rfl, rfl⟩ (by omega) (by omega) ?_
      exact ⟨by unfold inL; simp [*, bI], rfl⟩
theorem k_refuse (H : Mo σ h ad) (w : Int32) : Kd g l 0 MX9_refuse [.ref h, .int w] σ (some (.int (-1))) (sI σ h 0 w) := by
  refine Kt.go (Y := MX9_refuse) (ls := [some (.ref h), some (.int w)]) (by decide) (Nat.le_of_ble_eq_true rfl) rfl ?_
  first | refine j_aload_n dX9_refuse_0 rfl ?_ | refine j_aload_nN dX9_refuse_0 rfl ?_
  refine j_iload_n dX9_refuse_1 rfl ?_
  refine j_putI dX9_refuse_2 fl_X9_70 rfl (Mo.h H) rfl rfl rfl ?_
  refine j_iconst (v := -1) dX9_refuse_5 (by decide +kernel) ?_
  refine j_iret dX9_refuse_6 ⟨_, rfl, rfl⟩ (by omega) (by omega) ?_
  exact ⟨rfl, rfl⟩
theorem k_no (H : Mo σ h ad) (w : Int32) : Kd g l 0 MX9_no [.ref h, .int w] σ (some (.int (bI false))) (sI σ h 0 w) := by
  refine Kt.go (Y := MX9_no) (ls := [some (.ref h), some (.int w)]) (by decide) (Nat.le_of_ble_eq_true rfl) rfl ?_
  first | refine j_aload_n dX9_no_0 rfl ?_ | refine j_aload_nN dX9_no_0 rfl ?_
  refine j_iload_n dX9_no_1 rfl ?_
  refine j_putI dX9_no_2 fl_X9_70 rfl (Mo.h H) rfl rfl rfl ?_
  refine j_iconst (v := nI 0) dX9_no_5 (by decide +kernel) ?_
  refine j_iret dX9_no_6 ⟨_, rfl, rfl⟩ (by omega) (by omega) ?_
  exact ⟨rfl, rfl⟩
/-- how many of eight -/
def szF (x : Int32) (k : Nat) : Int32 := if hs x k then nI 1 else nI 0
def szOf (x : Int32) : Int32 := sumTo (szF x) 8
theorem k_sizeOf (x : Int32) : Kd g l 1 MX9_sizeOf [.int x] σ (some (.int (szOf x))) σ := by
  refine Kt.go (Y := MX9_sizeOf) (ls := [some (.int x), none, none]) (by decide) (Nat.le_of_ble_eq_true rfl) rfl ?_
  refine j_iconst (v := nI 0) dX9_sizeOf_0 (by decide +kernel) ?_
  refine j_istore_n dX9_sizeOf_1 (by decide) ?_
  refine j_iconst (v := nI 0) dX9_sizeOf_2 (by decide +kernel) ?_
  refine j_istore_n dX9_sizeOf_3 (by decide) ?_
  have key : ∀ j, j ≤ 8 → ∀ a, a = sumTo (szF x) j → Tj g l 1 MX9_sizeOf [.int x] 0 0 (fun r τ => r = some (.int (szOf x)) ∧ τ = σ) (fun _ _ _ => False) 0 0 4 [some (.int x), some (.int a), some (.int (nI j))] [] σ := by
    refine loop_up fun j hj ih => ?_
    intro a ha
    refine j_iload_n dX9_sizeOf_4 rfl ?_
    refine j_bipush (v := nI 8) dX9_sizeOf_5 (by decide +kernel) ?_
    first | (with_reducible refine j_gNN ?_; refine j_icmp_geN (tgt := 32) dX9_sizeOf_7 (by decide) (by omega) (by omega) (fun c_7 => ?_) (fun c_7 => ?_)) | refine j_icmp_ge (tgt := 32) dX9_sizeOf_7 (by decide) (fun c_7 => ?_) (fun c_7 => ?_)
    · refine j_iload_n dX9_sizeOf_32 rfl ?_
      refine j_iret dX9_sizeOf_33 ⟨_, rfl, rfl⟩ (by omega) (by omega) ?_
      exact ⟨by rw [ha, show j = 8 by omega]; rfl, rfl⟩
    · refine j_iload_n dX9_sizeOf_10 rfl ?_
      refine j_iload_n dX9_sizeOf_11 rfl ?_
      refine j_iload_n dX9_sizeOf_12 rfl ?_
      refine j_dS1 kl_X9_106 (k_has _ _ _ x j) dX9_sizeOf_13 rfl rfl (Nat.le_of_ble_eq_true rfl) (by first | decide | omega) (by omega) (by omega) ?_
      first | (with_reducible refine j_gB ?_; refine j_if_eqB (tgt := 23) dX9_sizeOf_16 (by decide) (fun c_16 => ?_) (fun c_16 => ?_)) | (with_reducible refine j_gC ?_; refine j_if_eqC (tgt := 23) dX9_sizeOf_16 (by decide) (fun c_16 => ?_) (fun c_16 => ?_)) | (with_reducible refine j_gN ?_; refine j_if_eqN (tgt := 23) dX9_sizeOf_16 (by decide) (by omega) (fun c_16 => ?_) (fun c_16 => ?_)) | refine j_if_eq (tgt := 23) dX9_sizeOf_16 (by decide) (fun c_16 => ?_) (fun c_16 => ?_)
      · refine j_iconst (v := nI 0) dX9_sizeOf_23 (by decide +kernel) ?_
        first | (with_reducible refine j_gNN ?_; refine j_iaddN dX9_sizeOf_24 ?_) | refine j_iadd dX9_sizeOf_24 ?_
        refine j_istore_n dX9_sizeOf_25 (by decide) ?_
        first | refine j_iincN dX9_sizeOf_26 rfl (by decide) ?_ | refine j_iinc dX9_sizeOf_26 rfl rfl (by decide) ?_
        refine j_goto (tgt := 4) dX9_sizeOf_29 (by decide) ?_
        exact ih (by omega) _ (by rw [ha, sumTo, szF, c_16]; rfl)
      · refine j_iconst (v := nI 1) dX9_sizeOf_19 (by decide +kernel) ?_
        refine j_goto (tgt := 24) dX9_sizeOf_20 (by decide) ?_
        first | (with_reducible refine j_gNN ?_; refine j_iaddN dX9_sizeOf_24 ?_) | refine j_iadd dX9_sizeOf_24 ?_
        refine j_istore_n dX9_sizeOf_25 (by decide) ?_
        first | refine j_iincN dX9_sizeOf_26 rfl (by decide) ?_ | refine j_iinc dX9_sizeOf_26 rfl rfl (by decide) ?_
        refine j_goto (tgt := 4) dX9_sizeOf_29 (by decide) ?_
        exact ih (by omega) _ (by rw [ha, sumTo, szF, c_16]; rfl)
  exact key 0 (by decide) _ rfl
theorem k_mknows (H : Mo σ h ad) {p k : Nat} (hp : p < 6) : Kd g l 1 MX9_knows [.ref h, .int (nI p), .int (nI k)] σ (some (.int (bI (hs (σ.2.1 (ad 20) (37 + p)) k)))) σ := by
  refine Kt.go (Y := MX9_knows) (ls := [some (.ref h), some (.int (nI p)), some (.int (nI k))]) (by decide) (Nat.le_of_ble_eq_true rfl) rfl ?_
  first | refine j_aload_n dX9_knows_0 rfl ?_ | refine j_aload_nN dX9_knows_0 rfl ?_
  refine j_getR dX9_knows_1 fl_X9_35 rfl (Mo.h H) (Mo.R H _ _ _ rfl) ?_
  refine j_bipush (v := nI 37) dX9_knows_4 (by decide +kernel) ?_
  refine j_iload_n dX9_knows_6 rfl ?_
  first | (with_reducible refine j_gNN ?_; refine j_iaddN dX9_knows_7 ?_) | refine j_iadd dX9_knows_7 ?_
  refine j_iald dX9_knows_8 (Mo.S H _ _ _ rfl) rfl (by omega) (by decide) (by first | assumption | (skip; first | assumption | rfl) | rfl) ?_
  refine j_iload_n dX9_knows_9 rfl ?_
  refine j_dS1 kl_X9_106 (k_has _ _ _ _ k) dX9_knows_10 rfl rfl (Nat.le_of_ble_eq_true rfl) (by first | decide | omega) (by omega) (by omega) ?_
  refine j_iret dX9_knows_13 ⟨_, rfl, bI_nar _⟩ (by omega) (by omega) ?_
  exact ⟨rfl, rfl⟩
theorem k_mkeeps (H : Mo σ h ad) {p k : Nat} (hp : p < 6) : Kd g l 1 MX9_keeps [.ref h, .int (nI p), .int (nI k)] σ (some (.int (bI (hs (σ.2.1 (ad 20) (43 + p)) k)))) σ := by
  refine Kt.go (Y := MX9_keeps) (ls := [some (.ref h), some (.int (nI p)), some (.int (nI k))]) (by decide) (Nat.le_of_ble_eq_true rfl) rfl ?_
  first | refine j_aload_n dX9_keeps_0 rfl ?_ | refine j_aload_nN dX9_keeps_0 rfl ?_
  refine j_getR dX9_keeps_1 fl_X9_35 rfl (Mo.h H) (Mo.R H _ _ _ rfl) ?_
  refine j_bipush (v := nI 43) dX9_keeps_4 (by decide +kernel) ?_
  refine j_iload_n dX9_keeps_6 rfl ?_
  first | (with_reducible refine j_gNN ?_; refine j_iaddN dX9_keeps_7 ?_) | refine j_iadd dX9_keeps_7 ?_
  refine j_iald dX9_keeps_8 (Mo.S H _ _ _ rfl) rfl (by omega) (by decide) (by first | assumption | (skip; first | assumption | rfl) | rfl) ?_
  refine j_iload_n dX9_keeps_9 rfl ?_
  refine j_dS1 kl_X9_106 (k_has _ _ _ _ k) dX9_keeps_10 rfl rfl (Nat.le_of_ble_eq_true rfl) (by first | decide | omega) (by omega) (by omega) ?_
  refine j_iret dX9_keeps_13 ⟨_, rfl, bI_nar _⟩ (by omega) (by omega) ?_
  exact ⟨rfl, rfl⟩
/-- a person's hair: the strands kept -/
def hairF (C : Nat → Int32) (p k : Nat) : Int32 := if hs (C (43 + p)) k then C (49 + 8 * p + k) else nI 0
def mHair (C : Nat → Int32) (W p : Nat) : Int32 := sumTo (hairF C p) W
theorem k_mhairOf (H : Mo σ h ad) {W p : Nat} (hW : σ.2.1 (ad 20) 0 = nI W) (hW8 : W ≤ 8) (hp : p < 6) : Kd g l 2 MX9_hairOf [.ref h, .int (nI p)] σ (some (.int (mHair (σ.2.1 (ad 20)) W p))) σ := by
  refine Kt.go (Y := MX9_hairOf) (ls := [some (.ref h), some (.int (nI p)), none, none]) (by decide) (Nat.le_of_ble_eq_true rfl) rfl ?_
  refine j_iconst (v := nI 0) dX9_hairOf_0 (by decide +kernel) ?_
  refine j_istore_n dX9_hairOf_1 (by decide) ?_
  refine j_iconst (v := nI 0) dX9_hairOf_2 (by decide +kernel) ?_
  refine j_istore_n dX9_hairOf_3 (by decide) ?_
  have key : ∀ j, j ≤ W → ∀ a, a = sumTo (hairF (σ.2.1 (ad 20)) p) j → Tj g l 2 MX9_hairOf [.ref h, .int (nI p)] 0 0 (fun r τ => r = some (.int (mHair (σ.2.1 (ad 20)) W p)) ∧ τ = σ) (fun _ _ _ => False) 0 0 4 [some (.ref h), some (.int (nI p)), some (.int a), some (.int (nI j))] [] σ := by
    refine loop_up fun j hj ih => ?_
    intro a ha
    refine j_iload_n dX9_hairOf_4 rfl ?_
    first | refine j_aload_n dX9_hairOf_5 rfl ?_ | refine j_aload_nN dX9_hairOf_5 rfl ?_
    refine j_getR dX9_hairOf_6 fl_X9_35 rfl (Mo.h H) (Mo.R H _ _ _ rfl) ?_
    refine j_iconst (v := nI 0) dX9_hairOf_9 (by decide +kernel) ?_
    refine j_iald dX9_hairOf_10 (Mo.S H _ _ _ rfl) rfl (by omega) (by decide) (by first | assumption | (skip; first | assumption | rfl) | rfl) ?_
    first | (with_reducible refine j_gNN ?_; refine j_icmp_geN (tgt := 50) dX9_hairOf_11 (by decide) (by omega) (by omega) (fun c_11 => ?_) (fun c_11 => ?_)) | refine j_icmp_ge (tgt := 50) dX9_hairOf_11 (by decide) (fun c_11 => ?_) (fun c_11 => ?_)
    · refine j_iload_n dX9_hairOf_50 rfl ?_
      refine j_iret dX9_hairOf_51 ⟨_, rfl, rfl⟩ (by omega) (by omega) ?_
      exact ⟨by rw [ha, show j = W by omega]; rfl, rfl⟩
    · refine j_iload_n dX9_hairOf_14 rfl ?_
      first | refine j_aload_n dX9_hairOf_15 rfl ?_ | refine j_aload_nN dX9_hairOf_15 rfl ?_
      refine j_iload_n dX9_hairOf_16 rfl ?_
      refine j_iload_n dX9_hairOf_17 rfl ?_
      refine j_dV1 kl_X9_317 (k_mkeeps H hp) dX9_hairOf_18 rfl rfl (by decide) (Mo.h H) (Nat.le_of_ble_eq_true rfl) (by first | decide | omega) (by omega) (by omega) ?_
      first | (with_reducible refine j_gB ?_; refine j_if_eqB (tgt := 41) dX9_hairOf_21 (by decide) (fun c_21 => ?_) (fun c_21 => ?_)) | (with_reducible refine j_gC ?_; refine j_if_eqC (tgt := 41) dX9_hairOf_21 (by decide) (fun c_21 => ?_) (fun c_21 => ?_)) | (with_reducible refine j_gN ?_; refine j_if_eqN (tgt := 41) dX9_hairOf_21 (by decide) (by omega) (fun c_21 => ?_) (fun c_21 => ?_)) | refine j_if_eq (tgt := 41) dX9_hairOf_21 (by decide) (fun c_21 => ?_) (fun c_21 => ?_)
      · refine j_iconst (v := nI 0) dX9_hairOf_41 (by decide +kernel) ?_
        first | (with_reducible refine j_gNN ?_; refine j_iaddN dX9_hairOf_42 ?_) | refine j_iadd dX9_hairOf_42 ?_
        refine j_istore_n dX9_hairOf_43 (by decide) ?_
        first | refine j_iincN dX9_hairOf_44 rfl (by decide) ?_ | refine j_iinc dX9_hairOf_44 rfl rfl (by decide) ?_
        refine j_goto (tgt := 4) dX9_hairOf_47 (by decide) ?_
        exact ih (by omega) _ (by rw [ha, sumTo, hairF, c_21]; rfl)
      · first | refine j_aload_n dX9_hairOf_24 rfl ?_ | refine j_aload_nN dX9_hairOf_24 rfl ?_
        refine j_getR dX9_hairOf_25 fl_X9_35 rfl (Mo.h H) (Mo.R H _ _ _ rfl) ?_
        refine j_bipush (v := nI 49) dX9_hairOf_28 (by decide +kernel) ?_
        refine j_bipush (v := nI 8) dX9_hairOf_30 (by decide +kernel) ?_
        refine j_iload_n dX9_hairOf_32 rfl ?_
        first | (with_reducible refine j_gNN ?_; refine j_imulN dX9_hairOf_33 ?_) | refine j_imul dX9_hairOf_33 ?_
        first | (with_reducible refine j_gNN ?_; refine j_iaddN dX9_hairOf_34 ?_) | refine j_iadd dX9_hairOf_34 ?_
        refine j_iload_n dX9_hairOf_35 rfl ?_
        first | (with_reducible refine j_gNN ?_; refine j_iaddN dX9_hairOf_36 ?_) | refine j_iadd dX9_hairOf_36 ?_
        refine j_iald dX9_hairOf_37 (Mo.S H _ _ _ rfl) rfl (by omega) (by decide) (by first | assumption | (skip; first | assumption | rfl) | rfl) ?_
        refine j_goto (tgt := 42) dX9_hairOf_38 (by decide) ?_
        first | (with_reducible refine j_gNN ?_; refine j_iaddN dX9_hairOf_42 ?_) | refine j_iadd dX9_hairOf_42 ?_
        refine j_istore_n dX9_hairOf_43 (by decide) ?_
        first | refine j_iincN dX9_hairOf_44 rfl (by decide) ?_ | refine j_iinc dX9_hairOf_44 rfl rfl (by decide) ?_
        refine j_goto (tgt := 4) dX9_hairOf_47 (by decide) ?_
        exact ih (by omega) _ (by rw [ha, sumTo, hairF, c_21]; rfl)
  exact key 0 (by omega) _ rfl
end M1
