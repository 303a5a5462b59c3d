/-! THE MODEL's SMALL PUBLIC METHODS: rules, marks, states -/
set_option maxRecDepth 100000
theorem inL_45 {w : Int32} (h4 : ¬ w = nI 4) (h5 : ¬ w = nI 5) : inL w.toInt64 4 5 = false := by
  cases e : inL w.toInt64 4 5 with
  | false => rfl
  | true =>
    exfalso
    obtain ⟨k, hk, rfl, hk2⟩ := inL_lt (low := nI 4) (m := 5) (n := 5) (by decide +kernel) (by decide +kernel) e
    rw [nI_toInt (by decide)] at hk2
    rcases (show k = 4 ∨ k = 5 by omega) with rfl | rfl
    · exact h4 rfl
    · exact h5 rfl
section M17
variable {g : Gx} {l : Launch} {σ : Sg} {h : Nat} {ad : Nat → Nat} {C : Nat → Int32}
theorem o_status (H : Mo σ h ad) {w : Int32} (hC : σ.2.1 h 0 = w) : Kd g l 1 MX9_status [.ref h] σ (some (.int w)) (sI σ h 1 (nI 0)) := by
  have hC : (sI σ h 1 (nI 0)).2.1 h 0 = w := by rw [sI_e, up_ne (by decide)]; exact hC
  refine Kt.go (Y := MX9_status) (ls := [some (.ref h)]) (by decide) (Nat.le_of_ble_eq_true rfl) rfl ?_
  first | refine j_aload_n dX9_status_0 rfl ?_ | refine j_aload_nN dX9_status_0 rfl ?_
  refine j_iconst (v := nI 0) dX9_status_1 (by decide +kernel) ?_
  refine j_putI dX9_status_2 fl_X9_67 rfl (Mo.h H) rfl rfl rfl ?_
  first | refine j_aload_n dX9_status_5 rfl ?_ | refine j_aload_nN dX9_status_5 rfl ?_
  refine j_getI dX9_status_6 fl_X9_70 rfl (Mo.h H) (by first | assumption | (rewrite [hC]; first | assumption | rfl) | rfl) ?_
  refine j_iret dX9_status_9 ⟨_, rfl, rfl⟩ (by omega) (by omega) ?_
  exact ⟨rfl, rfl⟩
theorem o_top (H : Mo σ h ad) {w : Int64} (hC : σ.2.2.1 h 2 = w) : Kd g l 1 MX9_top [.ref h] σ (some (.long w)) (sI σ h 1 (nI 0)) := by
  have hC : (sI σ h 1 (nI 0)).2.2.1 h 2 = w := hC
  refine Kt.go (Y := MX9_top) (ls := [some (.ref h)]) (by decide) (Nat.le_of_ble_eq_true rfl) rfl ?_
  first | refine j_aload_n dX9_top_0 rfl ?_ | refine j_aload_nN dX9_top_0 rfl ?_
  refine j_iconst (v := nI 0) dX9_top_1 (by decide +kernel) ?_
  refine j_putI dX9_top_2 fl_X9_67 rfl (Mo.h H) rfl rfl rfl ?_
  first | refine j_aload_n dX9_top_5 rfl ?_ | refine j_aload_nN dX9_top_5 rfl ?_
  refine j_getL dX9_top_6 fl_X9_73 rfl (Mo.h H) (by first | assumption | (rewrite [hC]; first | assumption | rfl) | rfl) ?_
  refine j_lret dX9_top_9 rfl (by omega) (by omega) ?_
  exact ⟨rfl, rfl⟩
theorem o_bottom (H : Mo σ h ad) {w : Int64} (hC : σ.2.2.1 h 3 = w) : Kd g l 1 MX9_bottom [.ref h] σ (some (.long w)) (sI σ h 1 (nI 0)) := by
  have hC : (sI σ h 1 (nI 0)).2.2.1 h 3 = w := hC
  refine Kt.go (Y := MX9_bottom) (ls := [some (.ref h)]) (by decide) (Nat.le_of_ble_eq_true rfl) rfl ?_
  first | refine j_aload_n dX9_bottom_0 rfl ?_ | refine j_aload_nN dX9_bottom_0 rfl ?_
  refine j_iconst (v := nI 0) dX9_bottom_1 (by decide +kernel) ?_
  refine j_putI dX9_bottom_2 fl_X9_67 rfl (Mo.h H) rfl rfl rfl ?_
  first | refine j_aload_n dX9_bottom_5 rfl ?_ | refine j_aload_nN dX9_bottom_5 rfl ?_
  refine j_getL dX9_bottom_6 fl_X9_7 rfl (Mo.h H) (by first | assumption | (rewrite [hC]; first | assumption | rfl) | rfl) ?_
  refine j_lret dX9_bottom_9 rfl (by omega) (by omega) ?_
  exact ⟨rfl, rfl⟩
def oFault (a b w : Int32) : Int32 := if w = nI 0 then a else if w = nI 1 then b else -1
theorem o_fault (H : Mo σ h ad) {a b : Int32} (hA : σ.2.1 h 10 = a) (hB : σ.2.1 h 11 = b) (w : Int32) : Kd g l 1 MX9_fault [.ref h, .int w] σ (some (.int (oFault a b w))) (sI σ h 1 (nI 0)) := by
  have hA : (sI σ h 1 (nI 0)).2.1 h 10 = a := by rw [sI_e, up_ne (by decide)]; exact hA
  have hB : (sI σ h 1 (nI 0)).2.1 h 11 = b := by rw [sI_e, up_ne (by decide)]; exact hB
  refine Kt.go (Y := MX9_fault) (ls := [some (.ref h), some (.int w)]) (by decide) (Nat.le_of_ble_eq_true rfl) rfl ?_
  first | refine j_aload_n dX9_fault_0 rfl ?_ | refine j_aload_nN dX9_fault_0 rfl ?_
  refine j_iconst (v := nI 0) dX9_fault_1 (by decide +kernel) ?_
  refine j_putI dX9_fault_2 fl_X9_67 rfl (Mo.h H) rfl rfl rfl ?_
  refine j_iload_n dX9_fault_5 rfl ?_
  first | (with_reducible refine j_gB ?_; refine j_if_neB (tgt := 16) dX9_fault_6 (by decide) (fun c_6 => ?_) (fun c_6 => ?_)) | (with_reducible refine j_gC ?_; refine j_if_neC (tgt := 16) dX9_fault_6 (by decide) (fun c_6 => ?_) (fun c_6 => ?_)) | (with_reducible refine j_gN ?_; refine j_if_neN (tgt := 16) dX9_fault_6 (by decide) (by omega) (fun c_6 => ?_) (fun c_6 => ?_)) | refine j_if_ne (tgt := 16) dX9_fault_6 (by decide) (fun c_6 => ?_) (fun c_6 => ?_)
  · refine j_iload_n dX9_fault_16 rfl ?_
    refine j_iconst (v := nI 1) dX9_fault_17 (by decide +kernel) ?_
    first | (with_reducible refine j_gNN ?_; refine j_icmp_neN (tgt := 28) dX9_fault_18 (by decide) (by omega) (by omega) (fun c_18 => ?_) (fun c_18 => ?_)) | refine j_icmp_ne (tgt := 28) dX9_fault_18 (by decide) (fun c_18 => ?_) (fun c_18 => ?_)
    · refine j_iconst (v := -1) dX9_fault_28 (by decide +kernel) ?_
      refine j_iret dX9_fault_29 ⟨_, rfl, rfl⟩ (by omega) (by omega) ?_
      refine ⟨?_, rfl⟩
      unfold oFault
      first
      | (have z : w = nI 0 := c_6
         rw [if_pos z])
      | (have z : ¬ w = nI 0 := c_6
         rw [if_neg z, if_pos c_18])
      | (have z : ¬ w = nI 0 := c_6
         rw [if_neg z, if_neg c_18])
    · first | refine j_aload_n dX9_fault_21 rfl ?_ | refine j_aload_nN dX9_fault_21 rfl ?_
      refine j_getI dX9_fault_22 fl_X9_32 rfl (Mo.h H) (by first | assumption | (rewrite [hC]; first | assumption | rfl) | rfl) ?_
      refine j_goto (tgt := 29) dX9_fault_25 (by decide) ?_
      refine j_iret dX9_fault_29 ⟨_, rfl, rfl⟩ (by omega) (by omega) ?_
      refine ⟨?_, rfl⟩
      unfold oFault
      first
      | (have z : w = nI 0 := c_6
         rw [if_pos z])
      | (have z : ¬ w = nI 0 := c_6
         rw [if_neg z, if_pos c_18])
      | (have z : ¬ w = nI 0 := c_6
         rw [if_neg z, if_neg c_18])
  · first | refine j_aload_n dX9_fault_9 rfl ?_ | refine j_aload_nN dX9_fault_9 rfl ?_
    refine j_getI dX9_fault_10 fl_X9_28 rfl (Mo.h H) (by first | assumption | (rewrite [hC]; first | assumption | rfl) | rfl) ?_
    refine j_goto (tgt := 29) dX9_fault_13 (by decide) ?_
    refine j_iret dX9_fault_29 ⟨_, rfl, rfl⟩ (by omega) (by omega) ?_
    refine ⟨?_, rfl⟩
    unfold oFault
    first
    | (have z : w = nI 0 := c_6
       rw [if_pos z])
    | (have z : ¬ w = nI 0 := c_6
       rw [if_neg z, if_pos c_18])
    | (have z : ¬ w = nI 0 := c_6
       rw [if_neg z, if_neg c_18])
def oLived (L : Nat → Int32) (b : Bool) (w : Int32) : Int32 × Int32 := if okN w 5 then if b then (L (ixn w), nI 0) else (-1, nI 8) else (-1, nI 5)
theorem o_lived (H : Mo σ h ad) {L : Nat → Int32} {b : Bool} (hL : σ.2.1 (ad 34) = L) (hb : σ.2.1 h 35 = bI b) (w : Int32) : Kd g l 4 MX9_lived [.ref h, .int w] σ (some (.int (oLived L b w).1)) (mSt σ h (oLived L b w).2) := by
  have hC : σ.2.1 (ad 20) = σ.2.1 (ad 20) := rfl
  refine Kt.go (Y := MX9_lived) (ls := [some (.ref h), some (.int w)]) (by decide) (Nat.le_of_ble_eq_true rfl) rfl ?_
  first | refine j_aload_n dX9_lived_0 rfl ?_ | refine j_aload_nN dX9_lived_0 rfl ?_
  refine j_iconst (v := nI 0) dX9_lived_1 (by decide +kernel) ?_
  refine j_putI dX9_lived_2 fl_X9_67 rfl (Mo.h H) rfl rfl rfl ?_
  first | refine j_aload_n dX9_lived_5 rfl ?_ | refine j_aload_nN dX9_lived_5 rfl ?_
  refine j_iconst (v := nI 0) dX9_lived_6 (by decide +kernel) ?_
  refine j_putI dX9_lived_7 fl_X9_70 rfl (Mo.h H) rfl rfl rfl ?_
  refine j_eq rfl rfl (σ' := mSt σ h (nI 0)) rfl ?_
  have H0 := H
  have hC0 := hC
  replace hC := (mSt_row (w := nI 0) H0 (k := 20) ⟨_, _, rfl⟩).trans hC0
  replace H : Mo (mSt σ h (nI 0)) h ad := H0
  replace hC : (mSt σ h (nI 0)).2.1 (ad 34) = L := (mSt_row H0 ⟨_, _, rfl⟩).trans hL
  have hB : (mSt σ h (nI 0)).2.1 h 35 = bI b := by unfold mSt; rw [sI_e, up_ne (by decide), sI_e, up_ne (by decide)]; exact hb
  refine j_iload_n dX9_lived_10 rfl ?_
  refine j_i2l dX9_lived_11 ?_
  refine j_lconst (v := 0) dX9_lived_12 (by decide +kernel) ?_
  refine j_ldc2 (v := 4) dX9_lived_13 q2043 ?_
  refine j_dS1 kl_X9_102 (k_inL _ _ _) dX9_lived_16 rfl rfl (Nat.le_of_ble_eq_true rfl) (by first | decide | omega) (by omega) (by omega) ?_
  rw [inL_ok (n := 5) (by decide +kernel)]
  first | (with_reducible refine j_gB ?_; refine j_if_neB (tgt := 28) dX9_lived_19 (by decide) (fun c_19 => ?_) (fun c_19 => ?_)) | (with_reducible refine j_gC ?_; refine j_if_neC (tgt := 28) dX9_lived_19 (by decide) (fun c_19 => ?_) (fun c_19 => ?_)) | (with_reducible refine j_gN ?_; refine j_if_neN (tgt := 28) dX9_lived_19 (by decide) (by omega) (fun c_19 => ?_) (fun c_19 => ?_)) | refine j_if_ne (tgt := 28) dX9_lived_19 (by decide) (fun c_19 => ?_) (fun c_19 => ?_)
  · obtain ⟨w, hw, rfl⟩ := okN_nI c_19
    have ew : ixn (nI w) = w := ixn_nI (by omega)
    first | refine j_aload_n dX9_lived_28 rfl ?_ | refine j_aload_nN dX9_lived_28 rfl ?_
    refine j_getI dX9_lived_29 fl_X9_573 rfl (Mo.h H) (by first | assumption | (rewrite [hC]; first | assumption | rfl) | rfl) ?_
    first | (with_reducible refine j_gB ?_; refine j_if_eqB (tgt := 44) dX9_lived_32 (by decide) (fun c_32 => ?_) (fun c_32 => ?_)) | (with_reducible refine j_gC ?_; refine j_if_eqC (tgt := 44) dX9_lived_32 (by decide) (fun c_32 => ?_) (fun c_32 => ?_)) | (with_reducible refine j_gN ?_; refine j_if_eqN (tgt := 44) dX9_lived_32 (by decide) (by omega) (fun c_32 => ?_) (fun c_32 => ?_)) | refine j_if_eq (tgt := 44) dX9_lived_32 (by decide) (fun c_32 => ?_) (fun c_32 => ?_)
    · first | refine j_aload_n dX9_lived_44 rfl ?_ | refine j_aload_nN dX9_lived_44 rfl ?_
      refine j_bipush (v := nI 8) dX9_lived_45 (by decide +kernel) ?_
      refine j_dV1 kl_X9_325 (m_refuse H _) dX9_lived_47 rfl rfl (by decide) (Mo.h H) (Nat.le_of_ble_eq_true rfl) (by first | decide | omega) (by omega) (by omega) ?_
      refine j_iret dX9_lived_50 ⟨_, rfl, rfl⟩ (by omega) (by omega) ?_
      first
      | exact pubR (by rw [oLived, if_pos c_19, ew, if_pos c_32])
      | exact pubX (by rw [oLived, if_pos c_19, if_neg (by rw [c_32]; decide)])
    · first | refine j_aload_n dX9_lived_35 rfl ?_ | refine j_aload_nN dX9_lived_35 rfl ?_
      refine j_getR dX9_lived_36 fl_X9_60 rfl (Mo.h H) (Mo.R H _ _ _ rfl) ?_
      refine j_iload_n dX9_lived_39 rfl ?_
      refine j_iald dX9_lived_40 (Mo.S H _ _ _ rfl) rfl (by omega) (by decide) (by first | assumption | (rewrite [hC]; first | assumption | rfl) | rfl) ?_
      refine j_goto (tgt := 50) dX9_lived_41 (by decide) ?_
      refine j_iret dX9_lived_50 ⟨_, rfl, rfl⟩ (by omega) (by omega) ?_
      first
      | exact pubR (by rw [oLived, if_pos c_19, ew, if_pos c_32])
      | exact pubX (by rw [oLived, if_pos c_19, if_neg (by rw [c_32]; decide)])
  · first | refine j_aload_n dX9_lived_22 rfl ?_ | refine j_aload_nN dX9_lived_22 rfl ?_
    refine j_iconst (v := nI 5) dX9_lived_23 (by decide +kernel) ?_
    refine j_dV1 kl_X9_325 (m_refuse H _) dX9_lived_24 rfl rfl (by decide) (Mo.h H) (Nat.le_of_ble_eq_true rfl) (by first | decide | omega) (by omega) (by omega) ?_
    refine j_iret dX9_lived_27 ⟨_, rfl, rfl⟩ (by omega) (by omega) ?_
    exact pubX (by simp [oLived, *])
theorem o_rule (H : Mo σ h ad) (hC : σ.2.1 (ad 20) = C) (w m : Int32) : Kd g l 4 MX9_rule [.ref h, .int w, .int m] σ (some (.int (bI (oRule C w m).1))) (sU (mSt σ h (oRule C w m).2.1) (ad 20) (oRule C w m).2.2) := by
  have ne : ad 20 ≠ h := Mo.nh H (i := 20) rfl
  refine Kt.go (Y := MX9_rule) (ls := [some (.ref h), some (.int w), some (.int m)]) (by decide) (Nat.le_of_ble_eq_true rfl) rfl ?_
  first | refine j_aload_n dX9_rule_0 rfl ?_ | refine j_aload_nN dX9_rule_0 rfl ?_
  refine j_iconst (v := nI 0) dX9_rule_1 (by decide +kernel) ?_
  refine j_putI dX9_rule_2 fl_X9_67 rfl (Mo.h H) rfl rfl rfl ?_
  first | refine j_aload_n dX9_rule_5 rfl ?_ | refine j_aload_nN dX9_rule_5 rfl ?_
  refine j_iconst (v := nI 0) dX9_rule_6 (by decide +kernel) ?_
  refine j_putI dX9_rule_7 fl_X9_70 rfl (Mo.h H) rfl rfl rfl ?_
  refine j_eq rfl rfl (σ' := mSt σ h (nI 0)) rfl ?_
  have H0 := H
  have hC0 := hC
  replace hC := (mSt_row (w := nI 0) H0 (k := 20) ⟨_, _, rfl⟩).trans hC0
  replace H : Mo (mSt σ h (nI 0)) h ad := H0
  have hbad : ¬ w = nI 4 → ¬ w = nI 5 → inL w.toInt64 4 5 = false := fun q1 q2 => inL_45 q1 q2
  by_cases h4 : w = nI 4
  · subst h4
    refine j_iload_n dX9_rule_10 rfl ?_
    refine j_i2l dX9_rule_11 ?_
    refine j_ldc2 (v := 4) dX9_rule_12 q2043 ?_
    refine j_ldc2 (v := 5) dX9_rule_15 q2161 ?_
    refine j_dS1 kl_X9_102 (k_inL _ _ _) dX9_rule_18 rfl rfl (Nat.le_of_ble_eq_true rfl) (by first | decide | omega) (by omega) (by omega) ?_
    first | (with_reducible refine j_gB ?_; refine j_if_eqB (tgt := 47) dX9_rule_21 (by decide) (fun c_21 => ?_) (fun c_21 => ?_)) | (with_reducible refine j_gC ?_; refine j_if_eqC (tgt := 47) dX9_rule_21 (by decide) (fun c_21 => ?_) (fun c_21 => ?_)) | (with_reducible refine j_gN ?_; refine j_if_eqN (tgt := 47) dX9_rule_21 (by decide) (by omega) (fun c_21 => ?_) (fun c_21 => ?_)) | refine j_if_eq (tgt := 47) dX9_rule_21 (by decide) (fun c_21 => ?_) (fun c_21 => ?_)
    · exact absurd c_21 (by decide +kernel)
    · refine j_iload_n dX9_rule_24 rfl ?_
      refine j_i2l dX9_rule_25 ?_
      refine j_lconst (v := 0) dX9_rule_26 (by decide +kernel) ?_
      refine j_iload_n dX9_rule_27 rfl ?_
      refine j_iconst (v := nI 4) dX9_rule_28 (by decide +kernel) ?_
      first | (with_reducible refine j_gNN ?_; refine j_icmp_neN (tgt := 38) dX9_rule_29 (by decide) (by omega) (by omega) (fun c_29 => ?_) (fun c_29 => ?_)) | refine j_icmp_ne (tgt := 38) dX9_rule_29 (by decide) (fun c_29 => ?_) (fun c_29 => ?_)
      · exact absurd rfl c_29
      · refine j_ldc2 (v := 99) dX9_rule_32 q2095 ?_
        refine j_goto (tgt := 41) dX9_rule_35 (by decide) ?_
        refine j_dS1 kl_X9_102 (k_inL _ _ _) dX9_rule_41 rfl rfl (Nat.le_of_ble_eq_true rfl) (by first | decide | omega) (by omega) (by omega) ?_
        rw [inL_ok (n := 100) (by decide +kernel)]
        first | (with_reducible refine j_gB ?_; refine j_if_neB (tgt := 53) dX9_rule_44 (by decide) (fun c_44 => ?_) (fun c_44 => ?_)) | (with_reducible refine j_gC ?_; refine j_if_neC (tgt := 53) dX9_rule_44 (by decide) (fun c_44 => ?_) (fun c_44 => ?_)) | (with_reducible refine j_gN ?_; refine j_if_neN (tgt := 53) dX9_rule_44 (by decide) (by omega) (fun c_44 => ?_) (fun c_44 => ?_)) | refine j_if_ne (tgt := 53) dX9_rule_44 (by decide) (fun c_44 => ?_) (fun c_44 => ?_)
        · first | refine j_aload_n dX9_rule_53 rfl ?_ | refine j_aload_nN dX9_rule_53 rfl ?_
          refine j_getR dX9_rule_54 fl_X9_35 rfl (Mo.h H) (Mo.R H _ _ _ rfl) ?_
          refine j_iload_n dX9_rule_57 rfl ?_
          refine j_iload_n dX9_rule_58 rfl ?_
          refine j_iast dX9_rule_59 (Mo.S H _ _ _ rfl) rfl (by omega) (by decide) ?_
          refine j_iconst (v := nI 1) dX9_rule_60 (by decide +kernel) ?_
          refine j_iret dX9_rule_61 ⟨_, rfl, rfl⟩ (by omega) (by omega) ?_
          rw [sI_U, hC]
          exact pubBD (b := true) (by unfold oRule; rw [if_pos (Or.inl ⟨rfl, c_44⟩), ixn_nI (by decide)])
        · first | refine j_aload_n dX9_rule_47 rfl ?_ | refine j_aload_nN dX9_rule_47 rfl ?_
          refine j_iconst (v := nI 5) dX9_rule_48 (by decide +kernel) ?_
          refine j_dV1 kl_X9_82 (k_no H _) dX9_rule_49 rfl rfl (by decide) (Mo.h H) (Nat.le_of_ble_eq_true rfl) (by first | decide | omega) (by omega) (by omega) ?_
          refine j_iret dX9_rule_52 ⟨_, rfl, bI_nar _⟩ (by omega) (by omega) ?_
          exact pubBDX (b := false) hC0 ne (by unfold oRule; rw [if_neg]; exact fun q => q.elim (fun q => by rw [c_44] at q; exact absurd q.2 (by decide)) (fun q => absurd q.1 (by decide +kernel)))
  · by_cases h5 : w = nI 5
    · subst h5
      refine j_iload_n dX9_rule_10 rfl ?_
      refine j_i2l dX9_rule_11 ?_
      refine j_ldc2 (v := 4) dX9_rule_12 q2043 ?_
      refine j_ldc2 (v := 5) dX9_rule_15 q2161 ?_
      refine j_dS1 kl_X9_102 (k_inL _ _ _) dX9_rule_18 rfl rfl (Nat.le_of_ble_eq_true rfl) (by first | decide | omega) (by omega) (by omega) ?_
      first | (with_reducible refine j_gB ?_; refine j_if_eqB (tgt := 47) dX9_rule_21 (by decide) (fun c_21 => ?_) (fun c_21 => ?_)) | (with_reducible refine j_gC ?_; refine j_if_eqC (tgt := 47) dX9_rule_21 (by decide) (fun c_21 => ?_) (fun c_21 => ?_)) | (with_reducible refine j_gN ?_; refine j_if_eqN (tgt := 47) dX9_rule_21 (by decide) (by omega) (fun c_21 => ?_) (fun c_21 => ?_)) | refine j_if_eq (tgt := 47) dX9_rule_21 (by decide) (fun c_21 => ?_) (fun c_21 => ?_)
      · exact absurd c_21 (by decide +kernel)
      · refine j_iload_n dX9_rule_24 rfl ?_
        refine j_i2l dX9_rule_25 ?_
        refine j_lconst (v := 0) dX9_rule_26 (by decide +kernel) ?_
        refine j_iload_n dX9_rule_27 rfl ?_
        refine j_iconst (v := nI 4) dX9_rule_28 (by decide +kernel) ?_
        first | (with_reducible refine j_gNN ?_; refine j_icmp_neN (tgt := 38) dX9_rule_29 (by decide) (by omega) (by omega) (fun c_29 => ?_) (fun c_29 => ?_)) | refine j_icmp_ne (tgt := 38) dX9_rule_29 (by decide) (fun c_29 => ?_) (fun c_29 => ?_)
        · refine j_ldc2 (v := 16) dX9_rule_38 q2162 ?_
          refine j_dS1 kl_X9_102 (k_inL _ _ _) dX9_rule_41 rfl rfl (Nat.le_of_ble_eq_true rfl) (by first | decide | omega) (by omega) (by omega) ?_
          rw [inL_ok (n := 17) (by decide +kernel)]
          first | (with_reducible refine j_gB ?_; refine j_if_neB (tgt := 53) dX9_rule_44 (by decide) (fun c_44 => ?_) (fun c_44 => ?_)) | (with_reducible refine j_gC ?_; refine j_if_neC (tgt := 53) dX9_rule_44 (by decide) (fun c_44 => ?_) (fun c_44 => ?_)) | (with_reducible refine j_gN ?_; refine j_if_neN (tgt := 53) dX9_rule_44 (by decide) (by omega) (fun c_44 => ?_) (fun c_44 => ?_)) | refine j_if_ne (tgt := 53) dX9_rule_44 (by decide) (fun c_44 => ?_) (fun c_44 => ?_)
          · first | refine j_aload_n dX9_rule_53 rfl ?_ | refine j_aload_nN dX9_rule_53 rfl ?_
            refine j_getR dX9_rule_54 fl_X9_35 rfl (Mo.h H) (Mo.R H _ _ _ rfl) ?_
            refine j_iload_n dX9_rule_57 rfl ?_
            refine j_iload_n dX9_rule_58 rfl ?_
            refine j_iast dX9_rule_59 (Mo.S H _ _ _ rfl) rfl (by omega) (by decide) ?_
            refine j_iconst (v := nI 1) dX9_rule_60 (by decide +kernel) ?_
            refine j_iret dX9_rule_61 ⟨_, rfl, rfl⟩ (by omega) (by omega) ?_
            rw [sI_U, hC]
            exact pubBD (b := true) (by unfold oRule; rw [if_pos (Or.inr ⟨rfl, c_44⟩), ixn_nI (by decide)])
          · first | refine j_aload_n dX9_rule_47 rfl ?_ | refine j_aload_nN dX9_rule_47 rfl ?_
            refine j_iconst (v := nI 5) dX9_rule_48 (by decide +kernel) ?_
            refine j_dV1 kl_X9_82 (k_no H _) dX9_rule_49 rfl rfl (by decide) (Mo.h H) (Nat.le_of_ble_eq_true rfl) (by first | decide | omega) (by omega) (by omega) ?_
            refine j_iret dX9_rule_52 ⟨_, rfl, bI_nar _⟩ (by omega) (by omega) ?_
            exact pubBDX (b := false) hC0 ne (by unfold oRule; rw [if_neg]; exact fun q => q.elim (fun q => absurd q.1 (by decide +kernel)) (fun q => by rw [c_44] at q; exact absurd q.2 (by decide)))
        · exact absurd c_29 (by decide +kernel)
    · have hb := hbad h4 h5
      refine j_iload_n dX9_rule_10 rfl ?_
      refine j_i2l dX9_rule_11 ?_
      refine j_ldc2 (v := 4) dX9_rule_12 q2043 ?_
      refine j_ldc2 (v := 5) dX9_rule_15 q2161 ?_
      refine j_dS1 kl_X9_102 (k_inL _ _ _) dX9_rule_18 rfl rfl (Nat.le_of_ble_eq_true rfl) (by first | decide | omega) (by omega) (by omega) ?_
      rw [hb]
      first | (with_reducible refine j_gB ?_; refine j_if_eqB (tgt := 47) dX9_rule_21 (by decide) (fun c_21 => ?_) (fun c_21 => ?_)) | (with_reducible refine j_gC ?_; refine j_if_eqC (tgt := 47) dX9_rule_21 (by decide) (fun c_21 => ?_) (fun c_21 => ?_)) | (with_reducible refine j_gN ?_; refine j_if_eqN (tgt := 47) dX9_rule_21 (by decide) (by omega) (fun c_21 => ?_) (fun c_21 => ?_)) | refine j_if_eq (tgt := 47) dX9_rule_21 (by decide) (fun c_21 => ?_) (fun c_21 => ?_)
      · first | refine j_aload_n dX9_rule_47 rfl ?_ | refine j_aload_nN dX9_rule_47 rfl ?_
        refine j_iconst (v := nI 5) dX9_rule_48 (by decide +kernel) ?_
        refine j_dV1 kl_X9_82 (k_no H _) dX9_rule_49 rfl rfl (by decide) (Mo.h H) (Nat.le_of_ble_eq_true rfl) (by first | decide | omega) (by omega) (by omega) ?_
        refine j_iret dX9_rule_52 ⟨_, rfl, bI_nar _⟩ (by omega) (by omega) ?_
        exact pubBDX (b := false) hC0 ne (by unfold oRule; rw [if_neg]; exact fun q => q.elim (fun q => h4 q.1) (fun q => h5 q.1))
      · exact absurd c_21 (by decide)
/-- block a copied to block b: rows and names -/
def mCopS (σ : Sg) (ad : Nat → Nat) (a b : Nat) (C : Nat → Int32) (N : Nat → Int64) : Sg := sUL (sU σ (ad 20) (cpO (447 * b) 447 (fun k => C (447 * a + k)) C)) (ad 23) (cpOL (14 * b) 14 (fun k => N (14 * a + k)) N)
theorem o_mark (H : Mo σ h ad) (hC : σ.2.1 (ad 20) = C) {N : Nat → Int64} (hN : σ.2.2.1 (ad 23) = N) {m : Nat} (hm : σ.2.1 h 24 = nI m) (hm3 : m ≤ 3) : Kd g l 4 MX9_mark [.ref h] σ (some (.int (if m = 3 then -1 else nI (m + 1)))) (if m = 3 then mSt σ h (nI 7) else mCopS (sI (mSt σ h (nI 0)) h 24 (nI (m + 1))) ad 0 (m + 1) C N) := by
  have ne : ad 20 ≠ h := Mo.nh H (i := 20) rfl
  refine Kt.go (Y := MX9_mark) (ls := [some (.ref h)]) (by decide) (Nat.le_of_ble_eq_true rfl) rfl ?_
  first | refine j_aload_n dX9_mark_0 rfl ?_ | refine j_aload_nN dX9_mark_0 rfl ?_
  refine j_iconst (v := nI 0) dX9_mark_1 (by decide +kernel) ?_
  refine j_putI dX9_mark_2 fl_X9_67 rfl (Mo.h H) rfl rfl rfl ?_
  first | refine j_aload_n dX9_mark_5 rfl ?_ | refine j_aload_nN dX9_mark_5 rfl ?_
  refine j_iconst (v := nI 0) dX9_mark_6 (by decide +kernel) ?_
  refine j_putI dX9_mark_7 fl_X9_70 rfl (Mo.h H) rfl rfl rfl ?_
  refine j_eq rfl rfl (σ' := mSt σ h (nI 0)) rfl ?_
  have H0 := H
  have hC0 := hC
  replace hC := (mSt_row (w := nI 0) H0 (k := 20) ⟨_, _, rfl⟩).trans hC0
  replace H : Mo (mSt σ h (nI 0)) h ad := H0
  have hB : (mSt σ h (nI 0)).2.1 h 24 = nI m := by unfold mSt; rw [sI_e, up_ne (by decide), sI_e, up_ne (by decide)]; exact hm
  by_cases h3 : m = 3
  · rw [if_pos h3, if_pos h3]
    first | refine j_aload_n dX9_mark_10 rfl ?_ | refine j_aload_nN dX9_mark_10 rfl ?_
    refine j_getI dX9_mark_11 fl_X9_576 rfl (Mo.h H) (by first | assumption | (rewrite [hC]; first | assumption | rfl) | rfl) ?_
    refine j_iconst (v := nI 3) dX9_mark_14 (by decide +kernel) ?_
    first | (with_reducible refine j_gNN ?_; refine j_icmp_neN (tgt := 25) dX9_mark_15 (by decide) (by omega) (by omega) (fun c_15 => ?_) (fun c_15 => ?_)) | refine j_icmp_ne (tgt := 25) dX9_mark_15 (by decide) (fun c_15 => ?_) (fun c_15 => ?_)
    · omega
    · first | refine j_aload_n dX9_mark_18 rfl ?_ | refine j_aload_nN dX9_mark_18 rfl ?_
      refine j_bipush (v := nI 7) dX9_mark_19 (by decide +kernel) ?_
      refine j_dV1 kl_X9_325 (m_refuse H _) dX9_mark_21 rfl rfl (by decide) (Mo.h H) (Nat.le_of_ble_eq_true rfl) (by first | decide | omega) (by omega) (by omega) ?_
      refine j_iret dX9_mark_24 ⟨_, rfl, rfl⟩ (by omega) (by omega) ?_
      exact ⟨rfl, mSt_r⟩
  · rw [if_neg h3, if_neg h3]
    first | refine j_aload_n dX9_mark_10 rfl ?_ | refine j_aload_nN dX9_mark_10 rfl ?_
    refine j_getI dX9_mark_11 fl_X9_576 rfl (Mo.h H) (by first | assumption | (rewrite [hC]; first | assumption | rfl) | rfl) ?_
    refine j_iconst (v := nI 3) dX9_mark_14 (by decide +kernel) ?_
    first | (with_reducible refine j_gNN ?_; refine j_icmp_neN (tgt := 25) dX9_mark_15 (by decide) (by omega) (by omega) (fun c_15 => ?_) (fun c_15 => ?_)) | refine j_icmp_ne (tgt := 25) dX9_mark_15 (by decide) (fun c_15 => ?_) (fun c_15 => ?_)
    · first | refine j_aload_n dX9_mark_25 rfl ?_ | refine j_aload_nN dX9_mark_25 rfl ?_
      refine j_dup dX9_mark_26 rfl ?_
      refine j_getI dX9_mark_27 fl_X9_576 rfl (Mo.h H) (by first | assumption | (rewrite [hC]; first | assumption | rfl) | rfl) ?_
      refine j_iconst (v := nI 1) dX9_mark_30 (by decide +kernel) ?_
      first | (with_reducible refine j_gNN ?_; refine j_iaddN dX9_mark_31 ?_) | refine j_iadd dX9_mark_31 ?_
      refine j_putI dX9_mark_32 fl_X9_576 rfl (Mo.h H) rfl rfl rfl ?_
      have hB2 : (sI (mSt σ h (nI 0)) h 24 (nI (m + 1))).2.1 h 24 = nI (m + 1) := by rw [sI_e, up_eq]
      have hB3 : (mCopS (sI (mSt σ h (nI 0)) h 24 (nI (m + 1))) ad 0 (m + 1) C N).2.1 h 24 = nI (m + 1) := by
        show (sU (sI (mSt σ h (nI 0)) h 24 (nI (m + 1))) (ad 20) _).2.1 h 24 = _
        rw [sU_n (Ne.symm ne)]
        exact hB2
      first | refine j_aload_n dX9_mark_35 rfl ?_ | refine j_aload_nN dX9_mark_35 rfl ?_
      refine j_iconst (v := nI 0) dX9_mark_36 (by decide +kernel) ?_
      first | refine j_aload_n dX9_mark_37 rfl ?_ | refine j_aload_nN dX9_mark_37 rfl ?_
      refine j_getI dX9_mark_38 fl_X9_576 rfl (Mo.h H) (by first | assumption | (rewrite [hC]; first | assumption | rfl) | rfl) ?_
      refine j_dV0 kl_X9_302 (m_copy (σ := sI (mSt σ h (nI 0)) h 24 (nI (m + 1))) H ((sI_n ne).trans hC) (N := N) hN (by omega) (by omega) (by omega)) dX9_mark_41 rfl rfl (by decide) (Mo.h H) (Nat.le_of_ble_eq_true rfl) (by first | decide | omega) (by omega) (by omega) ?_
      first | refine j_aload_n dX9_mark_44 rfl ?_ | refine j_aload_nN dX9_mark_44 rfl ?_
      refine j_getI dX9_mark_45 fl_X9_576 rfl (Mo.h H) hB3 ?_
      refine j_iret dX9_mark_48 ⟨_, rfl, rfl⟩ (by omega) (by omega) ?_
      exact ⟨rfl, rfl⟩
    · omega
theorem o_back (H : Mo σ h ad) (hC : σ.2.1 (ad 20) = C) {N : Nat → Int64} (hN : σ.2.2.1 (ad 23) = N) {m : Nat} (hm : σ.2.1 h 24 = nI m) (hm3 : m ≤ 3) : Kd g l 4 MX9_back [.ref h] σ (some (.int (if m = 0 then -1 else nI (m - 1)))) (if m = 0 then mSt σ h (nI 8) else sI (mCopS (mSt σ h (nI 0)) ad m 0 C N) h 24 (nI (m - 1))) := by
  have ne : ad 20 ≠ h := Mo.nh H (i := 20) rfl
  refine Kt.go (Y := MX9_back) (ls := [some (.ref h)]) (by decide) (Nat.le_of_ble_eq_true rfl) rfl ?_
  first | refine j_aload_n dX9_back_0 rfl ?_ | refine j_aload_nN dX9_back_0 rfl ?_
  refine j_iconst (v := nI 0) dX9_back_1 (by decide +kernel) ?_
  refine j_putI dX9_back_2 fl_X9_67 rfl (Mo.h H) rfl rfl rfl ?_
  first | refine j_aload_n dX9_back_5 rfl ?_ | refine j_aload_nN dX9_back_5 rfl ?_
  refine j_iconst (v := nI 0) dX9_back_6 (by decide +kernel) ?_
  refine j_putI dX9_back_7 fl_X9_70 rfl (Mo.h H) rfl rfl rfl ?_
  refine j_eq rfl rfl (σ' := mSt σ h (nI 0)) rfl ?_
  have H0 := H
  have hC0 := hC
  replace hC := (mSt_row (w := nI 0) H0 (k := 20) ⟨_, _, rfl⟩).trans hC0
  replace H : Mo (mSt σ h (nI 0)) h ad := H0
  have hB : (mSt σ h (nI 0)).2.1 h 24 = nI m := by unfold mSt; rw [sI_e, up_ne (by decide), sI_e, up_ne (by decide)]; exact hm
  by_cases h3 : m = 0
  · rw [if_pos h3, if_pos h3]
    first | refine j_aload_n dX9_back_10 rfl ?_ | refine j_aload_nN dX9_back_10 rfl ?_
    refine j_getI dX9_back_11 fl_X9_576 rfl (Mo.h H) (by first | assumption | (rewrite [hC]; first | assumption | rfl) | rfl) ?_
    first | (with_reducible refine j_gB ?_; refine j_if_neB (tgt := 24) dX9_back_14 (by decide) (fun c_14 => ?_) (fun c_14 => ?_)) | (with_reducible refine j_gC ?_; refine j_if_neC (tgt := 24) dX9_back_14 (by decide) (fun c_14 => ?_) (fun c_14 => ?_)) | (with_reducible refine j_gN ?_; refine j_if_neN (tgt := 24) dX9_back_14 (by decide) (by omega) (fun c_14 => ?_) (fun c_14 => ?_)) | refine j_if_ne (tgt := 24) dX9_back_14 (by decide) (fun c_14 => ?_) (fun c_14 => ?_)
    · omega
    · first | refine j_aload_n dX9_back_17 rfl ?_ | refine j_aload_nN dX9_back_17 rfl ?_
      refine j_bipush (v := nI 8) dX9_back_18 (by decide +kernel) ?_
      refine j_dV1 kl_X9_325 (m_refuse H _) dX9_back_20 rfl rfl (by decide) (Mo.h H) (Nat.le_of_ble_eq_true rfl) (by first | decide | omega) (by omega) (by omega) ?_
      refine j_iret dX9_back_23 ⟨_, rfl, rfl⟩ (by omega) (by omega) ?_
      exact ⟨rfl, mSt_r⟩
  · rw [if_neg h3, if_neg h3]
    first | refine j_aload_n dX9_back_10 rfl ?_ | refine j_aload_nN dX9_back_10 rfl ?_
    refine j_getI dX9_back_11 fl_X9_576 rfl (Mo.h H) (by first | assumption | (rewrite [hC]; first | assumption | rfl) | rfl) ?_
    first | (with_reducible refine j_gB ?_; refine j_if_neB (tgt := 24) dX9_back_14 (by decide) (fun c_14 => ?_) (fun c_14 => ?_)) | (with_reducible refine j_gC ?_; refine j_if_neC (tgt := 24) dX9_back_14 (by decide) (fun c_14 => ?_) (fun c_14 => ?_)) | (with_reducible refine j_gN ?_; refine j_if_neN (tgt := 24) dX9_back_14 (by decide) (by omega) (fun c_14 => ?_) (fun c_14 => ?_)) | refine j_if_ne (tgt := 24) dX9_back_14 (by decide) (fun c_14 => ?_) (fun c_14 => ?_)
    · first | refine j_aload_n dX9_back_24 rfl ?_ | refine j_aload_nN dX9_back_24 rfl ?_
      first | refine j_aload_n dX9_back_25 rfl ?_ | refine j_aload_nN dX9_back_25 rfl ?_
      refine j_getI dX9_back_26 fl_X9_576 rfl (Mo.h H) (by first | assumption | (rewrite [hC]; first | assumption | rfl) | rfl) ?_
      refine j_iconst (v := nI 0) dX9_back_29 (by decide +kernel) ?_
      refine j_dV0 kl_X9_302 (m_copy (σ := mSt σ h (nI 0)) H hC (N := N) hN (by omega) (by omega) h3) dX9_back_30 rfl rfl (by decide) (Mo.h H) (Nat.le_of_ble_eq_true rfl) (by first | decide | omega) (by omega) (by omega) ?_
      have hB3 : (mCopS (mSt σ h (nI 0)) ad m 0 C N).2.1 h 24 = nI m := by
        show (sU (mSt σ h (nI 0)) (ad 20) _).2.1 h 24 = _
        rw [sU_n (Ne.symm ne)]
        exact hB
      refine j_eq (σ' := mCopS (mSt σ h (nI 0)) ad m 0 C N) rfl rfl rfl ?_
      replace H : Mo (mCopS (mSt σ h (nI 0)) ad m 0 C N) h ad := H
      first | refine j_aload_n dX9_back_33 rfl ?_ | refine j_aload_nN dX9_back_33 rfl ?_
      refine j_dup dX9_back_34 rfl ?_
      refine j_getI dX9_back_35 fl_X9_576 rfl (Mo.h H) (by first | assumption | (rewrite [hC]; first | assumption | rfl) | rfl) ?_
      refine j_iconst (v := nI 1) dX9_back_38 (by decide +kernel) ?_
      first | (with_reducible refine j_gNN ?_; refine j_isubN dX9_back_39 (by omega) ?_) | refine j_isub dX9_back_39 ?_
      refine j_putI dX9_back_40 fl_X9_576 rfl (Mo.h H) rfl rfl rfl ?_
      have hB4 : (sI (mCopS (mSt σ h (nI 0)) ad m 0 C N) h 24 (nI (m - 1))).2.1 h 24 = nI (m - 1) := by rw [sI_e, up_eq]
      first | refine j_aload_n dX9_back_43 rfl ?_ | refine j_aload_nN dX9_back_43 rfl ?_
      refine j_getI dX9_back_44 fl_X9_576 rfl (Mo.h H) hB4 ?_
      refine j_iret dX9_back_47 ⟨_, rfl, rfl⟩ (by omega) (by omega) ?_
      exact ⟨rfl, rfl⟩
    · omega
end M17
