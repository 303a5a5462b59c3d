/-! THE MODEL's PUBLIC CHANGES -/
set_option maxRecDepth 100000
def oCut (C : Nat → Int32) (W P : Nat) (p b : Int32) : Int32 × Int32 × (Nat → Int32) := if okN p P ∧ okN b P then if mCutV C W (ixn p) (ixn b) < 0 then (-1, nI 9, mCut C W (ixn p) (ixn b)) else (mCutV C W (ixn p) (ixn b), nI 0, mCut C W (ixn p) (ixn b)) else (-1, nI 2, C)
def oTrain (C : Nat → Int32) (P : Nat) (p t : Int32) : Bool × Int32 × (Nat → Int32) := if okN p P then if okN t 1000 then (true, nI 0, up C (25 + ixn p) t) else (false, nI 5, C) else (false, nI 2, C)
def oTrade (C : Nat → Int32) (P : Nat) (p : Int32) (b : Bool) : Bool × Int32 × (Nat → Int32) := if okN p P then if decide (C (31 + ixn p) = nI 1) = b then (false, nI 9, C) else (true, nI 0, up C (31 + ixn p) (bI b)) else (false, nI 2, C)
def oRule (C : Nat → Int32) (w m : Int32) : Bool × Int32 × (Nat → Int32) := if w = nI 4 ∧ okN m 100 ∨ w = nI 5 ∧ okN m 17 then (true, nI 0, up C (ixn w) m) else (false, nI 5, C)
def oInvite (C : Nat → Int32) (P Dn : Nat) (p q e : Int32) : Int32 × Int32 × (Nat → Int32) := if okN p P ∧ okN q P then if p ≠ q ∧ inL e.toInt64 1 30 then if Dn = 6 then (-1, nI 7, C) else (nI Dn, nI 0, up (up (up (up C (145 + Dn) p) (151 + Dn) q) (157 + Dn) e) 2 (nI (Dn + 1))) else (-1, nI 5, C) else (-1, nI 2, C)
def oCancel (C : Nat → Int32) (Dn : Nat) : Int32 × Int32 × (Nat → Int32) := if Dn = 0 then (-1, nI 8, C) else (nI (Dn - 1), nI 0, up C 2 (nI (Dn - 1)))
theorem sI_mSt {σ : Sg} {h a : Nat} {u w : Int32} {D : Nat → Int32} (ne : a ≠ h) : sI (sU (mSt σ h u) a D) h 0 w = sU (mSt σ h w) a D := by
  rw [sI_U, sU_n (Ne.symm ne), sU_comm ne, ← sI_U, mSt_r]
section M10
variable {g : Gx} {l : Launch} {σ : Sg} {h : Nat} {ad : Nat → Nat} {C : Nat → Int32}
theorem o_cut (H : Mo σ h ad) (hC : σ.2.1 (ad 20) = C) {W P Dn : Nat} (hw : Wd C W P Dn) (p b : Int32) : Kd g l 4 MX9_cut_2 [.ref h, .int p, .int b] σ (some (.int (oCut C W P p b).1)) (sU (mSt σ h (oCut C W P p b).2.1) (ad 20) (oCut C W P p b).2.2) := by
  obtain ⟨⟨hW, hW8⟩, ⟨hP, hP6⟩, ⟨hD, hD6⟩, hdn⟩ := id hw
  have ne : ad 20 ≠ h := Mo.nh H (i := 20) rfl
  refine Kt.go (Y := MX9_cut_2) (ls := [some (.ref h), some (.int p), some (.int b), none]) (by decide) (Nat.le_of_ble_eq_true rfl) rfl ?_
  first | refine j_aload_n dX9_cut_2_0 rfl ?_ | refine j_aload_nN dX9_cut_2_0 rfl ?_
  refine j_iconst (v := nI 0) dX9_cut_2_1 (by decide +kernel) ?_
  refine j_putI dX9_cut_2_2 fl_X9_67 rfl (Mo.h H) rfl rfl rfl ?_
  first | refine j_aload_n dX9_cut_2_5 rfl ?_ | refine j_aload_nN dX9_cut_2_5 rfl ?_
  refine j_iconst (v := nI 0) dX9_cut_2_6 (by decide +kernel) ?_
  refine j_putI dX9_cut_2_7 fl_X9_70 rfl (Mo.h H) rfl rfl rfl ?_
  refine j_eq rfl rfl (σ' := mSt σ h (nI 0)) rfl ?_
  have H0 := H
  have hC0 := hC
  replace hC := (mSt_row (w := nI 0) H0 (k := 20) ⟨_, _, rfl⟩).trans hC0
  replace H : Mo (mSt σ h (nI 0)) h ad := H0
  first | refine j_aload_n dX9_cut_2_10 rfl ?_ | refine j_aload_nN dX9_cut_2_10 rfl ?_
  refine j_iload_n dX9_cut_2_11 rfl ?_
  refine j_dV1 kl_X9_345 (m_isPersonAt H hC hP hP6 p) dX9_cut_2_12 rfl rfl (by decide) (Mo.h H) (Nat.le_of_ble_eq_true rfl) (by first | decide | omega) (by omega) (by omega) ?_
  first | (with_reducible refine j_gB ?_; refine j_if_eqB (tgt := 26) dX9_cut_2_15 (by decide) (fun c_15 => ?_) (fun c_15 => ?_)) | (with_reducible refine j_gC ?_; refine j_if_eqC (tgt := 26) dX9_cut_2_15 (by decide) (fun c_15 => ?_) (fun c_15 => ?_)) | (with_reducible refine j_gN ?_; refine j_if_eqN (tgt := 26) dX9_cut_2_15 (by decide) (by omega) (fun c_15 => ?_) (fun c_15 => ?_)) | refine j_if_eq (tgt := 26) dX9_cut_2_15 (by decide) (fun c_15 => ?_) (fun c_15 => ?_)
  · first | refine j_aload_n dX9_cut_2_26 rfl ?_ | refine j_aload_nN dX9_cut_2_26 rfl ?_
    refine j_iconst (v := nI 2) dX9_cut_2_27 (by decide +kernel) ?_
    refine j_dV1 kl_X9_325 (m_refuse H _) dX9_cut_2_28 rfl rfl (by decide) (Mo.h H) (Nat.le_of_ble_eq_true rfl) (by first | decide | omega) (by omega) (by omega) ?_
    refine j_iret dX9_cut_2_31 ⟨_, rfl, rfl⟩ (by omega) (by omega) ?_
    exact pubDX hC0 ne (by simp [oCut, *])
  · first | refine j_aload_n dX9_cut_2_18 rfl ?_ | refine j_aload_nN dX9_cut_2_18 rfl ?_
    refine j_iload_n dX9_cut_2_19 rfl ?_
    refine j_dV1 kl_X9_345 (m_isPersonAt H hC hP hP6 b) dX9_cut_2_20 rfl rfl (by decide) (Mo.h H) (Nat.le_of_ble_eq_true rfl) (by first | decide | omega) (by omega) (by omega) ?_
    first | (with_reducible refine j_gB ?_; refine j_if_neB (tgt := 32) dX9_cut_2_23 (by decide) (fun c_23 => ?_) (fun c_23 => ?_)) | (with_reducible refine j_gC ?_; refine j_if_neC (tgt := 32) dX9_cut_2_23 (by decide) (fun c_23 => ?_) (fun c_23 => ?_)) | (with_reducible refine j_gN ?_; refine j_if_neN (tgt := 32) dX9_cut_2_23 (by decide) (by omega) (fun c_23 => ?_) (fun c_23 => ?_)) | refine j_if_ne (tgt := 32) dX9_cut_2_23 (by decide) (fun c_23 => ?_) (fun c_23 => ?_)
    · obtain ⟨p, hp, rfl⟩ := okN_nI c_15
      obtain ⟨b, hb, rfl⟩ := okN_nI c_23
      have ep : ixn (nI p) = p := ixn_nI (by omega)
      have eb : ixn (nI b) = b := ixn_nI (by omega)
      first | refine j_aload_n dX9_cut_2_32 rfl ?_ | refine j_aload_nN dX9_cut_2_32 rfl ?_
      refine j_iload_n dX9_cut_2_33 rfl ?_
      refine j_iload_n dX9_cut_2_34 rfl ?_
      refine j_dV1 kl_X9_393 (m_cuts H hC hW hW8 (by omega) (by omega)) dX9_cut_2_35 rfl rfl (by decide) (Mo.h H) (Nat.le_of_ble_eq_true rfl) (by first | decide | omega) (by omega) (by omega) ?_
      refine j_istore_n dX9_cut_2_38 (by decide) ?_
      refine j_iload_n dX9_cut_2_39 rfl ?_
      first | (with_reducible refine j_gC ?_; refine j_if_geC (tgt := 52) dX9_cut_2_40 (by decide) (fun c_40 => ?_) (fun c_40 => ?_)) | refine j_if_ge (tgt := 52) dX9_cut_2_40 (by decide) (fun c_40 => ?_) (fun c_40 => ?_)
      · refine j_iload_n dX9_cut_2_52 rfl ?_
        refine j_iret dX9_cut_2_53 ⟨_, rfl, rfl⟩ (by omega) (by omega) ?_
        first
        | (have z := Int32.not_lt.mpr c_40
           exact pubD (by unfold oCut; rw [if_pos ⟨c_15, c_23⟩, ep, eb, if_neg z]))
        | (have z := Int32.not_le.mp c_40
           rw [sI_mSt ne]
           exact pubD (by unfold oCut; rw [if_pos ⟨c_15, c_23⟩, ep, eb, if_pos z]))
      · first | refine j_aload_n dX9_cut_2_43 rfl ?_ | refine j_aload_nN dX9_cut_2_43 rfl ?_
        refine j_bipush (v := nI 9) dX9_cut_2_44 (by decide +kernel) ?_
        refine j_dV1 kl_X9_325 (m_refuse (σ := sU (mSt σ h (nI 0)) (ad 20) (mCut C W p b)) H _) dX9_cut_2_46 rfl rfl (by decide) (Mo.h H) (Nat.le_of_ble_eq_true rfl) (by first | decide | omega) (by omega) (by omega) ?_
        refine j_goto (tgt := 53) dX9_cut_2_49 (by decide) ?_
        refine j_iret dX9_cut_2_53 ⟨_, rfl, rfl⟩ (by omega) (by omega) ?_
        first
        | (have z := Int32.not_lt.mpr c_40
           exact pubD (by unfold oCut; rw [if_pos ⟨c_15, c_23⟩, ep, eb, if_neg z]))
        | (have z := Int32.not_le.mp c_40
           rw [sI_mSt ne]
           exact pubD (by unfold oCut; rw [if_pos ⟨c_15, c_23⟩, ep, eb, if_pos z]))
    · first | refine j_aload_n dX9_cut_2_26 rfl ?_ | refine j_aload_nN dX9_cut_2_26 rfl ?_
      refine j_iconst (v := nI 2) dX9_cut_2_27 (by decide +kernel) ?_
      refine j_dV1 kl_X9_325 (m_refuse H _) dX9_cut_2_28 rfl rfl (by decide) (Mo.h H) (Nat.le_of_ble_eq_true rfl) (by first | decide | omega) (by omega) (by omega) ?_
      refine j_iret dX9_cut_2_31 ⟨_, rfl, rfl⟩ (by omega) (by omega) ?_
      exact pubDX hC0 ne (by simp [oCut, *])
theorem o_train (H : Mo σ h ad) (hC : σ.2.1 (ad 20) = C) {W P Dn : Nat} (hw : Wd C W P Dn) (p t : Int32) : Kd g l 4 MX9_train [.ref h, .int p, .int t] σ (some (.int (bI (oTrain C P p t).1))) (sU (mSt σ h (oTrain C P p t).2.1) (ad 20) (oTrain C P p t).2.2) := by
  obtain ⟨⟨hW, hW8⟩, ⟨hP, hP6⟩, ⟨hD, hD6⟩, hdn⟩ := id hw
  have ne : ad 20 ≠ h := Mo.nh H (i := 20) rfl
  refine Kt.go (Y := MX9_train) (ls := [some (.ref h), some (.int p), some (.int t)]) (by decide) (Nat.le_of_ble_eq_true rfl) rfl ?_
  first | refine j_aload_n dX9_train_0 rfl ?_ | refine j_aload_nN dX9_train_0 rfl ?_
  refine j_iconst (v := nI 0) dX9_train_1 (by decide +kernel) ?_
  refine j_putI dX9_train_2 fl_X9_67 rfl (Mo.h H) rfl rfl rfl ?_
  first | refine j_aload_n dX9_train_5 rfl ?_ | refine j_aload_nN dX9_train_5 rfl ?_
  refine j_iconst (v := nI 0) dX9_train_6 (by decide +kernel) ?_
  refine j_putI dX9_train_7 fl_X9_70 rfl (Mo.h H) rfl rfl rfl ?_
  refine j_eq rfl rfl (σ' := mSt σ h (nI 0)) rfl ?_
  have H0 := H
  have hC0 := hC
  replace hC := (mSt_row (w := nI 0) H0 (k := 20) ⟨_, _, rfl⟩).trans hC0
  replace H : Mo (mSt σ h (nI 0)) h ad := H0
  first | refine j_aload_n dX9_train_10 rfl ?_ | refine j_aload_nN dX9_train_10 rfl ?_
  refine j_iload_n dX9_train_11 rfl ?_
  refine j_dV1 kl_X9_345 (m_isPersonAt H hC hP hP6 p) dX9_train_12 rfl rfl (by decide) (Mo.h H) (Nat.le_of_ble_eq_true rfl) (by first | decide | omega) (by omega) (by omega) ?_
  first | (with_reducible refine j_gB ?_; refine j_if_neB (tgt := 24) dX9_train_15 (by decide) (fun c_15 => ?_) (fun c_15 => ?_)) | (with_reducible refine j_gC ?_; refine j_if_neC (tgt := 24) dX9_train_15 (by decide) (fun c_15 => ?_) (fun c_15 => ?_)) | (with_reducible refine j_gN ?_; refine j_if_neN (tgt := 24) dX9_train_15 (by decide) (by omega) (fun c_15 => ?_) (fun c_15 => ?_)) | refine j_if_ne (tgt := 24) dX9_train_15 (by decide) (fun c_15 => ?_) (fun c_15 => ?_)
  · refine j_iload_n dX9_train_24 rfl ?_
    refine j_i2l dX9_train_25 ?_
    refine j_lconst (v := 0) dX9_train_26 (by decide +kernel) ?_
    refine j_ldc2 (v := 999) dX9_train_27 q2152 ?_
    refine j_dS1 kl_X9_102 (k_inL _ _ _) dX9_train_30 rfl rfl (Nat.le_of_ble_eq_true rfl) (by first | decide | omega) (by omega) (by omega) ?_
    rw [inL_ok (n := 1000) (by decide +kernel)]
    first | (with_reducible refine j_gB ?_; refine j_if_neB (tgt := 42) dX9_train_33 (by decide) (fun c_33 => ?_) (fun c_33 => ?_)) | (with_reducible refine j_gC ?_; refine j_if_neC (tgt := 42) dX9_train_33 (by decide) (fun c_33 => ?_) (fun c_33 => ?_)) | (with_reducible refine j_gN ?_; refine j_if_neN (tgt := 42) dX9_train_33 (by decide) (by omega) (fun c_33 => ?_) (fun c_33 => ?_)) | refine j_if_ne (tgt := 42) dX9_train_33 (by decide) (fun c_33 => ?_) (fun c_33 => ?_)
    · obtain ⟨p, hp, rfl⟩ := okN_nI c_15
      have ep : ixn (nI p) = p := ixn_nI (by omega)
      first | refine j_aload_n dX9_train_42 rfl ?_ | refine j_aload_nN dX9_train_42 rfl ?_
      refine j_getR dX9_train_43 fl_X9_35 rfl (Mo.h H) (Mo.R H _ _ _ rfl) ?_
      refine j_bipush (v := nI 25) dX9_train_46 (by decide +kernel) ?_
      refine j_iload_n dX9_train_48 rfl ?_
      first | (with_reducible refine j_gNN ?_; refine j_iaddN dX9_train_49 ?_) | refine j_iadd dX9_train_49 ?_
      refine j_iload_n dX9_train_50 rfl ?_
      refine j_iast dX9_train_51 (Mo.S H _ _ _ rfl) rfl (by omega) (by decide) ?_
      refine j_iconst (v := nI 1) dX9_train_52 (by decide +kernel) ?_
      refine j_iret dX9_train_53 ⟨_, rfl, rfl⟩ (by omega) (by omega) ?_
      rw [sI_U, hC]
      exact pubBD (b := true) (by unfold oTrain; rw [if_pos c_15, if_pos c_33, ep])
    · first | refine j_aload_n dX9_train_36 rfl ?_ | refine j_aload_nN dX9_train_36 rfl ?_
      refine j_iconst (v := nI 5) dX9_train_37 (by decide +kernel) ?_
      refine j_dV1 kl_X9_82 (k_no H _) dX9_train_38 rfl rfl (by decide) (Mo.h H) (Nat.le_of_ble_eq_true rfl) (by first | decide | omega) (by omega) (by omega) ?_
      refine j_iret dX9_train_41 ⟨_, rfl, bI_nar _⟩ (by omega) (by omega) ?_
      exact pubBDX (b := false) hC0 ne (by simp [oTrain, *])
  · first | refine j_aload_n dX9_train_18 rfl ?_ | refine j_aload_nN dX9_train_18 rfl ?_
    refine j_iconst (v := nI 2) dX9_train_19 (by decide +kernel) ?_
    refine j_dV1 kl_X9_82 (k_no H _) dX9_train_20 rfl rfl (by decide) (Mo.h H) (Nat.le_of_ble_eq_true rfl) (by first | decide | omega) (by omega) (by omega) ?_
    refine j_iret dX9_train_23 ⟨_, rfl, bI_nar _⟩ (by omega) (by omega) ?_
    exact pubBDX (b := false) hC0 ne (by simp [oTrain, *])
theorem o_trade (H : Mo σ h ad) (hC : σ.2.1 (ad 20) = C) {W P Dn : Nat} (hw : Wd C W P Dn) (p : Int32) (b : Bool) : Kd g l 4 MX9_trade [.ref h, .int p, .int (bI b)] σ (some (.int (bI (oTrade C P p b).1))) (sU (mSt σ h (oTrade C P p b).2.1) (ad 20) (oTrade C P p b).2.2) := by
  obtain ⟨⟨hW, hW8⟩, ⟨hP, hP6⟩, ⟨hD, hD6⟩, hdn⟩ := id hw
  have ne : ad 20 ≠ h := Mo.nh H (i := 20) rfl
  refine Kt.go (Y := MX9_trade) (ls := [some (.ref h), some (.int p), some (.int (bI b))]) (by decide) (Nat.le_of_ble_eq_true rfl) rfl ?_
  first | refine j_aload_n dX9_trade_0 rfl ?_ | refine j_aload_nN dX9_trade_0 rfl ?_
  refine j_iconst (v := nI 0) dX9_trade_1 (by decide +kernel) ?_
  refine j_putI dX9_trade_2 fl_X9_67 rfl (Mo.h H) rfl rfl rfl ?_
  first | refine j_aload_n dX9_trade_5 rfl ?_ | refine j_aload_nN dX9_trade_5 rfl ?_
  refine j_iconst (v := nI 0) dX9_trade_6 (by decide +kernel) ?_
  refine j_putI dX9_trade_7 fl_X9_70 rfl (Mo.h H) rfl rfl rfl ?_
  refine j_eq rfl rfl (σ' := mSt σ h (nI 0)) rfl ?_
  have H0 := H
  have hC0 := hC
  replace hC := (mSt_row (w := nI 0) H0 (k := 20) ⟨_, _, rfl⟩).trans hC0
  replace H : Mo (mSt σ h (nI 0)) h ad := H0
  cases b with
  | true =>
    first | refine j_aload_n dX9_trade_10 rfl ?_ | refine j_aload_nN dX9_trade_10 rfl ?_
    refine j_iload_n dX9_trade_11 rfl ?_
    refine j_dV1 kl_X9_345 (m_isPersonAt H hC hP hP6 p) dX9_trade_12 rfl rfl (by decide) (Mo.h H) (Nat.le_of_ble_eq_true rfl) (by first | decide | omega) (by omega) (by omega) ?_
    first | (with_reducible refine j_gB ?_; refine j_if_neB (tgt := 24) dX9_trade_15 (by decide) (fun c_15 => ?_) (fun c_15 => ?_)) | (with_reducible refine j_gC ?_; refine j_if_neC (tgt := 24) dX9_trade_15 (by decide) (fun c_15 => ?_) (fun c_15 => ?_)) | (with_reducible refine j_gN ?_; refine j_if_neN (tgt := 24) dX9_trade_15 (by decide) (by omega) (fun c_15 => ?_) (fun c_15 => ?_)) | refine j_if_ne (tgt := 24) dX9_trade_15 (by decide) (fun c_15 => ?_) (fun c_15 => ?_)
    · obtain ⟨p, hp, rfl⟩ := okN_nI c_15
      have ep : ixn (nI p) = p := ixn_nI (by omega)
      rw [bI_t]
      first | refine j_aload_n dX9_trade_24 rfl ?_ | refine j_aload_nN dX9_trade_24 rfl ?_
      refine j_getR dX9_trade_25 fl_X9_35 rfl (Mo.h H) (Mo.R H _ _ _ rfl) ?_
      refine j_bipush (v := nI 31) dX9_trade_28 (by decide +kernel) ?_
      refine j_iload_n dX9_trade_30 rfl ?_
      first | (with_reducible refine j_gNN ?_; refine j_iaddN dX9_trade_31 ?_) | refine j_iadd dX9_trade_31 ?_
      refine j_iald dX9_trade_32 (Mo.S H _ _ _ rfl) rfl (by omega) (by decide) (by first | assumption | (rewrite [hC]; first | assumption | rfl) | rfl) ?_
      refine j_iconst (v := nI 1) dX9_trade_33 (by decide +kernel) ?_
      first | (with_reducible refine j_gNN ?_; refine j_icmp_neN (tgt := 41) dX9_trade_34 (by decide) (by omega) (by omega) (fun c_34 => ?_) (fun c_34 => ?_)) | refine j_icmp_ne (tgt := 41) dX9_trade_34 (by decide) (fun c_34 => ?_) (fun c_34 => ?_)
      · refine j_iconst (v := nI 0) dX9_trade_41 (by decide +kernel) ?_
        refine j_iload_n dX9_trade_42 rfl ?_
        first | (with_reducible refine j_gNN ?_; refine j_icmp_neN (tgt := 53) dX9_trade_43 (by decide) (by omega) (by omega) (fun c_43 => ?_) (fun c_43 => ?_)) | refine j_icmp_ne (tgt := 53) dX9_trade_43 (by decide) (fun c_43 => ?_) (fun c_43 => ?_)
        · first | refine j_aload_n dX9_trade_53 rfl ?_ | refine j_aload_nN dX9_trade_53 rfl ?_
          refine j_getR dX9_trade_54 fl_X9_35 rfl (Mo.h H) (Mo.R H _ _ _ rfl) ?_
          refine j_bipush (v := nI 31) dX9_trade_57 (by decide +kernel) ?_
          refine j_iload_n dX9_trade_59 rfl ?_
          first | (with_reducible refine j_gNN ?_; refine j_iaddN dX9_trade_60 ?_) | refine j_iadd dX9_trade_60 ?_
          refine j_iload_n dX9_trade_61 rfl ?_
          first | (with_reducible refine j_gB ?_; refine j_if_eqB (tgt := 69) dX9_trade_62 (by decide) (fun c_62 => ?_) (fun c_62 => ?_)) | (with_reducible refine j_gC ?_; refine j_if_eqC (tgt := 69) dX9_trade_62 (by decide) (fun c_62 => ?_) (fun c_62 => ?_)) | (with_reducible refine j_gN ?_; refine j_if_eqN (tgt := 69) dX9_trade_62 (by decide) (by omega) (fun c_62 => ?_) (fun c_62 => ?_)) | refine j_if_eq (tgt := 69) dX9_trade_62 (by decide) (fun c_62 => ?_) (fun c_62 => ?_)
          · refine j_iconst (v := nI 0) dX9_trade_69 (by decide +kernel) ?_
            refine j_iast dX9_trade_70 (Mo.S H _ _ _ rfl) rfl (by omega) (by decide) ?_
            refine j_iconst (v := nI 1) dX9_trade_71 (by decide +kernel) ?_
            refine j_iret dX9_trade_72 ⟨_, rfl, rfl⟩ (by omega) (by omega) ?_
            first
            | exact absurd c_62 (by decide)
            | exact absurd rfl c_43
            | (rw [sI_U, hC]
               exact pubBD (b := true) (by unfold oTrade; rw [if_pos c_15, ep, if_neg (by rw [decide_eq_false c_34]; decide)]; rfl))
          · refine j_iconst (v := nI 1) dX9_trade_65 (by decide +kernel) ?_
            refine j_goto (tgt := 70) dX9_trade_66 (by decide) ?_
            refine j_iast dX9_trade_70 (Mo.S H _ _ _ rfl) rfl (by omega) (by decide) ?_
            refine j_iconst (v := nI 1) dX9_trade_71 (by decide +kernel) ?_
            refine j_iret dX9_trade_72 ⟨_, rfl, rfl⟩ (by omega) (by omega) ?_
            first
            | exact absurd c_62 (by decide)
            | exact absurd rfl c_43
            | (rw [sI_U, hC]
               exact pubBD (b := true) (by unfold oTrade; rw [if_pos c_15, ep, if_neg (by rw [decide_eq_false c_34]; decide)]; rfl))
        · first | refine j_aload_n dX9_trade_46 rfl ?_ | refine j_aload_nN dX9_trade_46 rfl ?_
          refine j_bipush (v := nI 9) dX9_trade_47 (by decide +kernel) ?_
          refine j_dV1 kl_X9_82 (k_no H _) dX9_trade_49 rfl rfl (by decide) (Mo.h H) (Nat.le_of_ble_eq_true rfl) (by first | decide | omega) (by omega) (by omega) ?_
          refine j_iret dX9_trade_52 ⟨_, rfl, bI_nar _⟩ (by omega) (by omega) ?_
          first
          | exact absurd c_43 (by decide)
          | exact pubBDX (b := false) hC0 ne (by unfold oTrade; rw [if_pos c_15, ep, if_pos (decide_eq_true c_34)])
      · refine j_iconst (v := nI 1) dX9_trade_37 (by decide +kernel) ?_
        refine j_goto (tgt := 42) dX9_trade_38 (by decide) ?_
        refine j_iload_n dX9_trade_42 rfl ?_
        first | (with_reducible refine j_gNN ?_; refine j_icmp_neN (tgt := 53) dX9_trade_43 (by decide) (by omega) (by omega) (fun c_43 => ?_) (fun c_43 => ?_)) | refine j_icmp_ne (tgt := 53) dX9_trade_43 (by decide) (fun c_43 => ?_) (fun c_43 => ?_)
        · first | refine j_aload_n dX9_trade_53 rfl ?_ | refine j_aload_nN dX9_trade_53 rfl ?_
          refine j_getR dX9_trade_54 fl_X9_35 rfl (Mo.h H) (Mo.R H _ _ _ rfl) ?_
          refine j_bipush (v := nI 31) dX9_trade_57 (by decide +kernel) ?_
          refine j_iload_n dX9_trade_59 rfl ?_
          first | (with_reducible refine j_gNN ?_; refine j_iaddN dX9_trade_60 ?_) | refine j_iadd dX9_trade_60 ?_
          refine j_iload_n dX9_trade_61 rfl ?_
          first | (with_reducible refine j_gB ?_; refine j_if_eqB (tgt := 69) dX9_trade_62 (by decide) (fun c_62 => ?_) (fun c_62 => ?_)) | (with_reducible refine j_gC ?_; refine j_if_eqC (tgt := 69) dX9_trade_62 (by decide) (fun c_62 => ?_) (fun c_62 => ?_)) | (with_reducible refine j_gN ?_; refine j_if_eqN (tgt := 69) dX9_trade_62 (by decide) (by omega) (fun c_62 => ?_) (fun c_62 => ?_)) | refine j_if_eq (tgt := 69) dX9_trade_62 (by decide) (fun c_62 => ?_) (fun c_62 => ?_)
          · refine j_iconst (v := nI 0) dX9_trade_69 (by decide +kernel) ?_
            refine j_iast dX9_trade_70 (Mo.S H _ _ _ rfl) rfl (by omega) (by decide) ?_
            refine j_iconst (v := nI 1) dX9_trade_71 (by decide +kernel) ?_
            refine j_iret dX9_trade_72 ⟨_, rfl, rfl⟩ (by omega) (by omega) ?_
            first
            | exact absurd c_62 (by decide)
            | exact absurd rfl c_43
            | (rw [sI_U, hC]
               exact pubBD (b := true) (by unfold oTrade; rw [if_pos c_15, ep, if_neg (by rw [decide_eq_false c_34]; decide)]; rfl))
          · refine j_iconst (v := nI 1) dX9_trade_65 (by decide +kernel) ?_
            refine j_goto (tgt := 70) dX9_trade_66 (by decide) ?_
            refine j_iast dX9_trade_70 (Mo.S H _ _ _ rfl) rfl (by omega) (by decide) ?_
            refine j_iconst (v := nI 1) dX9_trade_71 (by decide +kernel) ?_
            refine j_iret dX9_trade_72 ⟨_, rfl, rfl⟩ (by omega) (by omega) ?_
            first
            | exact absurd c_62 (by decide)
            | exact absurd rfl c_43
            | (rw [sI_U, hC]
               exact pubBD (b := true) (by unfold oTrade; rw [if_pos c_15, ep, if_neg (by rw [decide_eq_false c_34]; decide)]; rfl))
        · first | refine j_aload_n dX9_trade_46 rfl ?_ | refine j_aload_nN dX9_trade_46 rfl ?_
          refine j_bipush (v := nI 9) dX9_trade_47 (by decide +kernel) ?_
          refine j_dV1 kl_X9_82 (k_no H _) dX9_trade_49 rfl rfl (by decide) (Mo.h H) (Nat.le_of_ble_eq_true rfl) (by first | decide | omega) (by omega) (by omega) ?_
          refine j_iret dX9_trade_52 ⟨_, rfl, bI_nar _⟩ (by omega) (by omega) ?_
          first
          | exact absurd c_43 (by decide)
          | exact pubBDX (b := false) hC0 ne (by unfold oTrade; rw [if_pos c_15, ep, if_pos (decide_eq_true c_34)])
    · first | refine j_aload_n dX9_trade_18 rfl ?_ | refine j_aload_nN dX9_trade_18 rfl ?_
      refine j_iconst (v := nI 2) dX9_trade_19 (by decide +kernel) ?_
      refine j_dV1 kl_X9_82 (k_no H _) dX9_trade_20 rfl rfl (by decide) (Mo.h H) (Nat.le_of_ble_eq_true rfl) (by first | decide | omega) (by omega) (by omega) ?_
      refine j_iret dX9_trade_23 ⟨_, rfl, bI_nar _⟩ (by omega) (by omega) ?_
      exact pubBDX (b := false) hC0 ne (by simp [oTrade, *])
  | false =>
    first | refine j_aload_n dX9_trade_10 rfl ?_ | refine j_aload_nN dX9_trade_10 rfl ?_
    refine j_iload_n dX9_trade_11 rfl ?_
    refine j_dV1 kl_X9_345 (m_isPersonAt H hC hP hP6 p) dX9_trade_12 rfl rfl (by decide) (Mo.h H) (Nat.le_of_ble_eq_true rfl) (by first | decide | omega) (by omega) (by omega) ?_
    first | (with_reducible refine j_gB ?_; refine j_if_neB (tgt := 24) dX9_trade_15 (by decide) (fun c_15 => ?_) (fun c_15 => ?_)) | (with_reducible refine j_gC ?_; refine j_if_neC (tgt := 24) dX9_trade_15 (by decide) (fun c_15 => ?_) (fun c_15 => ?_)) | (with_reducible refine j_gN ?_; refine j_if_neN (tgt := 24) dX9_trade_15 (by decide) (by omega) (fun c_15 => ?_) (fun c_15 => ?_)) | refine j_if_ne (tgt := 24) dX9_trade_15 (by decide) (fun c_15 => ?_) (fun c_15 => ?_)
    · obtain ⟨p, hp, rfl⟩ := okN_nI c_15
      have ep : ixn (nI p) = p := ixn_nI (by omega)
      rw [bI_f]
      first | refine j_aload_n dX9_trade_24 rfl ?_ | refine j_aload_nN dX9_trade_24 rfl ?_
      refine j_getR dX9_trade_25 fl_X9_35 rfl (Mo.h H) (Mo.R H _ _ _ rfl) ?_
      refine j_bipush (v := nI 31) dX9_trade_28 (by decide +kernel) ?_
      refine j_iload_n dX9_trade_30 rfl ?_
      first | (with_reducible refine j_gNN ?_; refine j_iaddN dX9_trade_31 ?_) | refine j_iadd dX9_trade_31 ?_
      refine j_iald dX9_trade_32 (Mo.S H _ _ _ rfl) rfl (by omega) (by decide) (by first | assumption | (rewrite [hC]; first | assumption | rfl) | rfl) ?_
      refine j_iconst (v := nI 1) dX9_trade_33 (by decide +kernel) ?_
      first | (with_reducible refine j_gNN ?_; refine j_icmp_neN (tgt := 41) dX9_trade_34 (by decide) (by omega) (by omega) (fun c_34 => ?_) (fun c_34 => ?_)) | refine j_icmp_ne (tgt := 41) dX9_trade_34 (by decide) (fun c_34 => ?_) (fun c_34 => ?_)
      · refine j_iconst (v := nI 0) dX9_trade_41 (by decide +kernel) ?_
        refine j_iload_n dX9_trade_42 rfl ?_
        first | (with_reducible refine j_gNN ?_; refine j_icmp_neN (tgt := 53) dX9_trade_43 (by decide) (by omega) (by omega) (fun c_43 => ?_) (fun c_43 => ?_)) | refine j_icmp_ne (tgt := 53) dX9_trade_43 (by decide) (fun c_43 => ?_) (fun c_43 => ?_)
        · first | refine j_aload_n dX9_trade_53 rfl ?_ | refine j_aload_nN dX9_trade_53 rfl ?_
          refine j_getR dX9_trade_54 fl_X9_35 rfl (Mo.h H) (Mo.R H _ _ _ rfl) ?_
          refine j_bipush (v := nI 31) dX9_trade_57 (by decide +kernel) ?_
          refine j_iload_n dX9_trade_59 rfl ?_
          first | (with_reducible refine j_gNN ?_; refine j_iaddN dX9_trade_60 ?_) | refine j_iadd dX9_trade_60 ?_
          refine j_iload_n dX9_trade_61 rfl ?_
          first | (with_reducible refine j_gB ?_; refine j_if_eqB (tgt := 69) dX9_trade_62 (by decide) (fun c_62 => ?_) (fun c_62 => ?_)) | (with_reducible refine j_gC ?_; refine j_if_eqC (tgt := 69) dX9_trade_62 (by decide) (fun c_62 => ?_) (fun c_62 => ?_)) | (with_reducible refine j_gN ?_; refine j_if_eqN (tgt := 69) dX9_trade_62 (by decide) (by omega) (fun c_62 => ?_) (fun c_62 => ?_)) | refine j_if_eq (tgt := 69) dX9_trade_62 (by decide) (fun c_62 => ?_) (fun c_62 => ?_)
          · refine j_iconst (v := nI 0) dX9_trade_69 (by decide +kernel) ?_
            refine j_iast dX9_trade_70 (Mo.S H _ _ _ rfl) rfl (by omega) (by decide) ?_
            refine j_iconst (v := nI 1) dX9_trade_71 (by decide +kernel) ?_
            refine j_iret dX9_trade_72 ⟨_, rfl, rfl⟩ (by omega) (by omega) ?_
            first
            | exact absurd rfl c_62
            | exact absurd rfl c_43
            | (rw [sI_U, hC]
               exact pubBD (b := true) (by unfold oTrade; rw [if_pos c_15, ep, if_neg (by rw [decide_eq_true c_34]; decide)]; rfl))
          · refine j_iconst (v := nI 1) dX9_trade_65 (by decide +kernel) ?_
            refine j_goto (tgt := 70) dX9_trade_66 (by decide) ?_
            refine j_iast dX9_trade_70 (Mo.S H _ _ _ rfl) rfl (by omega) (by decide) ?_
            refine j_iconst (v := nI 1) dX9_trade_71 (by decide +kernel) ?_
            refine j_iret dX9_trade_72 ⟨_, rfl, rfl⟩ (by omega) (by omega) ?_
            first
            | exact absurd rfl c_62
            | exact absurd rfl c_43
            | (rw [sI_U, hC]
               exact pubBD (b := true) (by unfold oTrade; rw [if_pos c_15, ep, if_neg (by rw [decide_eq_true c_34]; decide)]; rfl))
        · first | refine j_aload_n dX9_trade_46 rfl ?_ | refine j_aload_nN dX9_trade_46 rfl ?_
          refine j_bipush (v := nI 9) dX9_trade_47 (by decide +kernel) ?_
          refine j_dV1 kl_X9_82 (k_no H _) dX9_trade_49 rfl rfl (by decide) (Mo.h H) (Nat.le_of_ble_eq_true rfl) (by first | decide | omega) (by omega) (by omega) ?_
          refine j_iret dX9_trade_52 ⟨_, rfl, bI_nar _⟩ (by omega) (by omega) ?_
          first
          | exact absurd c_43 (by decide)
          | exact pubBDX (b := false) hC0 ne (by unfold oTrade; rw [if_pos c_15, ep, if_pos (decide_eq_false c_34)])
      · refine j_iconst (v := nI 1) dX9_trade_37 (by decide +kernel) ?_
        refine j_goto (tgt := 42) dX9_trade_38 (by decide) ?_
        refine j_iload_n dX9_trade_42 rfl ?_
        first | (with_reducible refine j_gNN ?_; refine j_icmp_neN (tgt := 53) dX9_trade_43 (by decide) (by omega) (by omega) (fun c_43 => ?_) (fun c_43 => ?_)) | refine j_icmp_ne (tgt := 53) dX9_trade_43 (by decide) (fun c_43 => ?_) (fun c_43 => ?_)
        · first | refine j_aload_n dX9_trade_53 rfl ?_ | refine j_aload_nN dX9_trade_53 rfl ?_
          refine j_getR dX9_trade_54 fl_X9_35 rfl (Mo.h H) (Mo.R H _ _ _ rfl) ?_
          refine j_bipush (v := nI 31) dX9_trade_57 (by decide +kernel) ?_
          refine j_iload_n dX9_trade_59 rfl ?_
          first | (with_reducible refine j_gNN ?_; refine j_iaddN dX9_trade_60 ?_) | refine j_iadd dX9_trade_60 ?_
          refine j_iload_n dX9_trade_61 rfl ?_
          first | (with_reducible refine j_gB ?_; refine j_if_eqB (tgt := 69) dX9_trade_62 (by decide) (fun c_62 => ?_) (fun c_62 => ?_)) | (with_reducible refine j_gC ?_; refine j_if_eqC (tgt := 69) dX9_trade_62 (by decide) (fun c_62 => ?_) (fun c_62 => ?_)) | (with_reducible refine j_gN ?_; refine j_if_eqN (tgt := 69) dX9_trade_62 (by decide) (by omega) (fun c_62 => ?_) (fun c_62 => ?_)) | refine j_if_eq (tgt := 69) dX9_trade_62 (by decide) (fun c_62 => ?_) (fun c_62 => ?_)
          · refine j_iconst (v := nI 0) dX9_trade_69 (by decide +kernel) ?_
            refine j_iast dX9_trade_70 (Mo.S H _ _ _ rfl) rfl (by omega) (by decide) ?_
            refine j_iconst (v := nI 1) dX9_trade_71 (by decide +kernel) ?_
            refine j_iret dX9_trade_72 ⟨_, rfl, rfl⟩ (by omega) (by omega) ?_
            first
            | exact absurd rfl c_62
            | exact absurd rfl c_43
            | (rw [sI_U, hC]
               exact pubBD (b := true) (by unfold oTrade; rw [if_pos c_15, ep, if_neg (by rw [decide_eq_true c_34]; decide)]; rfl))
          · refine j_iconst (v := nI 1) dX9_trade_65 (by decide +kernel) ?_
            refine j_goto (tgt := 70) dX9_trade_66 (by decide) ?_
            refine j_iast dX9_trade_70 (Mo.S H _ _ _ rfl) rfl (by omega) (by decide) ?_
            refine j_iconst (v := nI 1) dX9_trade_71 (by decide +kernel) ?_
            refine j_iret dX9_trade_72 ⟨_, rfl, rfl⟩ (by omega) (by omega) ?_
            first
            | exact absurd rfl c_62
            | exact absurd rfl c_43
            | (rw [sI_U, hC]
               exact pubBD (b := true) (by unfold oTrade; rw [if_pos c_15, ep, if_neg (by rw [decide_eq_true c_34]; decide)]; rfl))
        · first | refine j_aload_n dX9_trade_46 rfl ?_ | refine j_aload_nN dX9_trade_46 rfl ?_
          refine j_bipush (v := nI 9) dX9_trade_47 (by decide +kernel) ?_
          refine j_dV1 kl_X9_82 (k_no H _) dX9_trade_49 rfl rfl (by decide) (Mo.h H) (Nat.le_of_ble_eq_true rfl) (by first | decide | omega) (by omega) (by omega) ?_
          refine j_iret dX9_trade_52 ⟨_, rfl, bI_nar _⟩ (by omega) (by omega) ?_
          first
          | exact absurd c_43 (by decide)
          | exact pubBDX (b := false) hC0 ne (by unfold oTrade; rw [if_pos c_15, ep, if_pos (decide_eq_false c_34)])
    · first | refine j_aload_n dX9_trade_18 rfl ?_ | refine j_aload_nN dX9_trade_18 rfl ?_
      refine j_iconst (v := nI 2) dX9_trade_19 (by decide +kernel) ?_
      refine j_dV1 kl_X9_82 (k_no H _) dX9_trade_20 rfl rfl (by decide) (Mo.h H) (Nat.le_of_ble_eq_true rfl) (by first | decide | omega) (by omega) (by omega) ?_
      refine j_iret dX9_trade_23 ⟨_, rfl, bI_nar _⟩ (by omega) (by omega) ?_
      exact pubBDX (b := false) hC0 ne (by simp [oTrade, *])
theorem o_cancel (H : Mo σ h ad) (hC : σ.2.1 (ad 20) = C) {W P Dn : Nat} (hw : Wd C W P Dn) : Kd g l 4 MX9_cancel [.ref h] σ (some (.int (oCancel C Dn).1)) (sU (mSt σ h (oCancel C Dn).2.1) (ad 20) (oCancel C Dn).2.2) := by
  obtain ⟨⟨hW, hW8⟩, ⟨hP, hP6⟩, ⟨hD, hD6⟩, hdn⟩ := id hw
  have ne : ad 20 ≠ h := Mo.nh H (i := 20) rfl
  refine Kt.go (Y := MX9_cancel) (ls := [some (.ref h)]) (by decide) (Nat.le_of_ble_eq_true rfl) rfl ?_
  first | refine j_aload_n dX9_cancel_0 rfl ?_ | refine j_aload_nN dX9_cancel_0 rfl ?_
  refine j_iconst (v := nI 0) dX9_cancel_1 (by decide +kernel) ?_
  refine j_putI dX9_cancel_2 fl_X9_67 rfl (Mo.h H) rfl rfl rfl ?_
  first | refine j_aload_n dX9_cancel_5 rfl ?_ | refine j_aload_nN dX9_cancel_5 rfl ?_
  refine j_iconst (v := nI 0) dX9_cancel_6 (by decide +kernel) ?_
  refine j_putI dX9_cancel_7 fl_X9_70 rfl (Mo.h H) rfl rfl rfl ?_
  refine j_eq rfl rfl (σ' := mSt σ h (nI 0)) rfl ?_
  have H0 := H
  have hC0 := hC
  replace hC := (mSt_row (w := nI 0) H0 (k := 20) ⟨_, _, rfl⟩).trans hC0
  replace H : Mo (mSt σ h (nI 0)) h ad := H0
  first | refine j_aload_n dX9_cancel_10 rfl ?_ | refine j_aload_nN dX9_cancel_10 rfl ?_
  refine j_getR dX9_cancel_11 fl_X9_35 rfl (Mo.h H) (Mo.R H _ _ _ rfl) ?_
  refine j_iconst (v := nI 2) dX9_cancel_14 (by decide +kernel) ?_
  refine j_iald dX9_cancel_15 (Mo.S H _ _ _ rfl) rfl (by omega) (by decide) (by first | assumption | (rewrite [hC]; first | assumption | rfl) | rfl) ?_
  first | (with_reducible refine j_gB ?_; refine j_if_neB (tgt := 26) dX9_cancel_16 (by decide) (fun c_16 => ?_) (fun c_16 => ?_)) | (with_reducible refine j_gC ?_; refine j_if_neC (tgt := 26) dX9_cancel_16 (by decide) (fun c_16 => ?_) (fun c_16 => ?_)) | (with_reducible refine j_gN ?_; refine j_if_neN (tgt := 26) dX9_cancel_16 (by decide) (by omega) (fun c_16 => ?_) (fun c_16 => ?_)) | refine j_if_ne (tgt := 26) dX9_cancel_16 (by decide) (fun c_16 => ?_) (fun c_16 => ?_)
  · first | refine j_aload_n dX9_cancel_26 rfl ?_ | refine j_aload_nN dX9_cancel_26 rfl ?_
    refine j_getR dX9_cancel_27 fl_X9_35 rfl (Mo.h H) (Mo.R H _ _ _ rfl) ?_
    refine j_iconst (v := nI 2) dX9_cancel_30 (by decide +kernel) ?_
    refine j_dup2 dX9_cancel_31 rfl rfl ?_
    refine j_iald dX9_cancel_32 (Mo.S H _ _ _ rfl) rfl (by omega) (by decide) (by first | assumption | (rewrite [hC]; first | assumption | rfl) | rfl) ?_
    refine j_iconst (v := nI 1) dX9_cancel_33 (by decide +kernel) ?_
    first | (with_reducible refine j_gNN ?_; refine j_isubN dX9_cancel_34 (by omega) ?_) | refine j_isub dX9_cancel_34 ?_
    refine j_iast dX9_cancel_35 (Mo.S H _ _ _ rfl) rfl (by omega) (by decide) ?_
    rw [sI_U, hC]
    replace hC : (sU (mSt σ h (nI 0)) (ad 20) (up C 2 (nI (Dn - 1)))).2.1 (ad 20) 2 = nI (Dn - 1) := by rw [sU_e, up_eq]
    first | refine j_aload_n dX9_cancel_36 rfl ?_ | refine j_aload_nN dX9_cancel_36 rfl ?_
    refine j_getR dX9_cancel_37 fl_X9_35 rfl (Mo.h H) (Mo.R H _ _ _ rfl) ?_
    refine j_iconst (v := nI 2) dX9_cancel_40 (by decide +kernel) ?_
    refine j_iald dX9_cancel_41 (Mo.S H _ _ _ rfl) rfl (by omega) (by decide) (by first | assumption | (rewrite [hC]; first | assumption | rfl) | rfl) ?_
    refine j_iret dX9_cancel_42 ⟨_, rfl, rfl⟩ (by omega) (by omega) ?_
    exact pubD (by unfold oCancel; rw [if_neg c_16])
  · first | refine j_aload_n dX9_cancel_19 rfl ?_ | refine j_aload_nN dX9_cancel_19 rfl ?_
    refine j_bipush (v := nI 8) dX9_cancel_20 (by decide +kernel) ?_
    refine j_dV1 kl_X9_325 (m_refuse H _) dX9_cancel_22 rfl rfl (by decide) (Mo.h H) (Nat.le_of_ble_eq_true rfl) (by first | decide | omega) (by omega) (by omega) ?_
    refine j_iret dX9_cancel_25 ⟨_, rfl, rfl⟩ (by omega) (by omega) ?_
    exact pubDX hC0 ne (by unfold oCancel; rw [if_pos c_16])
theorem o_invite (H : Mo σ h ad) (hC : σ.2.1 (ad 20) = C) {W P Dn : Nat} (hw : Wd C W P Dn) (p q e : Int32) : Kd g l 4 MX9_invite [.ref h, .int p, .int q, .int e] σ (some (.int (oInvite C P Dn p q e).1)) (sU (mSt σ h (oInvite C P Dn p q e).2.1) (ad 20) (oInvite C P Dn p q e).2.2) := by
  obtain ⟨⟨hW, hW8⟩, ⟨hP, hP6⟩, ⟨hD, hD6⟩, hdn⟩ := id hw
  have ne : ad 20 ≠ h := Mo.nh H (i := 20) rfl
  refine Kt.go (Y := MX9_invite) (ls := [some (.ref h), some (.int p), some (.int q), some (.int e), none]) (by decide) (Nat.le_of_ble_eq_true rfl) rfl ?_
  first | refine j_aload_n dX9_invite_0 rfl ?_ | refine j_aload_nN dX9_invite_0 rfl ?_
  refine j_iconst (v := nI 0) dX9_invite_1 (by decide +kernel) ?_
  refine j_putI dX9_invite_2 fl_X9_67 rfl (Mo.h H) rfl rfl rfl ?_
  first | refine j_aload_n dX9_invite_5 rfl ?_ | refine j_aload_nN dX9_invite_5 rfl ?_
  refine j_iconst (v := nI 0) dX9_invite_6 (by decide +kernel) ?_
  refine j_putI dX9_invite_7 fl_X9_70 rfl (Mo.h H) rfl rfl rfl ?_
  refine j_eq rfl rfl (σ' := mSt σ h (nI 0)) rfl ?_
  have H0 := H
  have hC0 := hC
  replace hC := (mSt_row (w := nI 0) H0 (k := 20) ⟨_, _, rfl⟩).trans hC0
  replace H : Mo (mSt σ h (nI 0)) h ad := H0
  first | refine j_aload_n dX9_invite_10 rfl ?_ | refine j_aload_nN dX9_invite_10 rfl ?_
  refine j_iload_n dX9_invite_11 rfl ?_
  refine j_dV1 kl_X9_345 (m_isPersonAt H hC hP hP6 p) dX9_invite_12 rfl rfl (by decide) (Mo.h H) (Nat.le_of_ble_eq_true rfl) (by first | decide | omega) (by omega) (by omega) ?_
  first | (with_reducible refine j_gB ?_; refine j_if_eqB (tgt := 26) dX9_invite_15 (by decide) (fun c_15 => ?_) (fun c_15 => ?_)) | (with_reducible refine j_gC ?_; refine j_if_eqC (tgt := 26) dX9_invite_15 (by decide) (fun c_15 => ?_) (fun c_15 => ?_)) | (with_reducible refine j_gN ?_; refine j_if_eqN (tgt := 26) dX9_invite_15 (by decide) (by omega) (fun c_15 => ?_) (fun c_15 => ?_)) | refine j_if_eq (tgt := 26) dX9_invite_15 (by decide) (fun c_15 => ?_) (fun c_15 => ?_)
  · first | refine j_aload_n dX9_invite_26 rfl ?_ | refine j_aload_nN dX9_invite_26 rfl ?_
    refine j_iconst (v := nI 2) dX9_invite_27 (by decide +kernel) ?_
    refine j_dV1 kl_X9_325 (m_refuse H _) dX9_invite_28 rfl rfl (by decide) (Mo.h H) (Nat.le_of_ble_eq_true rfl) (by first | decide | omega) (by omega) (by omega) ?_
    refine j_iret dX9_invite_31 ⟨_, rfl, rfl⟩ (by omega) (by omega) ?_
    exact pubDX hC0 ne (by unfold oInvite; rw [if_neg]; simp [*])
  · first | refine j_aload_n dX9_invite_18 rfl ?_ | refine j_aload_nN dX9_invite_18 rfl ?_
    refine j_iload_n dX9_invite_19 rfl ?_
    refine j_dV1 kl_X9_345 (m_isPersonAt H hC hP hP6 q) dX9_invite_20 rfl rfl (by decide) (Mo.h H) (Nat.le_of_ble_eq_true rfl) (by first | decide | omega) (by omega) (by omega) ?_
    first | (with_reducible refine j_gB ?_; refine j_if_neB (tgt := 32) dX9_invite_23 (by decide) (fun c_23 => ?_) (fun c_23 => ?_)) | (with_reducible refine j_gC ?_; refine j_if_neC (tgt := 32) dX9_invite_23 (by decide) (fun c_23 => ?_) (fun c_23 => ?_)) | (with_reducible refine j_gN ?_; refine j_if_neN (tgt := 32) dX9_invite_23 (by decide) (by omega) (fun c_23 => ?_) (fun c_23 => ?_)) | refine j_if_ne (tgt := 32) dX9_invite_23 (by decide) (fun c_23 => ?_) (fun c_23 => ?_)
    · refine j_iload_n dX9_invite_32 rfl ?_
      refine j_iload_n dX9_invite_33 rfl ?_
      first | (with_reducible refine j_gNN ?_; refine j_icmp_eqN (tgt := 49) dX9_invite_34 (by decide) (by omega) (by omega) (fun c_34 => ?_) (fun c_34 => ?_)) | refine j_icmp_eq (tgt := 49) dX9_invite_34 (by decide) (fun c_34 => ?_) (fun c_34 => ?_)
      · first | refine j_aload_n dX9_invite_49 rfl ?_ | refine j_aload_nN dX9_invite_49 rfl ?_
        refine j_iconst (v := nI 5) dX9_invite_50 (by decide +kernel) ?_
        refine j_dV1 kl_X9_325 (m_refuse H _) dX9_invite_51 rfl rfl (by decide) (Mo.h H) (Nat.le_of_ble_eq_true rfl) (by first | decide | omega) (by omega) (by omega) ?_
        refine j_iret dX9_invite_54 ⟨_, rfl, rfl⟩ (by omega) (by omega) ?_
        exact pubDX hC0 ne (by unfold oInvite; rw [if_pos ⟨c_15, c_23⟩, if_neg]; simp [*])
      · refine j_iload_n dX9_invite_37 rfl ?_
        refine j_i2l dX9_invite_38 ?_
        refine j_lconst (v := 1) dX9_invite_39 (by decide +kernel) ?_
        refine j_ldc2 (v := 30) dX9_invite_40 q2167 ?_
        refine j_dS1 kl_X9_102 (k_inL _ _ _) dX9_invite_43 rfl rfl (Nat.le_of_ble_eq_true rfl) (by first | decide | omega) (by omega) (by omega) ?_
        first | (with_reducible refine j_gB ?_; refine j_if_neB (tgt := 55) dX9_invite_46 (by decide) (fun c_46 => ?_) (fun c_46 => ?_)) | (with_reducible refine j_gC ?_; refine j_if_neC (tgt := 55) dX9_invite_46 (by decide) (fun c_46 => ?_) (fun c_46 => ?_)) | (with_reducible refine j_gN ?_; refine j_if_neN (tgt := 55) dX9_invite_46 (by decide) (by omega) (fun c_46 => ?_) (fun c_46 => ?_)) | refine j_if_ne (tgt := 55) dX9_invite_46 (by decide) (fun c_46 => ?_) (fun c_46 => ?_)
        · first | refine j_aload_n dX9_invite_55 rfl ?_ | refine j_aload_nN dX9_invite_55 rfl ?_
          refine j_getR dX9_invite_56 fl_X9_35 rfl (Mo.h H) (Mo.R H _ _ _ rfl) ?_
          refine j_iconst (v := nI 2) dX9_invite_59 (by decide +kernel) ?_
          refine j_iald dX9_invite_60 (Mo.S H _ _ _ rfl) rfl (by omega) (by decide) (by first | assumption | (rewrite [hC]; first | assumption | rfl) | rfl) ?_
          refine j_istore dX9_invite_61 (by decide) ?_
          refine j_iload dX9_invite_63 rfl ?_
          refine j_bipush (v := nI 6) dX9_invite_65 (by decide +kernel) ?_
          first | (with_reducible refine j_gNN ?_; refine j_icmp_neN (tgt := 77) dX9_invite_67 (by decide) (by omega) (by omega) (fun c_67 => ?_) (fun c_67 => ?_)) | refine j_icmp_ne (tgt := 77) dX9_invite_67 (by decide) (fun c_67 => ?_) (fun c_67 => ?_)
          · first | refine j_aload_n dX9_invite_77 rfl ?_ | refine j_aload_nN dX9_invite_77 rfl ?_
            refine j_getR dX9_invite_78 fl_X9_35 rfl (Mo.h H) (Mo.R H _ _ _ rfl) ?_
            refine j_sipush (v := nI 145) dX9_invite_81 (by decide +kernel) ?_
            refine j_iload dX9_invite_84 rfl ?_
            first | (with_reducible refine j_gNN ?_; refine j_iaddN dX9_invite_86 ?_) | refine j_iadd dX9_invite_86 ?_
            refine j_iload_n dX9_invite_87 rfl ?_
            refine j_iast dX9_invite_88 (Mo.S H _ _ _ rfl) rfl (by omega) (by decide) ?_
            rw [sI_U, hC]
            first | refine j_aload_n dX9_invite_89 rfl ?_ | refine j_aload_nN dX9_invite_89 rfl ?_
            refine j_getR dX9_invite_90 fl_X9_35 rfl (Mo.h H) (Mo.R H _ _ _ rfl) ?_
            refine j_sipush (v := nI 151) dX9_invite_93 (by decide +kernel) ?_
            refine j_iload dX9_invite_96 rfl ?_
            first | (with_reducible refine j_gNN ?_; refine j_iaddN dX9_invite_98 ?_) | refine j_iadd dX9_invite_98 ?_
            refine j_iload_n dX9_invite_99 rfl ?_
            refine j_iast dX9_invite_100 (Mo.S H _ _ _ rfl) rfl (by omega) (by decide) ?_
            rw [sU_I]
            first | refine j_aload_n dX9_invite_101 rfl ?_ | refine j_aload_nN dX9_invite_101 rfl ?_
            refine j_getR dX9_invite_102 fl_X9_35 rfl (Mo.h H) (Mo.R H _ _ _ rfl) ?_
            refine j_sipush (v := nI 157) dX9_invite_105 (by decide +kernel) ?_
            refine j_iload dX9_invite_108 rfl ?_
            first | (with_reducible refine j_gNN ?_; refine j_iaddN dX9_invite_110 ?_) | refine j_iadd dX9_invite_110 ?_
            refine j_iload_n dX9_invite_111 rfl ?_
            refine j_iast dX9_invite_112 (Mo.S H _ _ _ rfl) rfl (by omega) (by decide) ?_
            rw [sU_I]
            have hC : (sU (mSt σ h (nI 0)) (ad 20) (up (up (up C (145 + Dn) p) (151 + Dn) q) (157 + Dn) e)).2.1 (ad 20) 2 = nI Dn := by rw [sU_e, up_ne (by omega), up_ne (by omega), up_ne (by omega)]; exact hD
            first | refine j_aload_n dX9_invite_113 rfl ?_ | refine j_aload_nN dX9_invite_113 rfl ?_
            refine j_getR dX9_invite_114 fl_X9_35 rfl (Mo.h H) (Mo.R H _ _ _ rfl) ?_
            refine j_iconst (v := nI 2) dX9_invite_117 (by decide +kernel) ?_
            refine j_dup2 dX9_invite_118 rfl rfl ?_
            refine j_iald dX9_invite_119 (Mo.S H _ _ _ rfl) rfl (by omega) (by decide) (by first | assumption | (rewrite [hC]; first | assumption | rfl) | rfl) ?_
            refine j_iconst (v := nI 1) dX9_invite_120 (by decide +kernel) ?_
            first | (with_reducible refine j_gNN ?_; refine j_iaddN dX9_invite_121 ?_) | refine j_iadd dX9_invite_121 ?_
            refine j_iast dX9_invite_122 (Mo.S H _ _ _ rfl) rfl (by omega) (by decide) ?_
            rw [sU_I]
            refine j_iload dX9_invite_123 rfl ?_
            refine j_iret dX9_invite_125 ⟨_, rfl, rfl⟩ (by omega) (by omega) ?_
            exact pubD (by unfold oInvite; rw [if_pos ⟨c_15, c_23⟩, if_pos ⟨c_34, c_46⟩, if_neg c_67])
          · first | refine j_aload_n dX9_invite_70 rfl ?_ | refine j_aload_nN dX9_invite_70 rfl ?_
            refine j_bipush (v := nI 7) dX9_invite_71 (by decide +kernel) ?_
            refine j_dV1 kl_X9_325 (m_refuse H _) dX9_invite_73 rfl rfl (by decide) (Mo.h H) (Nat.le_of_ble_eq_true rfl) (by first | decide | omega) (by omega) (by omega) ?_
            refine j_iret dX9_invite_76 ⟨_, rfl, rfl⟩ (by omega) (by omega) ?_
            exact pubDX hC0 ne (by unfold oInvite; rw [if_pos ⟨c_15, c_23⟩, if_pos ⟨c_34, c_46⟩, if_pos c_67])
        · first | refine j_aload_n dX9_invite_49 rfl ?_ | refine j_aload_nN dX9_invite_49 rfl ?_
          refine j_iconst (v := nI 5) dX9_invite_50 (by decide +kernel) ?_
          refine j_dV1 kl_X9_325 (m_refuse H _) dX9_invite_51 rfl rfl (by decide) (Mo.h H) (Nat.le_of_ble_eq_true rfl) (by first | decide | omega) (by omega) (by omega) ?_
          refine j_iret dX9_invite_54 ⟨_, rfl, rfl⟩ (by omega) (by omega) ?_
          exact pubDX hC0 ne (by unfold oInvite; rw [if_pos ⟨c_15, c_23⟩, if_neg]; simp [*])
    · first | refine j_aload_n dX9_invite_26 rfl ?_ | refine j_aload_nN dX9_invite_26 rfl ?_
      refine j_iconst (v := nI 2) dX9_invite_27 (by decide +kernel) ?_
      refine j_dV1 kl_X9_325 (m_refuse H _) dX9_invite_28 rfl rfl (by decide) (Mo.h H) (Nat.le_of_ble_eq_true rfl) (by first | decide | omega) (by omega) (by omega) ?_
      refine j_iret dX9_invite_31 ⟨_, rfl, rfl⟩ (by omega) (by omega) ?_
      exact pubDX hC0 ne (by unfold oInvite; rw [if_neg]; simp [*])
end M10
