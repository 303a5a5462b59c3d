/-! THE MODEL's FIRST MOVES, DINNERS AHEAD, RULES, MARKS -/
set_option maxRecDepth 100000
section M16
variable {g : Gx} {l : Launch} {σ : Sg} {h : Nat} {ad : Nat → Nat} {C : Nat → Int32}
theorem o_moveOf (H : Mo σ h ad) (hC0 : σ.2.1 (ad 20) = C) {W P Dn : Nat} (hw : Wd C W P Dn) (p q t : Int32) : Kq g l h ad 8 MX9_moveOf [.ref h, .int p, .int q, .int t] σ (some (.int (oMoveOf C W P p q t).1)) (mSt σ h (oMoveOf C W P p q t).2) := by
  obtain ⟨⟨hW, hW8⟩, ⟨hP, hP6⟩, ⟨hD, hD6⟩, hdn⟩ := id hw
  have H0 := H
  have ne20 : ad 20 ≠ h := Mo.nh H (i := 20) rfl
  have ne32 : ad 20 ≠ ad 32 := Mo.ne H (by decide) (by decide) (by decide)
  refine Kt.go (Y := MX9_moveOf) (ls := [some (.ref h), some (.int p), some (.int q), some (.int t)]) (by decide) (Nat.le_of_ble_eq_true rfl) rfl ?_
  first | refine j_aload_n dX9_moveOf_0 rfl ?_ | refine j_aload_nN dX9_moveOf_0 rfl ?_
  refine j_iconst (v := nI 0) dX9_moveOf_1 (by decide +kernel) ?_
  refine j_putI dX9_moveOf_2 fl_X9_67 rfl (Mo.h H) rfl rfl rfl ?_
  first | refine j_aload_n dX9_moveOf_5 rfl ?_ | refine j_aload_nN dX9_moveOf_5 rfl ?_
  first | refine j_aload_n dX9_moveOf_6 rfl ?_ | refine j_aload_nN dX9_moveOf_6 rfl ?_
  refine j_iload_n dX9_moveOf_7 rfl ?_
  refine j_iload_n dX9_moveOf_8 rfl ?_
  refine j_iload_n dX9_moveOf_9 rfl ?_
  refine j_iconst (v := nI 1) dX9_moveOf_10 (by decide +kernel) ?_
  refine j_dV1 kl_X9_507 (m_whyNoGame (σ := sI σ h 1 (nI 0)) H ((sI_n ne20).trans hC0) hP hP6 p q t (nI 1)) dX9_moveOf_11 rfl rfl (by decide) (Mo.h H) (Nat.le_of_ble_eq_true rfl) (by first | decide | omega) (by omega) (by omega) ?_
  refine j_putI dX9_moveOf_14 fl_X9_70 rfl (Mo.h H) rfl rfl rfl ?_
  refine j_eq (σ' := mSt σ h (mWhyG P p q t (nI 1))) rfl rfl rfl ?_
  replace H : Mo (mSt σ h (mWhyG P p q t (nI 1))) h ad := H0
  have hC := mSt_st (σ := σ) (h := h) (w := mWhyG P p q t (nI 1))
  first | refine j_aload_n dX9_moveOf_17 rfl ?_ | refine j_aload_nN dX9_moveOf_17 rfl ?_
  refine j_getI dX9_moveOf_18 fl_X9_70 rfl (Mo.h H) hC ?_
  first | (with_reducible refine j_gC ?_; refine j_if_leC (tgt := 26) dX9_moveOf_21 (by decide) (fun c_21 => ?_) (fun c_21 => ?_)) | refine j_if_le (tgt := 26) dX9_moveOf_21 (by decide) (fun c_21 => ?_) (fun c_21 => ?_)
  · have z : mWhyG P p q t (nI 1) = nI 0 := mWhyG_nn.resolve_right (Int32.not_lt.mpr c_21)
    obtain ⟨p, q, t, rfl, rfl, rfl, hp, hq, hpq, ht, ht1⟩ := mWhyG_0 (least := nI 1) (by decide +kernel) z
    rw [nI_toInt (by decide)] at ht1
    have eo : oMoveOf C W P (nI p) (nI q) (nI t) = if (mPlayS W p q t true C).2 = some W then (-1, nI 8) else (oI (mPlayS W p q t true C).2, nI 0) := by rw [oMoveOf, if_pos z, ixn_nI (by omega), ixn_nI (by omega), ixn_nI (by omega)]
    rw [eo, z]
    rw [z] at H
    have hr := (mSt_row (w := nI 0) H0 (k := 20) ⟨_, _, rfl⟩).trans hC0
    first | refine j_aload_n dX9_moveOf_26 rfl ?_ | refine j_aload_nN dX9_moveOf_26 rfl ?_
    refine j_iload_n dX9_moveOf_27 rfl ?_
    refine j_iload_n dX9_moveOf_28 rfl ?_
    refine j_iconst (v := nI 0) dX9_moveOf_29 (by decide +kernel) ?_
    refine j_iload_n dX9_moveOf_30 rfl ?_
    refine j_callV kl_X9_497 (m_plays (σ := mSt σ h (nI 0)) hW8 (show p < 6 by omega) (show q < 6 by omega) ht t 0 (Nat.zero_add t) H hr hW rfl) dX9_moveOf_31 rfl rfl (by decide) (Mo.h H) (Nat.le_of_ble_eq_true rfl) (by first | decide | omega) (by omega) (by omega) (fun v τ hq => ?_) (fun _ _ _ hq => hq.elim)
    obtain ⟨T2, x, rfl, rfl, -, -, hx⟩ := hq
    have hx := hx rfl (by omega)
    rw [show decide (0 % 2 = 0) = true from rfl] at hx ⊢
    subst hx
    have hlt : ∀ k, (mPlayS W p q t true C).2 = some k → k < W + 1 := fun k e => by
      obtain ⟨f, rfl⟩ : ∃ f, t = f + 1 := ⟨t - 1, by omega⟩
      exact plS_lt _ _ e
    generalize hmv : (mPlayS W p q t true C).2 = mv at hlt ⊢
    replace H : Mo (sI (sU (mSt σ h (nI 0)) (ad 32) T2) h 33 (oI mv)) h ad := H0
    have hF : (sI (sU (mSt σ h (nI 0)) (ad 32) T2) h 33 (oI mv)).2.1 h 33 = oI mv := by rw [sI_e, up_eq]
    have hq2 : Eqm h ad (sI (sU (mSt σ h (nI 0)) (ad 32) T2) h 33 (oI mv)) (mSt σ h (nI 0)) := Eqm.f (by omega) (Eqm.a (by omega) Eqm.rf)
    replace hC : (sI (sU (mSt σ h (nI 0)) (ad 32) T2) h 33 (oI mv)).2.1 (ad 20) = C := (sI_n ne20).trans ((sU_n ne32).trans hr)
    refine j_pop dX9_moveOf_34 rfl ?_
    first | refine j_aload_n dX9_moveOf_35 rfl ?_ | refine j_aload_nN dX9_moveOf_35 rfl ?_
    refine j_getI dX9_moveOf_36 fl_X9_504 rfl (Mo.h H) hF ?_
    first | refine j_aload_n dX9_moveOf_39 rfl ?_ | refine j_aload_nN dX9_moveOf_39 rfl ?_
    refine j_getR dX9_moveOf_40 fl_X9_35 rfl (Mo.h H) (Mo.R H _ _ _ rfl) ?_
    refine j_iconst (v := nI 0) dX9_moveOf_43 (by decide +kernel) ?_
    refine j_iald dX9_moveOf_44 (Mo.S H _ _ _ rfl) rfl (by omega) (by decide) (by first | assumption | (rewrite [hC]; first | assumption | rfl) | rfl) ?_
    first | (with_reducible refine j_gNN ?_; refine j_icmp_neN (tgt := 57) dX9_moveOf_45 (by decide) (by omega) (by omega) (fun c_45 => ?_) (fun c_45 => ?_)) | refine j_icmp_ne (tgt := 57) dX9_moveOf_45 (by decide) (fun c_45 => ?_) (fun c_45 => ?_)
    · first | refine j_aload_n dX9_moveOf_57 rfl ?_ | refine j_aload_nN dX9_moveOf_57 rfl ?_
      refine j_getI dX9_moveOf_58 fl_X9_504 rfl (Mo.h H) hF ?_
      refine j_iret dX9_moveOf_61 ⟨_, rfl, rfl⟩ (by omega) (by omega) ?_
      cases mv with
      | none =>
        first
        | (have z : ¬ oI none = nI W := c_45
           rw [if_neg (by simp)]
           exact ⟨rfl, hq2⟩)
        | (have z : oI none = nI W := c_45
           exact absurd (congrArg (fun x : Int32 => decide (x < 0)) z) (by
             have : ∀ W, W < 9 → ¬ (decide (oI none < 0) = decide (nI W < 0)) := by decide +kernel
             exact this W (by omega)))
      | some k =>
        have hk := hlt k rfl
        first
        | (have z : ¬ nI k = nI W := c_45
           rw [if_neg (fun e => z (by cases e; rfl))]
           exact ⟨rfl, hq2⟩)
        | (have z : nI k = nI W := c_45
           have z2 : k = W := (nI_eq (by omega) (by omega)).mp z
           rw [if_pos (by rw [z2])]
           refine ⟨rfl, ?_⟩
           have y := Eqm.i (a := h) (k := 0) (x := nI 8) hq2
           rw [mSt_r] at y
           exact y)
    · first | refine j_aload_n dX9_moveOf_48 rfl ?_ | refine j_aload_nN dX9_moveOf_48 rfl ?_
      refine j_bipush (v := nI 8) dX9_moveOf_49 (by decide +kernel) ?_
      refine j_dV1 kl_X9_325 (m_refuse H _) dX9_moveOf_51 rfl rfl (by decide) (Mo.h H) (Nat.le_of_ble_eq_true rfl) (by first | decide | omega) (by omega) (by omega) ?_
      refine j_goto (tgt := 61) dX9_moveOf_54 (by decide) ?_
      refine j_iret dX9_moveOf_61 ⟨_, rfl, rfl⟩ (by omega) (by omega) ?_
      cases mv with
      | none =>
        first
        | (have z : ¬ oI none = nI W := c_45
           rw [if_neg (by simp)]
           exact ⟨rfl, hq2⟩)
        | (have z : oI none = nI W := c_45
           exact absurd (congrArg (fun x : Int32 => decide (x < 0)) z) (by
             have : ∀ W, W < 9 → ¬ (decide (oI none < 0) = decide (nI W < 0)) := by decide +kernel
             exact this W (by omega)))
      | some k =>
        have hk := hlt k rfl
        first
        | (have z : ¬ nI k = nI W := c_45
           rw [if_neg (fun e => z (by cases e; rfl))]
           exact ⟨rfl, hq2⟩)
        | (have z : nI k = nI W := c_45
           have z2 : k = W := (nI_eq (by omega) (by omega)).mp z
           rw [if_pos (by rw [z2])]
           refine ⟨rfl, ?_⟩
           have y := Eqm.i (a := h) (k := 0) (x := nI 8) hq2
           rw [mSt_r] at y
           exact y)
  · refine j_iconst (v := -1) dX9_moveOf_24 (by decide +kernel) ?_
    refine j_iret dX9_moveOf_25 ⟨_, rfl, rfl⟩ (by omega) (by omega) ?_
    have z : ¬ mWhyG P p q t (nI 1) = nI 0 := fun q => by rw [q] at c_21; exact absurd c_21 (by decide +kernel)
    exact qubR (by rw [oMoveOf, if_neg z]) Eqm.rf
theorem o_dinesIn (H : Mo σ h ad) (hC : σ.2.1 (ad 20) = C) {W P Dn : Nat} (hw : Wd C W P Dn) (p : Int32) : Kd g l 4 MX9_dinesIn [.ref h, .int p] σ (some (.int (oDinesIn C P Dn p).1)) (mSt σ h (oDinesIn C P Dn p).2) := by
  obtain ⟨⟨hW, hW8⟩, ⟨hP, hP6⟩, ⟨hD, hD6⟩, hdn⟩ := id hw
  refine Kt.go (Y := MX9_dinesIn) (ls := [some (.ref h), some (.int p), none, none]) (by decide) (Nat.le_of_ble_eq_true rfl) rfl ?_
  first | refine j_aload_n dX9_dinesIn_0 rfl ?_ | refine j_aload_nN dX9_dinesIn_0 rfl ?_
  refine j_iconst (v := nI 0) dX9_dinesIn_1 (by decide +kernel) ?_
  refine j_putI dX9_dinesIn_2 fl_X9_67 rfl (Mo.h H) rfl rfl rfl ?_
  first | refine j_aload_n dX9_dinesIn_5 rfl ?_ | refine j_aload_nN dX9_dinesIn_5 rfl ?_
  refine j_iconst (v := nI 0) dX9_dinesIn_6 (by decide +kernel) ?_
  refine j_putI dX9_dinesIn_7 fl_X9_70 rfl (Mo.h H) rfl rfl rfl ?_
  refine j_eq rfl rfl (σ' := mSt σ h (nI 0)) rfl ?_
  have H0 := H
  have hC0 := hC
  replace hC := (mSt_row (w := nI 0) H0 (k := 20) ⟨_, _, rfl⟩).trans hC0
  replace H : Mo (mSt σ h (nI 0)) h ad := H0
  first | refine j_aload_n dX9_dinesIn_10 rfl ?_ | refine j_aload_nN dX9_dinesIn_10 rfl ?_
  refine j_iload_n dX9_dinesIn_11 rfl ?_
  refine j_dV1 kl_X9_345 (m_isPersonAt H hC hP hP6 p) dX9_dinesIn_12 rfl rfl (by decide) (Mo.h H) (Nat.le_of_ble_eq_true rfl) (by first | decide | omega) (by omega) (by omega) ?_
  first | (with_reducible refine j_gB ?_; refine j_if_neB (tgt := 24) dX9_dinesIn_15 (by decide) (fun c_15 => ?_) (fun c_15 => ?_)) | (with_reducible refine j_gC ?_; refine j_if_neC (tgt := 24) dX9_dinesIn_15 (by decide) (fun c_15 => ?_) (fun c_15 => ?_)) | (with_reducible refine j_gN ?_; refine j_if_neN (tgt := 24) dX9_dinesIn_15 (by decide) (by omega) (fun c_15 => ?_) (fun c_15 => ?_)) | refine j_if_ne (tgt := 24) dX9_dinesIn_15 (by decide) (fun c_15 => ?_) (fun c_15 => ?_)
  · have eo : oDinesIn C P Dn p = oFound 1 (fUp (fun t => !allB (dinF C p (t + 1)) Dn) 30) := by rw [oDinesIn, if_pos c_15]
    rw [eo]
    have key : ∀ j, j ≤ 30 → ∀ x3, fUp (fun t => !allB (dinF C p (t + 1)) Dn) j = none → Td g l 4 MX9_dinesIn [.ref h, .int p] (mSt σ h (oFound 1 (fUp (fun t => !allB (dinF C p (t + 1)) Dn) 30)).2) (some (.int (oFound 1 (fUp (fun t => !allB (dinF C p (t + 1)) Dn) 30)).1)) 26 [some (.ref h), some (.int p), some (.int (nI (j + 1))), x3] [] (mSt σ h (nI 0)) := by
      refine loop_up fun j hj ih => ?_
      intro x3 hf
      refine j_iload_n dX9_dinesIn_26 rfl ?_
      refine j_bipush (v := nI 30) dX9_dinesIn_27 (by decide +kernel) ?_
      first | (with_reducible refine j_gNN ?_; refine j_icmp_gtN (tgt := 90) dX9_dinesIn_29 (by decide) (by omega) (by omega) (fun c_29 => ?_) (fun c_29 => ?_)) | refine j_icmp_gt (tgt := 90) dX9_dinesIn_29 (by decide) (fun c_29 => ?_) (fun c_29 => ?_)
      · first | refine j_aload_n dX9_dinesIn_90 rfl ?_ | refine j_aload_nN dX9_dinesIn_90 rfl ?_
        refine j_bipush (v := nI 8) dX9_dinesIn_91 (by decide +kernel) ?_
        refine j_dV1 kl_X9_325 (m_refuse H _) dX9_dinesIn_93 rfl rfl (by decide) (Mo.h H) (Nat.le_of_ble_eq_true rfl) (by first | decide | omega) (by omega) (by omega) ?_
        refine j_iret dX9_dinesIn_96 ⟨_, rfl, rfl⟩ (by omega) (by omega) ?_
        rw [show (30 : Nat) = j by omega, hf]
        exact ⟨rfl, mSt_r⟩
      · refine j_iconst (v := nI 0) dX9_dinesIn_32 (by decide +kernel) ?_
        refine j_istore_n dX9_dinesIn_33 (by decide) ?_
        have keyD : ∀ d, d ≤ Dn → allB (dinF C p (j + 1)) d = true → Td g l 4 MX9_dinesIn [.ref h, .int p] (mSt σ h (oFound 1 (fUp (fun t => !allB (dinF C p (t + 1)) Dn) 30)).2) (some (.int (oFound 1 (fUp (fun t => !allB (dinF C p (t + 1)) Dn) 30)).1)) 34 [some (.ref h), some (.int p), some (.int (nI (j + 1))), some (.int (nI d))] [] (mSt σ h (nI 0)) := by
          refine loop_up fun d hd ihd => ?_
          intro hA
          by_cases hdD : d < Dn
          · obtain ⟨da, db, e, h1, h2, h3, h4, h5, h6, h7, h8⟩ := hdn d hdD
            have hne : ¬ nI e = 0 := by
              intro q
              have := (nI_eq (by omega) (by decide)).mp (q.trans nI_0.symm)
              omega
            refine j_iload_n dX9_dinesIn_34 rfl ?_
            first | refine j_aload_n dX9_dinesIn_35 rfl ?_ | refine j_aload_nN dX9_dinesIn_35 rfl ?_
            refine j_getR dX9_dinesIn_36 fl_X9_35 rfl (Mo.h H) (Mo.R H _ _ _ rfl) ?_
            refine j_iconst (v := nI 2) dX9_dinesIn_39 (by decide +kernel) ?_
            refine j_iald dX9_dinesIn_40 (Mo.S H _ _ _ rfl) rfl (by omega) (by decide) (by first | assumption | (rewrite [hC]; first | assumption | rfl) | rfl) ?_
            first | (with_reducible refine j_gNN ?_; refine j_icmp_geN (tgt := 84) dX9_dinesIn_41 (by decide) (by omega) (by omega) (fun c_41 => ?_) (fun c_41 => ?_)) | refine j_icmp_ge (tgt := 84) dX9_dinesIn_41 (by decide) (fun c_41 => ?_) (fun c_41 => ?_)
            · exact absurd hdD (by omega)
            · first | refine j_aload_n dX9_dinesIn_44 rfl ?_ | refine j_aload_nN dX9_dinesIn_44 rfl ?_
              refine j_iload_n dX9_dinesIn_45 rfl ?_
              refine j_iload_n dX9_dinesIn_46 rfl ?_
              refine j_dV1 kl_X9_418 (m_dinesWith H hC (by omega) p) dX9_dinesIn_47 rfl rfl (by decide) (Mo.h H) (Nat.le_of_ble_eq_true rfl) (by first | decide | omega) (by omega) (by omega) ?_
              first | (with_reducible refine j_gB ?_; refine j_if_eqB (tgt := 78) dX9_dinesIn_50 (by decide) (fun c_50 => ?_) (fun c_50 => ?_)) | (with_reducible refine j_gC ?_; refine j_if_eqC (tgt := 78) dX9_dinesIn_50 (by decide) (fun c_50 => ?_) (fun c_50 => ?_)) | (with_reducible refine j_gN ?_; refine j_if_eqN (tgt := 78) dX9_dinesIn_50 (by decide) (by omega) (fun c_50 => ?_) (fun c_50 => ?_)) | refine j_if_eq (tgt := 78) dX9_dinesIn_50 (by decide) (fun c_50 => ?_) (fun c_50 => ?_)
              · first | refine j_iincN dX9_dinesIn_78 rfl (by decide) ?_ | refine j_iinc dX9_dinesIn_78 rfl rfl (by decide) ?_
                refine j_goto (tgt := 34) dX9_dinesIn_81 (by decide) ?_
                first
                | exact ihd hdD (by rw [allB, hA, dinF, c_50]; rfl)
                | (have z : ¬ rm (C 6 + nI (j + 1)) (C (157 + d)) = 0 := by rw [h6]; exact c_73
                   exact ihd hdD (by rw [allB, hA, dinF, decide_eq_false z, Bool.and_false]; rfl))
              · first | refine j_aload_n dX9_dinesIn_53 rfl ?_ | refine j_aload_nN dX9_dinesIn_53 rfl ?_
                refine j_getR dX9_dinesIn_54 fl_X9_35 rfl (Mo.h H) (Mo.R H _ _ _ rfl) ?_
                refine j_bipush (v := nI 6) dX9_dinesIn_57 (by decide +kernel) ?_
                refine j_iald dX9_dinesIn_59 (Mo.S H _ _ _ rfl) rfl (by omega) (by decide) (by first | assumption | (rewrite [hC]; first | assumption | rfl) | rfl) ?_
                refine j_iload_n dX9_dinesIn_60 rfl ?_
                refine j_iadd dX9_dinesIn_61 ?_
                first | refine j_aload_n dX9_dinesIn_62 rfl ?_ | refine j_aload_nN dX9_dinesIn_62 rfl ?_
                refine j_getR dX9_dinesIn_63 fl_X9_35 rfl (Mo.h H) (Mo.R H _ _ _ rfl) ?_
                refine j_sipush (v := nI 157) dX9_dinesIn_66 (by decide +kernel) ?_
                refine j_iload_n dX9_dinesIn_69 rfl ?_
                first | (with_reducible refine j_gNN ?_; refine j_iaddN dX9_dinesIn_70 ?_) | refine j_iadd dX9_dinesIn_70 ?_
                refine j_iald dX9_dinesIn_71 (Mo.S H _ _ _ rfl) rfl (by omega) (by decide) (by first | assumption | (rewrite [hC]; first | assumption | rfl) | rfl) ?_
                refine j_irem dX9_dinesIn_72 hne ?_
                first | (with_reducible refine j_gB ?_; refine j_if_neB (tgt := 78) dX9_dinesIn_73 (by decide) (fun c_73 => ?_) (fun c_73 => ?_)) | (with_reducible refine j_gC ?_; refine j_if_neC (tgt := 78) dX9_dinesIn_73 (by decide) (fun c_73 => ?_) (fun c_73 => ?_)) | (with_reducible refine j_gN ?_; refine j_if_neN (tgt := 78) dX9_dinesIn_73 (by decide) (by omega) (fun c_73 => ?_) (fun c_73 => ?_)) | refine j_if_ne (tgt := 78) dX9_dinesIn_73 (by decide) (fun c_73 => ?_) (fun c_73 => ?_)
                · first | refine j_iincN dX9_dinesIn_78 rfl (by decide) ?_ | refine j_iinc dX9_dinesIn_78 rfl rfl (by decide) ?_
                  refine j_goto (tgt := 34) dX9_dinesIn_81 (by decide) ?_
                  first
                  | exact ihd hdD (by rw [allB, hA, dinF, c_50]; rfl)
                  | (have z : ¬ rm (C 6 + nI (j + 1)) (C (157 + d)) = 0 := by rw [h6]; exact c_73
                     exact ihd hdD (by rw [allB, hA, dinF, decide_eq_false z, Bool.and_false]; rfl))
                · refine j_iload_n dX9_dinesIn_76 rfl ?_
                  refine j_iret dX9_dinesIn_77 ⟨_, rfl, rfl⟩ (by omega) (by omega) ?_
                  have z : rm (C 6 + nI (j + 1)) (C (157 + d)) = 0 := by rw [h6]; exact c_73
                  have y : allB (dinF C p (j + 1)) Dn = false := allB_le (m := d + 1) (by rw [allB, hA, dinF, decide_eq_true z, c_50]; rfl) (by omega)
                  rw [fUp_le (j := j + 1) (k := j) (by rw [fUp, hf]; show (if (!allB (dinF C p (j + 1)) Dn) = true then some j else none) = some j; rw [y]; rfl) (by omega)]
                  exact ⟨rfl, rfl⟩
          · refine j_iload_n dX9_dinesIn_34 rfl ?_
            first | refine j_aload_n dX9_dinesIn_35 rfl ?_ | refine j_aload_nN dX9_dinesIn_35 rfl ?_
            refine j_getR dX9_dinesIn_36 fl_X9_35 rfl (Mo.h H) (Mo.R H _ _ _ rfl) ?_
            refine j_iconst (v := nI 2) dX9_dinesIn_39 (by decide +kernel) ?_
            refine j_iald dX9_dinesIn_40 (Mo.S H _ _ _ rfl) rfl (by omega) (by decide) (by first | assumption | (rewrite [hC]; first | assumption | rfl) | rfl) ?_
            first | (with_reducible refine j_gNN ?_; refine j_icmp_geN (tgt := 84) dX9_dinesIn_41 (by decide) (by omega) (by omega) (fun c_41 => ?_) (fun c_41 => ?_)) | refine j_icmp_ge (tgt := 84) dX9_dinesIn_41 (by decide) (fun c_41 => ?_) (fun c_41 => ?_)
            · first | refine j_iincN dX9_dinesIn_84 rfl (by decide) ?_ | refine j_iinc dX9_dinesIn_84 rfl rfl (by decide) ?_
              refine j_goto (tgt := 26) dX9_dinesIn_87 (by decide) ?_
              refine ih (by omega) _ ?_
              rw [fUp, hf]
              show (if (!allB (dinF C p (j + 1)) Dn) = true then some j else none) = none
              rw [← show d = Dn by omega, hA]
              rfl
            · omega
        exact keyD 0 (by omega) rfl
    refine j_iconst (v := nI 1) dX9_dinesIn_24 (by decide +kernel) ?_
    refine j_istore_n dX9_dinesIn_25 (by decide) ?_
    exact key 0 (by omega) none rfl
  · first | refine j_aload_n dX9_dinesIn_18 rfl ?_ | refine j_aload_nN dX9_dinesIn_18 rfl ?_
    refine j_iconst (v := nI 2) dX9_dinesIn_19 (by decide +kernel) ?_
    refine j_dV1 kl_X9_325 (m_refuse H _) dX9_dinesIn_20 rfl rfl (by decide) (Mo.h H) (Nat.le_of_ble_eq_true rfl) (by first | decide | omega) (by omega) (by omega) ?_
    refine j_iret dX9_dinesIn_23 ⟨_, rfl, rfl⟩ (by omega) (by omega) ?_
    exact pubX (by simp [oDinesIn, *])
end M16
