/-! THE MODEL's ROUNDS, PLAITS, TELLERS -/
set_option maxRecDepth 100000
def oneF (C : Nat → Int32) (P Hn j : Nat) (b : Int32) : Int32 := if szOf b < szOf (nI (j + 1)) ∧ mIsOne C P Hn (nI (j + 1)) = true then nI (j + 1) else b
def telF (C : Nat → Int32) (Dn k : Nat) (p : Int32) (q : Nat) : Int32 := if hs (C (37 + q)) k = true ∧ mDining C Dn p (nI q) = true then bt q else nI 0
def rumR (C : Nat → Int32) (Dn : Nat) (set : Int32) (q r : Nat) (a : Int32) : Int32 := if hs set q = true ∧ mDining C Dn (nI q) (nI r) = true then a ||| bt r else a
def rumQ (C : Nat → Int32) (P Dn : Nat) (set : Int32) : Int32 := itr (fun q a => itr (rumR C Dn set q) P a) P set
def rumF (C : Nat → Int32) (P Dn : Nat) (set : Int32) (n : Nat) : Int32 := itr (fun _ s => rumQ C P Dn s) n set
def oRumour (C : Nat → Int32) (W P Dn : Nat) (k p : Int32) : Int32 × Int32 := if okN k W ∧ okN p P then oFound 0 (fUp (fun n => hs (rumF C P Dn (mPeopleWith C P 37 (ixn k)) n) (ixn p)) 7) else (-1, nI 2)
def dinF (C : Nat → Int32) (p : Int32) (t d : Nat) : Bool := !(mDW C d p && decide (rm (C 6 + nI t) (C (157 + d)) = 0))
def oDinesIn (C : Nat → Int32) (P Dn : Nat) (p : Int32) : Int32 × Int32 := if okN p P then oFound 1 (fUp (fun t => !allB (dinF C p (t + 1)) Dn) 30) else (-1, nI 2)
theorem mWhyP_0 {W : Nat} {M : Nat → Int32} {N : Nat → Int64} {set tray n : Int32} (h : mWhyP W M N set tray n = nI 0) : okN set (2 ^ W) = true ∧ mWhy2 M tray n = nI 0 := by
  have h0 : mWhyP0 W M set tray n = nI 0 := by
    unfold mWhyP at h
    split at h
    · assumption
    · exact absurd h (by assumption)
  unfold mWhyP0 at h0
  split at h0
  · split at h0
    · exact ⟨by assumption, by assumption⟩
    · exact absurd h0 (by decide +kernel)
  · exact absurd h0 (by assumption)
section M13
variable {g : Gx} {l : Launch} {σ : Sg} {h : Nat} {ad : Nat → Nat} {C : Nat → Int32}
theorem o_round (H : Mo σ h ad) (hC : σ.2.1 (ad 20) = C) {W P Dn Hn : Nat} (hw : Wd C W P Dn) (hH : C 3 = nI Hn) (hH6 : Hn ≤ 6) {R : Nat → Int32} (hR : σ.2.1 (ad 31) = R) (s : Int32) : Kq g l h ad 5 MX9_round [.ref h, .int s] σ (some (.int (oRound C P Hn R s).1)) (mSt σ h (oRound C P Hn R s).2) := by
  obtain ⟨⟨hW, hW8⟩, ⟨hP, hP6⟩, ⟨hD, hD6⟩, hdn⟩ := id hw
  have p6 : 2 ^ P ≤ 64 := pw_le (n := 6) hP6
  refine Kt.go (Y := MX9_round) (ls := [some (.ref h), some (.int s), none]) (by decide) (Nat.le_of_ble_eq_true rfl) rfl ?_
  first | refine j_aload_n dX9_round_0 rfl ?_ | refine j_aload_nN dX9_round_0 rfl ?_
  refine j_iconst (v := nI 0) dX9_round_1 (by decide +kernel) ?_
  refine j_putI dX9_round_2 fl_X9_67 rfl (Mo.h H) rfl rfl rfl ?_
  first | refine j_aload_n dX9_round_5 rfl ?_ | refine j_aload_nN dX9_round_5 rfl ?_
  refine j_iconst (v := nI 0) dX9_round_6 (by decide +kernel) ?_
  refine j_putI dX9_round_7 fl_X9_70 rfl (Mo.h H) rfl rfl rfl ?_
  refine j_eq rfl rfl (σ' := mSt σ h (nI 0)) rfl ?_
  have H0 := H
  have hC0 := hC
  replace hC := (mSt_row (w := nI 0) H0 (k := 20) ⟨_, _, rfl⟩).trans hC0
  replace H : Mo (mSt σ h (nI 0)) h ad := H0
  first | refine j_aload_n dX9_round_10 rfl ?_ | refine j_aload_nN dX9_round_10 rfl ?_
  refine j_iload_n dX9_round_11 rfl ?_
  refine j_dV1 kl_X9_475 (m_arePeople H hC hP hP6 s) dX9_round_12 rfl rfl (by decide) (Mo.h H) (Nat.le_of_ble_eq_true rfl) (by first | decide | omega) (by omega) (by omega) ?_
  first | (with_reducible refine j_gB ?_; refine j_if_neB (tgt := 24) dX9_round_15 (by decide) (fun c_15 => ?_) (fun c_15 => ?_)) | (with_reducible refine j_gC ?_; refine j_if_neC (tgt := 24) dX9_round_15 (by decide) (fun c_15 => ?_) (fun c_15 => ?_)) | (with_reducible refine j_gN ?_; refine j_if_neN (tgt := 24) dX9_round_15 (by decide) (by omega) (fun c_15 => ?_) (fun c_15 => ?_)) | refine j_if_ne (tgt := 24) dX9_round_15 (by decide) (fun c_15 => ?_) (fun c_15 => ?_)
  · obtain ⟨s, hs, rfl⟩ := okN_nI c_15
    have es : ixn (nI s) = s := ixn_nI (by omega)
    first | refine j_aload_n dX9_round_24 rfl ?_ | refine j_aload_nN dX9_round_24 rfl ?_
    refine j_iload_n dX9_round_25 rfl ?_
    refine j_dV1 kl_X9_478 (m_roundOf H hC hP hP6 hH hH6 (by omega) ((mSt_row H0 ⟨_, _, rfl⟩).trans hR)) dX9_round_26 rfl rfl (by decide) (Mo.h H) (Nat.le_of_ble_eq_true rfl) (by first | decide | omega) (by omega) (by omega) ?_
    refine j_istore_n dX9_round_29 (by decide) ?_
    refine j_iload_n dX9_round_30 rfl ?_
    first | (with_reducible refine j_gC ?_; refine j_if_geC (tgt := 43) dX9_round_31 (by decide) (fun c_31 => ?_) (fun c_31 => ?_)) | refine j_if_ge (tgt := 43) dX9_round_31 (by decide) (fun c_31 => ?_) (fun c_31 => ?_)
    · refine j_iload_n dX9_round_43 rfl ?_
      refine j_iret dX9_round_44 ⟨_, rfl, rfl⟩ (by omega) (by omega) ?_
      first
      | (have z := Int32.not_lt.mpr c_31
         exact qubR (by rw [oRound, if_pos c_15, es, if_neg z]) (Eqm.a (by omega) Eqm.rf))
      | (have z := Int32.not_le.mp c_31
         have y : Eqm h ad (sI (sU (mSt σ h (nI 0)) (ad 31) (rAll C P Hn s R)) h 0 (nI 8)) (sI (mSt σ h (nI 0)) h 0 (nI 8)) := Eqm.i (Eqm.a (by omega) Eqm.rf)
         rw [mSt_r] at y
         exact qubR (by rw [oRound, if_pos c_15, es, if_pos z]) y)
    · first | refine j_aload_n dX9_round_34 rfl ?_ | refine j_aload_nN dX9_round_34 rfl ?_
      refine j_bipush (v := nI 8) dX9_round_35 (by decide +kernel) ?_
      refine j_dV1 kl_X9_325 (m_refuse (σ := sU (mSt σ h (nI 0)) (ad 31) (rAll C P Hn s R)) H _) dX9_round_37 rfl rfl (by decide) (Mo.h H) (Nat.le_of_ble_eq_true rfl) (by first | decide | omega) (by omega) (by omega) ?_
      refine j_goto (tgt := 44) dX9_round_40 (by decide) ?_
      refine j_iret dX9_round_44 ⟨_, rfl, rfl⟩ (by omega) (by omega) ?_
      first
      | (have z := Int32.not_lt.mpr c_31
         exact qubR (by rw [oRound, if_pos c_15, es, if_neg z]) (Eqm.a (by omega) Eqm.rf))
      | (have z := Int32.not_le.mp c_31
         have y : Eqm h ad (sI (sU (mSt σ h (nI 0)) (ad 31) (rAll C P Hn s R)) h 0 (nI 8)) (sI (mSt σ h (nI 0)) h 0 (nI 8)) := Eqm.i (Eqm.a (by omega) Eqm.rf)
         rw [mSt_r] at y
         exact qubR (by rw [oRound, if_pos c_15, es, if_pos z]) y)
  · first | refine j_aload_n dX9_round_18 rfl ?_ | refine j_aload_nN dX9_round_18 rfl ?_
    refine j_iconst (v := nI 5) dX9_round_19 (by decide +kernel) ?_
    refine j_dV1 kl_X9_325 (m_refuse H _) dX9_round_20 rfl rfl (by decide) (Mo.h H) (Nat.le_of_ble_eq_true rfl) (by first | decide | omega) (by omega) (by omega) ?_
    refine j_iret dX9_round_23 ⟨_, rfl, rfl⟩ (by omega) (by omega) ?_
    exact qubX (by simp [oRound, *])
theorem o_oneRound (H : Mo σ h ad) (hC : σ.2.1 (ad 20) = C) {W P Dn Hn : Nat} (hw : Wd C W P Dn) (hH : C 3 = nI Hn) (hH6 : Hn ≤ 6) : Kd g l 5 MX9_oneRound [.ref h] σ (some (.int (itr (oneF C P Hn) (2 ^ P - 1) (nI 0)))) (mSt σ h (nI 0)) := by
  obtain ⟨⟨hW, hW8⟩, ⟨hP, hP6⟩, ⟨hD, hD6⟩, hdn⟩ := id hw
  have p6 : 2 ^ P ≤ 64 := pw_le (n := 6) hP6
  have p1 : 1 ≤ 2 ^ P := pw_pos
  refine Kt.go (Y := MX9_oneRound) (ls := [some (.ref h), none, none]) (by decide) (Nat.le_of_ble_eq_true rfl) rfl ?_
  first | refine j_aload_n dX9_oneRound_0 rfl ?_ | refine j_aload_nN dX9_oneRound_0 rfl ?_
  refine j_iconst (v := nI 0) dX9_oneRound_1 (by decide +kernel) ?_
  refine j_putI dX9_oneRound_2 fl_X9_67 rfl (Mo.h H) rfl rfl rfl ?_
  first | refine j_aload_n dX9_oneRound_5 rfl ?_ | refine j_aload_nN dX9_oneRound_5 rfl ?_
  refine j_iconst (v := nI 0) dX9_oneRound_6 (by decide +kernel) ?_
  refine j_putI dX9_oneRound_7 fl_X9_70 rfl (Mo.h H) rfl rfl rfl ?_
  refine j_eq rfl rfl (σ' := mSt σ h (nI 0)) rfl ?_
  have H0 := H
  have hC0 := hC
  replace hC := (mSt_row (w := nI 0) H0 (k := 20) ⟨_, _, rfl⟩).trans hC0
  replace H : Mo (mSt σ h (nI 0)) h ad := H0
  have key : ∀ j, j ≤ 2 ^ P - 1 → ∀ b, b = itr (oneF C P Hn) j (nI 0) → Td g l 5 MX9_oneRound [.ref h] (mSt σ h (nI 0)) (some (.int (itr (oneF C P Hn) (2 ^ P - 1) (nI 0)))) 14 [some (.ref h), some (.int b), some (.int (nI (j + 1)))] [] (mSt σ h (nI 0)) := by
    refine loop_up fun j hj ih => ?_
    intro b hb
    have es : itr (oneF C P Hn) (j + 1) (nI 0) = oneF C P Hn j b := by rw [itr, ← hb]
    refine j_iload_n dX9_oneRound_14 rfl ?_
    refine j_iconst (v := nI 1) dX9_oneRound_15 (by decide +kernel) ?_
    first | refine j_aload_n dX9_oneRound_16 rfl ?_ | refine j_aload_nN dX9_oneRound_16 rfl ?_
    refine j_getR dX9_oneRound_17 fl_X9_35 rfl (Mo.h H) (Mo.R H _ _ _ rfl) ?_
    refine j_iconst (v := nI 1) dX9_oneRound_20 (by decide +kernel) ?_
    refine j_iald dX9_oneRound_21 (Mo.S H _ _ _ rfl) rfl (by omega) (by decide) (by first | assumption | (rewrite [hC]; first | assumption | rfl) | rfl) ?_
    refine j_ishl dX9_oneRound_22 ?_
    refine j_top (show nI 1 <<< (nI P &&& 31) = nI (2 ^ P) from bt_nI (by omega)) ?_
    first | (with_reducible refine j_gNN ?_; refine j_icmp_geN (tgt := 53) dX9_oneRound_23 (by decide) (by omega) (by omega) (fun c_23 => ?_) (fun c_23 => ?_)) | refine j_icmp_ge (tgt := 53) dX9_oneRound_23 (by decide) (fun c_23 => ?_) (fun c_23 => ?_)
    · refine j_iload_n dX9_oneRound_53 rfl ?_
      refine j_iret dX9_oneRound_54 ⟨_, rfl, rfl⟩ (by omega) (by omega) ?_
      exact ⟨by rw [hb, show j = 2 ^ P - 1 by omega], rfl⟩
    · refine j_iload_n dX9_oneRound_26 rfl ?_
      refine j_dS1 kl_X9_390 (k_sizeOf _) dX9_oneRound_27 rfl rfl (Nat.le_of_ble_eq_true rfl) (by first | decide | omega) (by omega) (by omega) ?_
      refine j_iload_n dX9_oneRound_30 rfl ?_
      refine j_dS1 kl_X9_390 (k_sizeOf _) dX9_oneRound_31 rfl rfl (Nat.le_of_ble_eq_true rfl) (by first | decide | omega) (by omega) (by omega) ?_
      first | (with_reducible refine j_gNN ?_; refine j_icmp_leN (tgt := 47) dX9_oneRound_34 (by decide) (by omega) (by omega) (fun c_34 => ?_) (fun c_34 => ?_)) | refine j_icmp_le (tgt := 47) dX9_oneRound_34 (by decide) (fun c_34 => ?_) (fun c_34 => ?_)
      · first | refine j_iincN dX9_oneRound_47 rfl (by decide) ?_ | refine j_iinc dX9_oneRound_47 rfl rfl (by decide) ?_
        refine j_goto (tgt := 14) dX9_oneRound_50 (by decide) ?_
        first
        | (have z := Int32.not_le.mp c_34
           have y : mIsOne C P Hn (nI (j + 1)) = true := c_42
           exact ih (by omega) _ (by rw [es, oneF, if_pos ⟨z, y⟩]))
        | (have z := Int32.not_lt.mpr c_34
           exact ih (by omega) _ (by rw [es, oneF, if_neg (fun q => z q.1)]))
        | exact ih (by omega) _ (by rw [es, oneF, if_neg (fun q => by rw [c_42] at q; exact absurd q.2 (by decide))])
      · first | refine j_aload_n dX9_oneRound_37 rfl ?_ | refine j_aload_nN dX9_oneRound_37 rfl ?_
        refine j_iload_n dX9_oneRound_38 rfl ?_
        refine j_dV1 kl_X9_472 (m_isOne H hC hP hP6 hH hH6 (nI (j + 1))) dX9_oneRound_39 rfl rfl (by decide) (Mo.h H) (Nat.le_of_ble_eq_true rfl) (by first | decide | omega) (by omega) (by omega) ?_
        first | (with_reducible refine j_gB ?_; refine j_if_eqB (tgt := 47) dX9_oneRound_42 (by decide) (fun c_42 => ?_) (fun c_42 => ?_)) | (with_reducible refine j_gC ?_; refine j_if_eqC (tgt := 47) dX9_oneRound_42 (by decide) (fun c_42 => ?_) (fun c_42 => ?_)) | (with_reducible refine j_gN ?_; refine j_if_eqN (tgt := 47) dX9_oneRound_42 (by decide) (by omega) (fun c_42 => ?_) (fun c_42 => ?_)) | refine j_if_eq (tgt := 47) dX9_oneRound_42 (by decide) (fun c_42 => ?_) (fun c_42 => ?_)
        · first | refine j_iincN dX9_oneRound_47 rfl (by decide) ?_ | refine j_iinc dX9_oneRound_47 rfl rfl (by decide) ?_
          refine j_goto (tgt := 14) dX9_oneRound_50 (by decide) ?_
          first
          | (have z := Int32.not_le.mp c_34
             have y : mIsOne C P Hn (nI (j + 1)) = true := c_42
             exact ih (by omega) _ (by rw [es, oneF, if_pos ⟨z, y⟩]))
          | (have z := Int32.not_lt.mpr c_34
             exact ih (by omega) _ (by rw [es, oneF, if_neg (fun q => z q.1)]))
          | exact ih (by omega) _ (by rw [es, oneF, if_neg (fun q => by rw [c_42] at q; exact absurd q.2 (by decide))])
        · refine j_iload_n dX9_oneRound_45 rfl ?_
          refine j_istore_n dX9_oneRound_46 (by decide) ?_
          first | refine j_iincN dX9_oneRound_47 rfl (by decide) ?_ | refine j_iinc dX9_oneRound_47 rfl rfl (by decide) ?_
          refine j_goto (tgt := 14) dX9_oneRound_50 (by decide) ?_
          first
          | (have z := Int32.not_le.mp c_34
             have y : mIsOne C P Hn (nI (j + 1)) = true := c_42
             exact ih (by omega) _ (by rw [es, oneF, if_pos ⟨z, y⟩]))
          | (have z := Int32.not_lt.mpr c_34
             exact ih (by omega) _ (by rw [es, oneF, if_neg (fun q => z q.1)]))
          | exact ih (by omega) _ (by rw [es, oneF, if_neg (fun q => by rw [c_42] at q; exact absurd q.2 (by decide))])
  refine j_iconst (v := nI 0) dX9_oneRound_10 (by decide +kernel) ?_
  refine j_istore_n dX9_oneRound_11 (by decide) ?_
  refine j_iconst (v := nI 1) dX9_oneRound_12 (by decide +kernel) ?_
  refine j_istore_n dX9_oneRound_13 (by decide) ?_
  exact key 0 (by omega) _ rfl
theorem o_plaits (H : Mo σ h ad) (hC0 : σ.2.1 (ad 20) = C) {W P Dn : Nat} (hw : Wd C W P Dn) {M : Nat → Int32} (hM : σ.2.1 (ad 5) = M) {N : Nat → Int64} (hN : σ.2.2.1 (ad 6) = N) (hm : Wm M) (s t n : Int32) : Kd g l 11 MX9_plaits [.ref h, .int s, .int t, .int n] σ (some (.int (oPlaits W M N s t n).1)) (mSt σ h (oPlaits W M N s t n).2) := by
  obtain ⟨⟨hW, hW8⟩, ⟨hP, hP6⟩, ⟨hD, hD6⟩, hdn⟩ := id hw
  have H0 := H
  have neh : ad 5 ≠ h := Mo.nh H (i := 5) rfl
  have ne20 : ad 20 ≠ h := Mo.nh H (i := 20) rfl
  have p8 := pw8 hW8
  refine Kt.go (Y := MX9_plaits) (ls := [some (.ref h), some (.int s), some (.int t), some (.int n)]) (by decide) (Nat.le_of_ble_eq_true rfl) rfl ?_
  first | refine j_aload_n dX9_plaits_0 rfl ?_ | refine j_aload_nN dX9_plaits_0 rfl ?_
  refine j_iconst (v := nI 0) dX9_plaits_1 (by decide +kernel) ?_
  refine j_putI dX9_plaits_2 fl_X9_67 rfl (Mo.h H) rfl rfl rfl ?_
  first | refine j_aload_n dX9_plaits_5 rfl ?_ | refine j_aload_nN dX9_plaits_5 rfl ?_
  first | refine j_aload_n dX9_plaits_6 rfl ?_ | refine j_aload_nN dX9_plaits_6 rfl ?_
  refine j_iload_n dX9_plaits_7 rfl ?_
  refine j_iload_n dX9_plaits_8 rfl ?_
  refine j_iload_n dX9_plaits_9 rfl ?_
  refine j_dV1 kl_X9_488 (m_whyP (σ := sI σ h 1 (nI 0)) H ((sI_n ne20).trans hC0) hW hW8 ((sI_n neh).trans hM) hN hm s t n) dX9_plaits_10 rfl rfl (by decide) (Mo.h H) (Nat.le_of_ble_eq_true rfl) (by first | decide | omega) (by omega) (by omega) ?_
  refine j_putI dX9_plaits_13 fl_X9_70 rfl (Mo.h H) rfl rfl rfl ?_
  refine j_eq (σ' := mSt σ h (mWhyP W M N s t n)) rfl rfl rfl ?_
  replace H : Mo (mSt σ h (mWhyP W M N s t n)) h ad := H0
  have hC := mSt_st (σ := σ) (h := h) (w := mWhyP W M N s t n)
  first | refine j_aload_n dX9_plaits_16 rfl ?_ | refine j_aload_nN dX9_plaits_16 rfl ?_
  refine j_getI dX9_plaits_17 fl_X9_70 rfl (Mo.h H) hC ?_
  first | (with_reducible refine j_gC ?_; refine j_if_leC (tgt := 27) dX9_plaits_20 (by decide) (fun c_20 => ?_) (fun c_20 => ?_)) | refine j_if_le (tgt := 27) dX9_plaits_20 (by decide) (fun c_20 => ?_) (fun c_20 => ?_)
  · have z : mWhyP W M N s t n = nI 0 := mWhyP_nn.resolve_right (Int32.not_lt.mpr c_20)
    obtain ⟨ho, z2⟩ := mWhyP_0 z
    obtain ⟨t, m, m2, ht, rfl, rfl, hm1, hMt, hm2, hle⟩ := mWhy2_0 hm z2
    obtain ⟨s, hs, rfl⟩ := okN_nI ho
    have eo : oPlaits W M N (nI s) (nI t) (nI m) = (mPl N W t m 8 s, nI 0) := by rw [oPlaits, if_pos z, ixn_nI (by omega), ixn_nI (by omega), ixn_nI (by omega)]
    rw [eo, z]
    rw [z] at H
    first | refine j_aload_n dX9_plaits_27 rfl ?_ | refine j_aload_nN dX9_plaits_27 rfl ?_
    refine j_iload_n dX9_plaits_28 rfl ?_
    refine j_iload_n dX9_plaits_29 rfl ?_
    refine j_iload_n dX9_plaits_30 rfl ?_
    refine j_dV1 kl_X9_485 (m_plaitsOf (σ := mSt σ h (nI 0)) hW8 ht (by omega) 8 s (by omega) pop_le H ((mSt_row H0 ⟨_, _, rfl⟩).trans hC0) hW hN) dX9_plaits_31 rfl rfl (by decide) (Mo.h H) (Nat.le_of_ble_eq_true rfl) (by first | decide | omega) (by omega) (by omega) ?_
    refine j_iret dX9_plaits_34 ⟨_, rfl, rfl⟩ (by omega) (by omega) ?_
    exact ⟨rfl, rfl⟩
  · have z : ¬ mWhyP W M N s t n = nI 0 := fun q => by rw [q] at c_20; exact absurd c_20 (by decide +kernel)
    have eo : oPlaits W M N s t n = (-1, mWhyP W M N s t n) := by rw [oPlaits, if_neg z]
    rw [eo]
    refine j_iconst (v := -1) dX9_plaits_23 (by decide +kernel) ?_
    refine j_goto (tgt := 34) dX9_plaits_24 (by decide) ?_
    refine j_iret dX9_plaits_34 ⟨_, rfl, rfl⟩ (by omega) (by omega) ?_
    exact ⟨rfl, rfl⟩
theorem o_tellers (H : Mo σ h ad) (hC : σ.2.1 (ad 20) = C) {W P Dn : Nat} (hw : Wd C W P Dn) (k p : Int32) : Kd g l 4 MX9_tellers [.ref h, .int k, .int p] σ (some (.int (oTellers C W P Dn k p).1)) (mSt σ h (oTellers C W P Dn k p).2) := by
  obtain ⟨⟨hW, hW8⟩, ⟨hP, hP6⟩, ⟨hD, hD6⟩, hdn⟩ := id hw
  refine Kt.go (Y := MX9_tellers) (ls := [some (.ref h), some (.int k), some (.int p), none, none]) (by decide) (Nat.le_of_ble_eq_true rfl) rfl ?_
  first | refine j_aload_n dX9_tellers_0 rfl ?_ | refine j_aload_nN dX9_tellers_0 rfl ?_
  refine j_iconst (v := nI 0) dX9_tellers_1 (by decide +kernel) ?_
  refine j_putI dX9_tellers_2 fl_X9_67 rfl (Mo.h H) rfl rfl rfl ?_
  first | refine j_aload_n dX9_tellers_5 rfl ?_ | refine j_aload_nN dX9_tellers_5 rfl ?_
  refine j_iconst (v := nI 0) dX9_tellers_6 (by decide +kernel) ?_
  refine j_putI dX9_tellers_7 fl_X9_70 rfl (Mo.h H) rfl rfl rfl ?_
  refine j_eq rfl rfl (σ' := mSt σ h (nI 0)) rfl ?_
  have H0 := H
  have hC0 := hC
  replace hC := (mSt_row (w := nI 0) H0 (k := 20) ⟨_, _, rfl⟩).trans hC0
  replace H : Mo (mSt σ h (nI 0)) h ad := H0
  first | refine j_aload_n dX9_tellers_10 rfl ?_ | refine j_aload_nN dX9_tellers_10 rfl ?_
  refine j_iload_n dX9_tellers_11 rfl ?_
  refine j_i2l dX9_tellers_12 ?_
  refine j_dV1 kl_X9_334 (m_isWordAt H hC hW hW8 k) dX9_tellers_13 rfl rfl (by decide) (Mo.h H) (Nat.le_of_ble_eq_true rfl) (by first | decide | omega) (by omega) (by omega) ?_
  first | (with_reducible refine j_gB ?_; refine j_if_eqB (tgt := 27) dX9_tellers_16 (by decide) (fun c_16 => ?_) (fun c_16 => ?_)) | (with_reducible refine j_gC ?_; refine j_if_eqC (tgt := 27) dX9_tellers_16 (by decide) (fun c_16 => ?_) (fun c_16 => ?_)) | (with_reducible refine j_gN ?_; refine j_if_eqN (tgt := 27) dX9_tellers_16 (by decide) (by omega) (fun c_16 => ?_) (fun c_16 => ?_)) | refine j_if_eq (tgt := 27) dX9_tellers_16 (by decide) (fun c_16 => ?_) (fun c_16 => ?_)
  · first | refine j_aload_n dX9_tellers_27 rfl ?_ | refine j_aload_nN dX9_tellers_27 rfl ?_
    refine j_iconst (v := nI 2) dX9_tellers_28 (by decide +kernel) ?_
    refine j_dV1 kl_X9_325 (m_refuse H _) dX9_tellers_29 rfl rfl (by decide) (Mo.h H) (Nat.le_of_ble_eq_true rfl) (by first | decide | omega) (by omega) (by omega) ?_
    refine j_iret dX9_tellers_32 ⟨_, rfl, rfl⟩ (by omega) (by omega) ?_
    exact pubX (by simp [oTellers, *])
  · first | refine j_aload_n dX9_tellers_19 rfl ?_ | refine j_aload_nN dX9_tellers_19 rfl ?_
    refine j_iload_n dX9_tellers_20 rfl ?_
    refine j_dV1 kl_X9_345 (m_isPersonAt H hC hP hP6 p) dX9_tellers_21 rfl rfl (by decide) (Mo.h H) (Nat.le_of_ble_eq_true rfl) (by first | decide | omega) (by omega) (by omega) ?_
    first | (with_reducible refine j_gB ?_; refine j_if_neB (tgt := 33) dX9_tellers_24 (by decide) (fun c_24 => ?_) (fun c_24 => ?_)) | (with_reducible refine j_gC ?_; refine j_if_neC (tgt := 33) dX9_tellers_24 (by decide) (fun c_24 => ?_) (fun c_24 => ?_)) | (with_reducible refine j_gN ?_; refine j_if_neN (tgt := 33) dX9_tellers_24 (by decide) (by omega) (fun c_24 => ?_) (fun c_24 => ?_)) | refine j_if_ne (tgt := 33) dX9_tellers_24 (by decide) (fun c_24 => ?_) (fun c_24 => ?_)
    · obtain ⟨k, hk, rfl⟩ := okN_nI c_16
      have ek : ixn (nI k) = k := ixn_nI (by omega)
      have eo : oTellers C W P Dn (nI k) p = (orTo (telF C Dn k p) P, nI 0) := by rw [oTellers, if_pos ⟨c_16, c_24⟩, ek]; rfl
      rw [eo]
      have key : ∀ j, j ≤ P → ∀ a, a = orTo (telF C Dn k p) j → Td g l 4 MX9_tellers [.ref h, .int (nI k), .int p] (mSt σ h (nI 0)) (some (.int (orTo (telF C Dn k p) P))) 38 [some (.ref h), some (.int (nI k)), some (.int p), some (.int a), some (.int (nI j))] [] (mSt σ h (nI 0)) := by
        refine loop_up fun j hj ih => ?_
        intro a ha
        refine j_iload dX9_tellers_38 rfl ?_
        first | refine j_aload_n dX9_tellers_40 rfl ?_ | refine j_aload_nN dX9_tellers_40 rfl ?_
        refine j_getR dX9_tellers_41 fl_X9_35 rfl (Mo.h H) (Mo.R H _ _ _ rfl) ?_
        refine j_iconst (v := nI 1) dX9_tellers_44 (by decide +kernel) ?_
        refine j_iald dX9_tellers_45 (Mo.S H _ _ _ rfl) rfl (by omega) (by decide) (by first | assumption | (rewrite [hC]; first | assumption | rfl) | rfl) ?_
        first | (with_reducible refine j_gNN ?_; refine j_icmp_geN (tgt := 86) dX9_tellers_46 (by decide) (by omega) (by omega) (fun c_46 => ?_) (fun c_46 => ?_)) | refine j_icmp_ge (tgt := 86) dX9_tellers_46 (by decide) (fun c_46 => ?_) (fun c_46 => ?_)
        · refine j_iload_n dX9_tellers_86 rfl ?_
          refine j_iret dX9_tellers_87 ⟨_, rfl, rfl⟩ (by omega) (by omega) ?_
          exact ⟨by rw [ha, show j = P by omega], rfl⟩
        · refine j_iload_n dX9_tellers_49 rfl ?_
          first | refine j_aload_n dX9_tellers_50 rfl ?_ | refine j_aload_nN dX9_tellers_50 rfl ?_
          refine j_iload dX9_tellers_51 rfl ?_
          refine j_iload_n dX9_tellers_53 rfl ?_
          refine j_dV1 kl_X9_366 (m_knows H hC (by omega)) dX9_tellers_54 rfl rfl (by decide) (Mo.h H) (Nat.le_of_ble_eq_true rfl) (by first | decide | omega) (by omega) (by omega) ?_
          first | (with_reducible refine j_gB ?_; refine j_if_eqB (tgt := 77) dX9_tellers_57 (by decide) (fun c_57 => ?_) (fun c_57 => ?_)) | (with_reducible refine j_gC ?_; refine j_if_eqC (tgt := 77) dX9_tellers_57 (by decide) (fun c_57 => ?_) (fun c_57 => ?_)) | (with_reducible refine j_gN ?_; refine j_if_eqN (tgt := 77) dX9_tellers_57 (by decide) (by omega) (fun c_57 => ?_) (fun c_57 => ?_)) | refine j_if_eq (tgt := 77) dX9_tellers_57 (by decide) (fun c_57 => ?_) (fun c_57 => ?_)
          · refine j_iconst (v := nI 0) dX9_tellers_77 (by decide +kernel) ?_
            refine j_ior dX9_tellers_78 ?_
            refine j_istore_n dX9_tellers_79 (by decide) ?_
            first | refine j_iincN dX9_tellers_80 rfl (by decide) ?_ | refine j_iinc dX9_tellers_80 rfl rfl (by decide) ?_
            refine j_goto (tgt := 38) dX9_tellers_83 (by decide) ?_
            refine ih (by omega) _ ?_
            rw [orTo, ← ha, telF]
            first
            | (rw [if_pos ⟨c_57, c_67⟩]; rfl)
            | (rw [if_neg (fun q => by rw [c_67] at q; exact absurd q.2 (by decide))])
            | (rw [if_neg (fun q => by rw [c_57] at q; exact absurd q.1 (by decide))])
          · first | refine j_aload_n dX9_tellers_60 rfl ?_ | refine j_aload_nN dX9_tellers_60 rfl ?_
            refine j_iload_n dX9_tellers_61 rfl ?_
            refine j_iload dX9_tellers_62 rfl ?_
            refine j_dV1 kl_X9_491 (m_areDining H hC hD hD6 p (nI j)) dX9_tellers_64 rfl rfl (by decide) (Mo.h H) (Nat.le_of_ble_eq_true rfl) (by first | decide | omega) (by omega) (by omega) ?_
            first | (with_reducible refine j_gB ?_; refine j_if_eqB (tgt := 77) dX9_tellers_67 (by decide) (fun c_67 => ?_) (fun c_67 => ?_)) | (with_reducible refine j_gC ?_; refine j_if_eqC (tgt := 77) dX9_tellers_67 (by decide) (fun c_67 => ?_) (fun c_67 => ?_)) | (with_reducible refine j_gN ?_; refine j_if_eqN (tgt := 77) dX9_tellers_67 (by decide) (by omega) (fun c_67 => ?_) (fun c_67 => ?_)) | refine j_if_eq (tgt := 77) dX9_tellers_67 (by decide) (fun c_67 => ?_) (fun c_67 => ?_)
            · refine j_iconst (v := nI 0) dX9_tellers_77 (by decide +kernel) ?_
              refine j_ior dX9_tellers_78 ?_
              refine j_istore_n dX9_tellers_79 (by decide) ?_
              first | refine j_iincN dX9_tellers_80 rfl (by decide) ?_ | refine j_iinc dX9_tellers_80 rfl rfl (by decide) ?_
              refine j_goto (tgt := 38) dX9_tellers_83 (by decide) ?_
              refine ih (by omega) _ ?_
              rw [orTo, ← ha, telF]
              first
              | (rw [if_pos ⟨c_57, c_67⟩]; rfl)
              | (rw [if_neg (fun q => by rw [c_67] at q; exact absurd q.2 (by decide))])
              | (rw [if_neg (fun q => by rw [c_57] at q; exact absurd q.1 (by decide))])
            · refine j_iconst (v := nI 1) dX9_tellers_70 (by decide +kernel) ?_
              refine j_iload dX9_tellers_71 rfl ?_
              refine j_ishl dX9_tellers_73 ?_
              refine j_goto (tgt := 78) dX9_tellers_74 (by decide) ?_
              refine j_ior dX9_tellers_78 ?_
              refine j_istore_n dX9_tellers_79 (by decide) ?_
              first | refine j_iincN dX9_tellers_80 rfl (by decide) ?_ | refine j_iinc dX9_tellers_80 rfl rfl (by decide) ?_
              refine j_goto (tgt := 38) dX9_tellers_83 (by decide) ?_
              refine ih (by omega) _ ?_
              rw [orTo, ← ha, telF]
              first
              | (rw [if_pos ⟨c_57, c_67⟩]; rfl)
              | (rw [if_neg (fun q => by rw [c_67] at q; exact absurd q.2 (by decide))])
              | (rw [if_neg (fun q => by rw [c_57] at q; exact absurd q.1 (by decide))])
      refine j_iconst (v := nI 0) dX9_tellers_33 (by decide +kernel) ?_
      refine j_istore_n dX9_tellers_34 (by decide) ?_
      refine j_iconst (v := nI 0) dX9_tellers_35 (by decide +kernel) ?_
      refine j_istore dX9_tellers_36 (by decide) ?_
      exact key 0 (by omega) _ rfl
    · first | refine j_aload_n dX9_tellers_27 rfl ?_ | refine j_aload_nN dX9_tellers_27 rfl ?_
      refine j_iconst (v := nI 2) dX9_tellers_28 (by decide +kernel) ?_
      refine j_dV1 kl_X9_325 (m_refuse H _) dX9_tellers_29 rfl rfl (by decide) (Mo.h H) (Nat.le_of_ble_eq_true rfl) (by first | decide | omega) (by omega) (by omega) ?_
      refine j_iret dX9_tellers_32 ⟨_, rfl, rfl⟩ (by omega) (by omega) ?_
      exact pubX (by simp [oTellers, *])
end M13
