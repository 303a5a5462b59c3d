/-! THE MODEL's SETS: unsaid, rounds, plaits, tellers -/
set_option maxRecDepth 100000
def wU (C : Nat → Int32) (W : Nat) (N : Nat → Int64) (t m s : Nat) : Bool := mIsU C W N t m (nI s)
def oUnsaid (C : Nat → Int32) (W : Nat) (M : Nat → Int32) (N : Nat → Int64) (t n : Int32) : Int32 × Int32 := if mWhyU M N t n = nI 0 then (nI (cntB (wU C W N (ixn t) (ixn n)) (2 ^ W)), nI 0) else (-1, mWhyU M N t n)
def oSure (C : Nat → Int32) (W : Nat) (M : Nat → Int32) (N : Nat → Int64) (t n : Int32) : Int32 × Int32 := if mWhyU M N t n = nI 0 then if cntB (wU C W N (ixn t) (ixn n)) (2 ^ W) = 0 then (-1, nI 8) else (andTo (wU C W N (ixn t) (ixn n)) (nI (2 ^ W - 1)) (2 ^ W), nI 0) else (-1, mWhyU M N t n)
def askF (C : Nat → Int32) (W : Nat) (f : Nat → Bool) (j : Nat) (s : Nat × Nat) : Nat × Nat := if mUnlike C W (nI (j + 1)) f ≤ s.2 then s else (j + 1, mUnlike C W (nI (j + 1)) f)
def oAsk (C : Nat → Int32) (W : Nat) (M : Nat → Int32) (N : Nat → Int64) (t n : Int32) : Int32 × Int32 := if mWhyU M N t n = nI 0 then if cntB (wU C W N (ixn t) (ixn n)) (2 ^ W) < 2 then (-1, nI 8) else (nI (itr (askF C W (wU C W N (ixn t) (ixn n))) 99 (0, 0)).1, nI 0) else (-1, mWhyU M N t n)
def oRound (C : Nat → Int32) (P Hn : Nat) (R : Nat → Int32) (s : Int32) : Int32 × Int32 := if okN s (2 ^ P) then if rAll C P Hn (ixn s) R (ixn s) < 0 then (-1, nI 8) else (rAll C P Hn (ixn s) R (ixn s), nI 0) else (-1, nI 5)
def oOneRound (C : Nat → Int32) (P Hn : Nat) : Int32 := itr (fun j b => if szOf b < szOf (nI (j + 1)) ∧ mIsOne C P Hn (nI (j + 1)) = true then nI (j + 1) else b) (2 ^ P - 1) (nI 0)
def oPlaits (W : Nat) (M : Nat → Int32) (N : Nat → Int64) (s t n : Int32) : Int32 × Int32 := if mWhyP W M N s t n = nI 0 then (mPl N W (ixn t) (ixn n) 8 (ixn s), nI 0) else (-1, mWhyP W M N s t n)
def oTellers (C : Nat → Int32) (W P Dn : Nat) (k p : Int32) : Int32 × Int32 := if okN k W ∧ okN p P then (orTo (fun q => if hs (C (37 + q)) (ixn k) = true ∧ mDining C Dn p (nI q) = true then bt q else nI 0) P, nI 0) else (-1, nI 2)
theorem mWhyU_0 {M : Nat → Int32} {N : Nat → Int64} {tray n : Int32} (hM : Wm M) (h : mWhyU M N tray n = nI 0) : ∃ t m m2, t < 4 ∧ tray = nI t ∧ n = nI m ∧ m ≤ 20 ∧ M t = nI m2 ∧ m2 ≤ 60 ∧ 2 * m ≤ m2 := by
  refine mWhy2_0 hM (tray := tray) (n := n) ?_
  unfold mWhyU at h
  split at h
  · assumption
  · exact absurd h (by assumption)
theorem mWhy2_nn {M : Nat → Int32} {tray n : Int32} : mWhy2 M tray n = nI 0 ∨ 0 < mWhy2 M tray n := by
  unfold mWhy2
  repeat' split
  all_goals first | exact Or.inl rfl | exact Or.inr (by decide +kernel)
theorem mWhyU_nn {M : Nat → Int32} {N : Nat → Int64} {tray n : Int32} : mWhyU M N tray n = nI 0 ∨ 0 < mWhyU M N tray n := by
  unfold mWhyU
  split
  · split
    · exact Or.inl rfl
    · exact Or.inr (by decide +kernel)
  · exact mWhy2_nn
theorem mWhyP_nn {W : Nat} {M : Nat → Int32} {N : Nat → Int64} {set tray n : Int32} : mWhyP W M N set tray n = nI 0 ∨ 0 < mWhyP W M N set tray n := by
  have h0 : mWhyP0 W M set tray n = nI 0 ∨ 0 < mWhyP0 W M set tray n := by
    unfold mWhyP0
    split
    · split
      · exact Or.inl rfl
      · exact Or.inr (by decide +kernel)
    · exact mWhy2_nn
  unfold mWhyP
  split
  · split
    · exact Or.inl rfl
    · exact Or.inr (by decide +kernel)
  · exact h0
theorem mSt_st {σ : Sg} {h : Nat} {w : Int32} : (mSt σ h w).2.1 h 0 = w := by unfold mSt; rw [sI_e, up_eq]
theorem mSt_N {σ : Sg} {h : Nat} {w : Int32} : (mSt σ h w).2.2.1 = σ.2.2.1 := rfl
section M12
variable {g : Gx} {l : Launch} {σ : Sg} {h : Nat} {ad : Nat → Nat} {C : Nat → Int32}
theorem o_unsaid (H : Mo σ h ad) (hC0 : σ.2.1 (ad 20) = C) {W P Dn : Nat} (hw : Wd C W P Dn) {M : Nat → Int32} (hM : σ.2.1 (ad 5) = M) {N : Nat → Int64} (hN : σ.2.2.1 (ad 6) = N) (hm : Wm M) (t n : Int32) : Kq g l h ad 5 MX9_unsaid [.ref h, .int t, .int n] σ (some (.int (oUnsaid C W M N t n).1)) (mSt σ h (oUnsaid C W M N t n).2) := by
  obtain ⟨⟨hW, hW8⟩, ⟨hP, hP6⟩, ⟨hD, hD6⟩, hdn⟩ := id hw
  have H0 := H
  have neh : ad 5 ≠ h := Mo.nh H (i := 5) rfl
  have ne2 : h ≠ ad 29 := Ne.symm (Mo.nh H (i := 29) rfl)
  have ne20 : ad 20 ≠ h := Mo.nh H (i := 20) rfl
  refine Kt.go (Y := MX9_unsaid) (ls := [some (.ref h), some (.int t), some (.int n)]) (by decide) (Nat.le_of_ble_eq_true rfl) rfl ?_
  first | refine j_aload_n dX9_unsaid_0 rfl ?_ | refine j_aload_nN dX9_unsaid_0 rfl ?_
  refine j_iconst (v := nI 0) dX9_unsaid_1 (by decide +kernel) ?_
  refine j_putI dX9_unsaid_2 fl_X9_67 rfl (Mo.h H) rfl rfl rfl ?_
  first | refine j_aload_n dX9_unsaid_5 rfl ?_ | refine j_aload_nN dX9_unsaid_5 rfl ?_
  first | refine j_aload_n dX9_unsaid_6 rfl ?_ | refine j_aload_nN dX9_unsaid_6 rfl ?_
  refine j_iload_n dX9_unsaid_7 rfl ?_
  refine j_iload_n dX9_unsaid_8 rfl ?_
  refine j_dV1 kl_X9_455 (m_whyU (σ := sI σ h 1 (nI 0)) H ((sI_n neh).trans hM) hN hm t n) dX9_unsaid_9 rfl rfl (by decide) (Mo.h H) (Nat.le_of_ble_eq_true rfl) (by first | decide | omega) (by omega) (by omega) ?_
  refine j_putI dX9_unsaid_12 fl_X9_70 rfl (Mo.h H) rfl rfl rfl ?_
  refine j_eq (σ' := mSt σ h (mWhyU M N t n)) rfl rfl rfl ?_
  replace H : Mo (mSt σ h (mWhyU M N t n)) h ad := H0
  have hC := mSt_st (σ := σ) (h := h) (w := mWhyU M N t n)
  first | refine j_aload_n dX9_unsaid_15 rfl ?_ | refine j_aload_nN dX9_unsaid_15 rfl ?_
  refine j_getI dX9_unsaid_16 fl_X9_70 rfl (Mo.h H) hC ?_
  first | (with_reducible refine j_gC ?_; refine j_if_leC (tgt := 24) dX9_unsaid_19 (by decide) (fun c_19 => ?_) (fun c_19 => ?_)) | refine j_if_le (tgt := 24) dX9_unsaid_19 (by decide) (fun c_19 => ?_) (fun c_19 => ?_)
  · have z : mWhyU M N t n = nI 0 := mWhyU_nn.resolve_right (Int32.not_lt.mpr c_19)
    obtain ⟨t, m, m2, ht, rfl, rfl, hm1, hMt, hm2, hle⟩ := mWhyU_0 hm z
    have eo : oUnsaid C W M N (nI t) (nI m) = (nI (cntB (wU C W N t m) (2 ^ W)), nI 0) := by rw [oUnsaid, if_pos z, ixn_nI (by omega), ixn_nI (by omega)]
    rw [eo, z]
    rw [z] at H
    first | refine j_aload_n dX9_unsaid_24 rfl ?_ | refine j_aload_nN dX9_unsaid_24 rfl ?_
    refine j_iload_n dX9_unsaid_25 rfl ?_
    refine j_iload_n dX9_unsaid_26 rfl ?_
    refine j_dV0 kl_X9_458 (m_laysUnsaid (σ := mSt σ h (nI 0)) H ((mSt_row H0 ⟨_, _, rfl⟩).trans hC0) hW hW8 hN ht (by omega) rfl rfl) dX9_unsaid_27 rfl rfl (by decide) (Mo.h H) (Nat.le_of_ble_eq_true rfl) (by first | decide | omega) (by omega) (by omega) ?_
    replace hC : (sU (sU (mSt σ h (nI 0)) h (luF ((mSt σ h (nI 0)).2.1 h) (fun s => mIsU C W N t m (nI s)) W (2 ^ W))) (ad 29) (cpN (2 ^ W) (fun s => bI (mIsU C W N t m (nI s))) ((mSt σ h (nI 0)).2.1 (ad 29)))).2.1 h 27 = nI (cntB (wU C W N t m) (2 ^ W)) := by
      rw [sU_n ne2, sU_e, luF, up_ne (by decide), up_eq]; rfl
    first | refine j_aload_n dX9_unsaid_30 rfl ?_ | refine j_aload_nN dX9_unsaid_30 rfl ?_
    refine j_getI dX9_unsaid_31 fl_X9_446 rfl (Mo.h H) (by first | assumption | (rewrite [hC]; first | assumption | rfl) | rfl) ?_
    refine j_iret dX9_unsaid_34 ⟨_, rfl, rfl⟩ (by omega) (by omega) ?_
    refine ⟨rfl, Eqm.a (by omega) ?_⟩
    unfold luF
    rw [show ∀ x y, sU (mSt σ h (nI 0)) h (up (up ((mSt σ h (nI 0)).2.1 h) 27 x) 28 y) = sI (sI (mSt σ h (nI 0)) h 27 x) h 28 y from fun x y => by rw [sI_U, sI_U, sU_U, sU_e]]
    exact Eqm.f (by omega) (Eqm.f (by omega) Eqm.rf)
  · refine j_iconst (v := -1) dX9_unsaid_22 (by decide +kernel) ?_
    refine j_iret dX9_unsaid_23 ⟨_, rfl, rfl⟩ (by omega) (by omega) ?_
    have z : ¬ mWhyU M N t n = nI 0 := fun q => by rw [q] at c_19; exact absurd c_19 (by decide +kernel)
    exact qubR (by rw [oUnsaid, if_neg z]) Eqm.rf
theorem o_sure (H : Mo σ h ad) (hC0 : σ.2.1 (ad 20) = C) {W P Dn : Nat} (hw : Wd C W P Dn) {M : Nat → Int32} (hM : σ.2.1 (ad 5) = M) {N : Nat → Int64} (hN : σ.2.2.1 (ad 6) = N) (hm : Wm M) (t n : Int32) : Kq g l h ad 5 MX9_sure [.ref h, .int t, .int n] σ (some (.int (oSure C W M N t n).1)) (mSt σ h (oSure C W M N t n).2) := by
  obtain ⟨⟨hW, hW8⟩, ⟨hP, hP6⟩, ⟨hD, hD6⟩, hdn⟩ := id hw
  have H0 := H
  have neh : ad 5 ≠ h := Mo.nh H (i := 5) rfl
  have ne2 : h ≠ ad 29 := Ne.symm (Mo.nh H (i := 29) rfl)
  have ne20 : ad 20 ≠ h := Mo.nh H (i := 20) rfl
  refine Kt.go (Y := MX9_sure) (ls := [some (.ref h), some (.int t), some (.int n)]) (by decide) (Nat.le_of_ble_eq_true rfl) rfl ?_
  first | refine j_aload_n dX9_sure_0 rfl ?_ | refine j_aload_nN dX9_sure_0 rfl ?_
  refine j_iconst (v := nI 0) dX9_sure_1 (by decide +kernel) ?_
  refine j_putI dX9_sure_2 fl_X9_67 rfl (Mo.h H) rfl rfl rfl ?_
  first | refine j_aload_n dX9_sure_5 rfl ?_ | refine j_aload_nN dX9_sure_5 rfl ?_
  first | refine j_aload_n dX9_sure_6 rfl ?_ | refine j_aload_nN dX9_sure_6 rfl ?_
  refine j_iload_n dX9_sure_7 rfl ?_
  refine j_iload_n dX9_sure_8 rfl ?_
  refine j_dV1 kl_X9_455 (m_whyU (σ := sI σ h 1 (nI 0)) H ((sI_n neh).trans hM) hN hm t n) dX9_sure_9 rfl rfl (by decide) (Mo.h H) (Nat.le_of_ble_eq_true rfl) (by first | decide | omega) (by omega) (by omega) ?_
  refine j_putI dX9_sure_12 fl_X9_70 rfl (Mo.h H) rfl rfl rfl ?_
  refine j_eq (σ' := mSt σ h (mWhyU M N t n)) rfl rfl rfl ?_
  replace H : Mo (mSt σ h (mWhyU M N t n)) h ad := H0
  have hC := mSt_st (σ := σ) (h := h) (w := mWhyU M N t n)
  first | refine j_aload_n dX9_sure_15 rfl ?_ | refine j_aload_nN dX9_sure_15 rfl ?_
  refine j_getI dX9_sure_16 fl_X9_70 rfl (Mo.h H) hC ?_
  first | (with_reducible refine j_gC ?_; refine j_if_leC (tgt := 24) dX9_sure_19 (by decide) (fun c_19 => ?_) (fun c_19 => ?_)) | refine j_if_le (tgt := 24) dX9_sure_19 (by decide) (fun c_19 => ?_) (fun c_19 => ?_)
  · have z : mWhyU M N t n = nI 0 := mWhyU_nn.resolve_right (Int32.not_lt.mpr c_19)
    obtain ⟨t, m, m2, ht, rfl, rfl, hm1, hMt, hm2, hle⟩ := mWhyU_0 hm z
    have eo : oSure C W M N (nI t) (nI m) = if cntB (wU C W N t m) (2 ^ W) = 0 then (-1, nI 8) else (andTo (wU C W N t m) (nI (2 ^ W - 1)) (2 ^ W), nI 0) := by rw [oSure, if_pos z, ixn_nI (by omega), ixn_nI (by omega)]
    rw [eo, z]
    have hc := cntB_le (f := wU C W N t m) (2 ^ W)
    have p8 := pw8 hW8
    rw [z] at H
    first | refine j_aload_n dX9_sure_24 rfl ?_ | refine j_aload_nN dX9_sure_24 rfl ?_
    refine j_iload_n dX9_sure_25 rfl ?_
    refine j_iload_n dX9_sure_26 rfl ?_
    refine j_dV0 kl_X9_458 (m_laysUnsaid (σ := mSt σ h (nI 0)) H ((mSt_row H0 ⟨_, _, rfl⟩).trans hC0) hW hW8 hN ht (by omega) rfl rfl) dX9_sure_27 rfl rfl (by decide) (Mo.h H) (Nat.le_of_ble_eq_true rfl) (by first | decide | omega) (by omega) (by omega) ?_
    replace hC : (sU (sU (mSt σ h (nI 0)) h (luF ((mSt σ h (nI 0)).2.1 h) (fun s => mIsU C W N t m (nI s)) W (2 ^ W))) (ad 29) (cpN (2 ^ W) (fun s => bI (mIsU C W N t m (nI s))) ((mSt σ h (nI 0)).2.1 (ad 29)))).2.1 h 27 = nI (cntB (wU C W N t m) (2 ^ W)) := by
      rw [sU_n ne2, sU_e, luF, up_ne (by decide), up_eq]; rfl
    have hq : Eqm h ad (sU (sU (mSt σ h (nI 0)) h (luF ((mSt σ h (nI 0)).2.1 h) (fun s => mIsU C W N t m (nI s)) W (2 ^ W))) (ad 29) (cpN (2 ^ W) (fun s => bI (mIsU C W N t m (nI s))) ((mSt σ h (nI 0)).2.1 (ad 29)))) (mSt σ h (nI 0)) := by
      refine Eqm.a (by omega) ?_
      unfold luF
      rw [show ∀ x y, sU (mSt σ h (nI 0)) h (up (up ((mSt σ h (nI 0)).2.1 h) 27 x) 28 y) = sI (sI (mSt σ h (nI 0)) h 27 x) h 28 y from fun x y => by rw [sI_U, sI_U, sU_U, sU_e]]
      exact Eqm.f (by omega) (Eqm.f (by omega) Eqm.rf)
    have hC2 : (sU (sU (mSt σ h (nI 0)) h (luF ((mSt σ h (nI 0)).2.1 h) (fun s => mIsU C W N t m (nI s)) W (2 ^ W))) (ad 29) (cpN (2 ^ W) (fun s => bI (mIsU C W N t m (nI s))) ((mSt σ h (nI 0)).2.1 (ad 29)))).2.1 h 28 = andTo (wU C W N t m) (nI (2 ^ W - 1)) (2 ^ W) := by
      rw [sU_n ne2, sU_e, luF, up_eq]; rfl
    replace H : Mo (sU (sU (mSt σ h (nI 0)) h (luF ((mSt σ h (nI 0)).2.1 h) (fun s => mIsU C W N t m (nI s)) W (2 ^ W))) (ad 29) (cpN (2 ^ W) (fun s => bI (mIsU C W N t m (nI s))) ((mSt σ h (nI 0)).2.1 (ad 29)))) h ad := H0
    first | refine j_aload_n dX9_sure_30 rfl ?_ | refine j_aload_nN dX9_sure_30 rfl ?_
    refine j_getI dX9_sure_31 fl_X9_446 rfl (Mo.h H) (by first | assumption | (rewrite [hC]; first | assumption | rfl) | rfl) ?_
    first | (with_reducible refine j_gB ?_; refine j_if_neB (tgt := 46) dX9_sure_34 (by decide) (fun c_34 => ?_) (fun c_34 => ?_)) | (with_reducible refine j_gC ?_; refine j_if_neC (tgt := 46) dX9_sure_34 (by decide) (fun c_34 => ?_) (fun c_34 => ?_)) | (with_reducible refine j_gN ?_; refine j_if_neN (tgt := 46) dX9_sure_34 (by decide) (by omega) (fun c_34 => ?_) (fun c_34 => ?_)) | refine j_if_ne (tgt := 46) dX9_sure_34 (by decide) (fun c_34 => ?_) (fun c_34 => ?_)
    · first | refine j_aload_n dX9_sure_46 rfl ?_ | refine j_aload_nN dX9_sure_46 rfl ?_
      refine j_getI dX9_sure_47 fl_X9_449 rfl (Mo.h H) (by first | assumption | (rewrite [hC]; first | assumption | rfl) | rfl) ?_
      refine j_iret dX9_sure_50 ⟨_, rfl, rfl⟩ (by omega) (by omega) ?_
      first
      | (rw [if_pos c_34]
         refine ⟨rfl, ?_⟩
         have y := Eqm.i (a := h) (k := 0) (x := nI 8) hq
         rw [mSt_r] at y
         exact y)
      | (rw [if_neg c_34]
         exact ⟨rfl, hq⟩)
    · first | refine j_aload_n dX9_sure_37 rfl ?_ | refine j_aload_nN dX9_sure_37 rfl ?_
      refine j_bipush (v := nI 8) dX9_sure_38 (by decide +kernel) ?_
      refine j_dV1 kl_X9_325 (m_refuse H _) dX9_sure_40 rfl rfl (by decide) (Mo.h H) (Nat.le_of_ble_eq_true rfl) (by first | decide | omega) (by omega) (by omega) ?_
      refine j_goto (tgt := 50) dX9_sure_43 (by decide) ?_
      refine j_iret dX9_sure_50 ⟨_, rfl, rfl⟩ (by omega) (by omega) ?_
      first
      | (rw [if_pos c_34]
         refine ⟨rfl, ?_⟩
         have y := Eqm.i (a := h) (k := 0) (x := nI 8) hq
         rw [mSt_r] at y
         exact y)
      | (rw [if_neg c_34]
         exact ⟨rfl, hq⟩)
  · refine j_iconst (v := -1) dX9_sure_22 (by decide +kernel) ?_
    refine j_iret dX9_sure_23 ⟨_, rfl, rfl⟩ (by omega) (by omega) ?_
    have z : ¬ mWhyU M N t n = nI 0 := fun q => by rw [q] at c_19; exact absurd c_19 (by decide +kernel)
    exact qubR (by rw [oSure, if_neg z]) Eqm.rf
theorem o_ask (H : Mo σ h ad) (hC0 : σ.2.1 (ad 20) = C) {W P Dn : Nat} (hw : Wd C W P Dn) {M : Nat → Int32} (hM : σ.2.1 (ad 5) = M) {N : Nat → Int64} (hN : σ.2.2.1 (ad 6) = N) (hm : Wm M) (t n : Int32) : Kq g l h ad 5 MX9_ask [.ref h, .int t, .int n] σ (some (.int (oAsk C W M N t n).1)) (mSt σ h (oAsk C W M N t n).2) := by
  obtain ⟨⟨hW, hW8⟩, ⟨hP, hP6⟩, ⟨hD, hD6⟩, hdn⟩ := id hw
  have H0 := H
  have neh : ad 5 ≠ h := Mo.nh H (i := 5) rfl
  have ne2 : h ≠ ad 29 := Ne.symm (Mo.nh H (i := 29) rfl)
  have ne29 : ad 20 ≠ ad 29 := Mo.ne H (by decide) (by decide) (by decide)
  have ne30 : ad 20 ≠ ad 30 := Mo.ne H (by decide) (by decide) (by decide)
  have ne2930 : ad 29 ≠ ad 30 := Mo.ne H (by decide) (by decide) (by decide)
  have ne20 : ad 20 ≠ h := Mo.nh H (i := 20) rfl
  refine Kt.go (Y := MX9_ask) (ls := [some (.ref h), some (.int t), some (.int n), none, none, none, none]) (by decide) (Nat.le_of_ble_eq_true rfl) rfl ?_
  first | refine j_aload_n dX9_ask_0 rfl ?_ | refine j_aload_nN dX9_ask_0 rfl ?_
  refine j_iconst (v := nI 0) dX9_ask_1 (by decide +kernel) ?_
  refine j_putI dX9_ask_2 fl_X9_67 rfl (Mo.h H) rfl rfl rfl ?_
  first | refine j_aload_n dX9_ask_5 rfl ?_ | refine j_aload_nN dX9_ask_5 rfl ?_
  first | refine j_aload_n dX9_ask_6 rfl ?_ | refine j_aload_nN dX9_ask_6 rfl ?_
  refine j_iload_n dX9_ask_7 rfl ?_
  refine j_iload_n dX9_ask_8 rfl ?_
  refine j_dV1 kl_X9_455 (m_whyU (σ := sI σ h 1 (nI 0)) H ((sI_n neh).trans hM) hN hm t n) dX9_ask_9 rfl rfl (by decide) (Mo.h H) (Nat.le_of_ble_eq_true rfl) (by first | decide | omega) (by omega) (by omega) ?_
  refine j_putI dX9_ask_12 fl_X9_70 rfl (Mo.h H) rfl rfl rfl ?_
  refine j_eq (σ' := mSt σ h (mWhyU M N t n)) rfl rfl rfl ?_
  replace H : Mo (mSt σ h (mWhyU M N t n)) h ad := H0
  have hC := mSt_st (σ := σ) (h := h) (w := mWhyU M N t n)
  first | refine j_aload_n dX9_ask_15 rfl ?_ | refine j_aload_nN dX9_ask_15 rfl ?_
  refine j_getI dX9_ask_16 fl_X9_70 rfl (Mo.h H) hC ?_
  first | (with_reducible refine j_gC ?_; refine j_if_leC (tgt := 24) dX9_ask_19 (by decide) (fun c_19 => ?_) (fun c_19 => ?_)) | refine j_if_le (tgt := 24) dX9_ask_19 (by decide) (fun c_19 => ?_) (fun c_19 => ?_)
  · have z : mWhyU M N t n = nI 0 := mWhyU_nn.resolve_right (Int32.not_lt.mpr c_19)
    obtain ⟨t, m, m2, ht, rfl, rfl, hm1, hMt, hm2, hle⟩ := mWhyU_0 hm z
    have eo : oAsk C W M N (nI t) (nI m) = if cntB (wU C W N t m) (2 ^ W) < 2 then (-1, nI 8) else (nI (itr (askF C W (wU C W N t m)) 99 (0, 0)).1, nI 0) := by rw [oAsk, if_pos z, ixn_nI (by omega), ixn_nI (by omega)]
    rw [eo, z]
    have hc := cntB_le (f := wU C W N t m) (2 ^ W)
    have p8 := pw8 hW8
    rw [z] at H
    first | refine j_aload_n dX9_ask_24 rfl ?_ | refine j_aload_nN dX9_ask_24 rfl ?_
    refine j_iload_n dX9_ask_25 rfl ?_
    refine j_iload_n dX9_ask_26 rfl ?_
    refine j_dV0 kl_X9_458 (m_laysUnsaid (σ := mSt σ h (nI 0)) H ((mSt_row H0 ⟨_, _, rfl⟩).trans hC0) hW hW8 hN ht (by omega) rfl rfl) dX9_ask_27 rfl rfl (by decide) (Mo.h H) (Nat.le_of_ble_eq_true rfl) (by first | decide | omega) (by omega) (by omega) ?_
    replace hC : (sU (sU (mSt σ h (nI 0)) h (luF ((mSt σ h (nI 0)).2.1 h) (fun s => mIsU C W N t m (nI s)) W (2 ^ W))) (ad 29) (cpN (2 ^ W) (fun s => bI (mIsU C W N t m (nI s))) ((mSt σ h (nI 0)).2.1 (ad 29)))).2.1 h 27 = nI (cntB (wU C W N t m) (2 ^ W)) := by
      rw [sU_n ne2, sU_e, luF, up_ne (by decide), up_eq]; rfl
    have hq : Eqm h ad (sU (sU (mSt σ h (nI 0)) h (luF ((mSt σ h (nI 0)).2.1 h) (fun s => mIsU C W N t m (nI s)) W (2 ^ W))) (ad 29) (cpN (2 ^ W) (fun s => bI (mIsU C W N t m (nI s))) ((mSt σ h (nI 0)).2.1 (ad 29)))) (mSt σ h (nI 0)) := by
      refine Eqm.a (by omega) ?_
      unfold luF
      rw [show ∀ x y, sU (mSt σ h (nI 0)) h (up (up ((mSt σ h (nI 0)).2.1 h) 27 x) 28 y) = sI (sI (mSt σ h (nI 0)) h 27 x) h 28 y from fun x y => by rw [sI_U, sI_U, sU_U, sU_e]]
      exact Eqm.f (by omega) (Eqm.f (by omega) Eqm.rf)
    have hr20 : (sU (sU (mSt σ h (nI 0)) h (luF ((mSt σ h (nI 0)).2.1 h) (fun s => mIsU C W N t m (nI s)) W (2 ^ W))) (ad 29) (cpN (2 ^ W) (fun s => bI (mIsU C W N t m (nI s))) ((mSt σ h (nI 0)).2.1 (ad 29)))).2.1 (ad 20) = C := by rw [sU_n ne29, sU_n ne20, mSt_row H0 ⟨_, _, rfl⟩, hC0]
    have hr29 : ∀ s, s < 2 ^ W → (sU (sU (mSt σ h (nI 0)) h (luF ((mSt σ h (nI 0)).2.1 h) (fun s => mIsU C W N t m (nI s)) W (2 ^ W))) (ad 29) (cpN (2 ^ W) (fun s => bI (mIsU C W N t m (nI s))) ((mSt σ h (nI 0)).2.1 (ad 29)))).2.1 (ad 29) s = bI (wU C W N t m s) := fun s q => by rw [sU_e, cpN, if_pos q]; rfl
    replace H : Mo (sU (sU (mSt σ h (nI 0)) h (luF ((mSt σ h (nI 0)).2.1 h) (fun s => mIsU C W N t m (nI s)) W (2 ^ W))) (ad 29) (cpN (2 ^ W) (fun s => bI (mIsU C W N t m (nI s))) ((mSt σ h (nI 0)).2.1 (ad 29)))) h ad := H0
    first | refine j_aload_n dX9_ask_30 rfl ?_ | refine j_aload_nN dX9_ask_30 rfl ?_
    refine j_getI dX9_ask_31 fl_X9_446 rfl (Mo.h H) (by first | assumption | (rewrite [hC]; first | assumption | rfl) | rfl) ?_
    refine j_iconst (v := nI 2) dX9_ask_34 (by decide +kernel) ?_
    first | (with_reducible refine j_gNN ?_; refine j_icmp_geN (tgt := 45) dX9_ask_35 (by decide) (by omega) (by omega) (fun c_35 => ?_) (fun c_35 => ?_)) | refine j_icmp_ge (tgt := 45) dX9_ask_35 (by decide) (fun c_35 => ?_) (fun c_35 => ?_)
    · refine j_iconst (v := nI 0) dX9_ask_45 (by decide +kernel) ?_
      refine j_istore_n dX9_ask_46 (by decide) ?_
      refine j_iconst (v := nI 0) dX9_ask_47 (by decide +kernel) ?_
      refine j_istore dX9_ask_48 (by decide) ?_
      refine j_iconst (v := nI 1) dX9_ask_50 (by decide +kernel) ?_
      refine j_istore dX9_ask_51 (by decide) ?_
      rw [if_neg (by omega)]
      generalize (sU (sU (mSt σ h (nI 0)) h (luF ((mSt σ h (nI 0)).2.1 h) (fun s => mIsU C W N t m (nI s)) W (2 ^ W))) (ad 29) (cpN (2 ^ W) (fun s => bI (mIsU C W N t m (nI s))) ((mSt σ h (nI 0)).2.1 (ad 29)))) = X at *
      generalize wU C W N t m = f at *
      have key : ∀ j, j ≤ 99 → ∀ G x6, ∀ s : Nat × Nat, s = itr (askF C W f) j (0, 0) → s.1 ≤ 99 → s.2 ≤ 256 → Tq g l h ad 5 MX9_ask [.ref h, .int (nI t), .int (nI m)] (mSt σ h (nI 0)) (some (.int (nI (itr (askF C W f) 99 (0, 0)).1))) 53 [some (.ref h), some (.int (nI t)), some (.int (nI m)), some (.int (nI s.1)), some (.int (nI s.2)), some (.int (nI (j + 1))), x6] [] (sU X (ad 30) G) := by
        refine loop_up fun j hj ih => ?_
        intro G x6 s hs hs1 hs2
        have hul : mUnlike C W (nI (j + 1)) f ≤ 256 := Nat.le_trans (cntB_le _) p8
        have es : itr (askF C W f) (j + 1) (0, 0) = askF C W f j s := by rw [itr, ← hs]
        refine j_iload dX9_ask_53 rfl ?_
        refine j_bipush (v := nI 99) dX9_ask_55 (by decide +kernel) ?_
        first | (with_reducible refine j_gNN ?_; refine j_icmp_gtN (tgt := 91) dX9_ask_57 (by decide) (by omega) (by omega) (fun c_57 => ?_) (fun c_57 => ?_)) | refine j_icmp_gt (tgt := 91) dX9_ask_57 (by decide) (fun c_57 => ?_) (fun c_57 => ?_)
        · refine j_iload_n dX9_ask_91 rfl ?_
          refine j_iret dX9_ask_92 ⟨_, rfl, rfl⟩ (by omega) (by omega) ?_
          exact ⟨by rw [hs, show j = 99 by omega], Eqm.a (by omega) hq⟩
        · first | refine j_aload_n dX9_ask_60 rfl ?_ | refine j_aload_nN dX9_ask_60 rfl ?_
          refine j_iload dX9_ask_61 rfl ?_
          refine j_dV1 kl_X9_461 (m_unlike (σ := sU X (ad 30) G) H ((sU_n ne30).trans hr20) hW hW8 (fun s q => by rw [sU_n ne2930]; exact hr29 s q) sU_e (nI (j + 1))) dX9_ask_63 rfl rfl (by decide) (Mo.h H) (Nat.le_of_ble_eq_true rfl) (by first | decide | omega) (by omega) (by omega) ?_
          rw [sU_U]
          refine j_istore dX9_ask_66 (by decide) ?_
          refine j_iload dX9_ask_68 rfl ?_
          refine j_iload dX9_ask_70 rfl ?_
          first | (with_reducible refine j_gNN ?_; refine j_icmp_gtN (tgt := 78) dX9_ask_72 (by decide) (by omega) (by omega) (fun c_72 => ?_) (fun c_72 => ?_)) | refine j_icmp_gt (tgt := 78) dX9_ask_72 (by decide) (fun c_72 => ?_) (fun c_72 => ?_)
          · refine j_iload dX9_ask_78 rfl ?_
            refine j_istore dX9_ask_80 (by decide) ?_
            refine j_iload dX9_ask_82 rfl ?_
            refine j_istore_n dX9_ask_84 (by decide) ?_
            first | refine j_iincN dX9_ask_85 rfl (by decide) ?_ | refine j_iinc dX9_ask_85 rfl rfl (by decide) ?_
            refine j_goto (tgt := 53) dX9_ask_88 (by decide) ?_
            first
            | exact ih (by omega) _ _ (j + 1, mUnlike C W (nI (j + 1)) f) (by rw [es, askF, if_neg (by omega)]) (by omega) hul
            | exact ih (by omega) _ _ s (by rw [es, askF, if_pos (by omega)]) hs1 hs2
          · refine j_goto (tgt := 85) dX9_ask_75 (by decide) ?_
            first | refine j_iincN dX9_ask_85 rfl (by decide) ?_ | refine j_iinc dX9_ask_85 rfl rfl (by decide) ?_
            refine j_goto (tgt := 53) dX9_ask_88 (by decide) ?_
            first
            | exact ih (by omega) _ _ (j + 1, mUnlike C W (nI (j + 1)) f) (by rw [es, askF, if_neg (by omega)]) (by omega) hul
            | exact ih (by omega) _ _ s (by rw [es, askF, if_pos (by omega)]) hs1 hs2
      exact j_eq rfl rfl sU_self.symm (key 0 (by omega) _ none (0, 0) rfl (by decide) (by decide))
    · first | refine j_aload_n dX9_ask_38 rfl ?_ | refine j_aload_nN dX9_ask_38 rfl ?_
      refine j_bipush (v := nI 8) dX9_ask_39 (by decide +kernel) ?_
      refine j_dV1 kl_X9_325 (m_refuse H _) dX9_ask_41 rfl rfl (by decide) (Mo.h H) (Nat.le_of_ble_eq_true rfl) (by first | decide | omega) (by omega) (by omega) ?_
      refine j_iret dX9_ask_44 ⟨_, rfl, rfl⟩ (by omega) (by omega) ?_
      rw [if_pos c_35]
      refine ⟨rfl, ?_⟩
      have y := Eqm.i (a := h) (k := 0) (x := nI 8) hq
      rw [mSt_r] at y
      exact y
  · refine j_iconst (v := -1) dX9_ask_22 (by decide +kernel) ?_
    refine j_iret dX9_ask_23 ⟨_, rfl, rfl⟩ (by omega) (by omega) ?_
    have z : ¬ mWhyU M N t n = nI 0 := fun q => by rw [q] at c_19; exact absurd c_19 (by decide +kernel)
    exact qubR (by rw [oAsk, if_neg z]) Eqm.rf
end M12
