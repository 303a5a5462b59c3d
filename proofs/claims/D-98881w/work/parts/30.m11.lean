/-! THE MODEL's DAYS AHEAD -/
set_option maxRecDepth 100000
/-- what is scratch in the Model: rows of arrays, fields -/
def scr (h : Nat) (ad : Nat → Nat) (b k : Nat) : Prop := b = ad 21 ∨ b = ad 22 ∨ b = ad 29 ∨ b = ad 30 ∨ b = ad 31 ∨ b = ad 32 ∨ (b = h ∧ (k = 27 ∨ k = 28 ∨ k = 33 ∨ 36 ≤ k))
/-- alike but for scratch -/
def Eqm (h : Nat) (ad : Nat → Nat) (τ σ : Sg) : Prop := τ.1 = σ.1 ∧ τ.2.2 = σ.2.2 ∧ ∀ b k, ¬ scr h ad b k → τ.2.1 b k = σ.2.1 b k
theorem Eqm.rf {h : Nat} {ad : Nat → Nat} {σ : Sg} : Eqm h ad σ σ := ⟨rfl, rfl, fun _ _ _ => rfl⟩
theorem Eqm.tr {h : Nat} {ad : Nat → Nat} {ρ τ σ : Sg} (h1 : Eqm h ad ρ τ) (h2 : Eqm h ad τ σ) : Eqm h ad ρ σ := ⟨h1.1.trans h2.1, h1.2.1.trans h2.2.1, fun b k q => (h1.2.2 b k q).trans (h2.2.2 b k q)⟩
theorem Eqm.a {h : Nat} {ad : Nat → Nat} {τ σ : Sg} {i : Nat} {A : Nat → Int32} (hi : i = 21 ∨ i = 22 ∨ i = 29 ∨ i = 30 ∨ i = 31 ∨ i = 32) (h1 : Eqm h ad τ σ) : Eqm h ad (sU τ (ad i) A) σ := by
  refine ⟨h1.1, h1.2.1, fun b k q => ?_⟩
  have : b ≠ ad i := by
    intro e
    apply q
    unfold scr
    rcases hi with rfl | rfl | rfl | rfl | rfl | rfl <;> simp [e]
  rw [sU_n this]
  exact h1.2.2 b k q
theorem Eqm.f {h : Nat} {ad : Nat → Nat} {τ σ : Sg} {i : Nat} {x : Int32} (hi : i = 27 ∨ i = 28 ∨ i = 33 ∨ 36 ≤ i) (h1 : Eqm h ad τ σ) : Eqm h ad (sI τ h i x) σ := by
  refine ⟨h1.1, h1.2.1, fun b k q => ?_⟩
  rw [← h1.2.2 b k q]
  show up τ.2.1 h (up (τ.2.1 h) i x) b k = τ.2.1 b k
  unfold up
  by_cases e : b = h
  · subst e
    rw [if_pos rfl, if_neg]
    intro e2
    subst e2
    exact q (Or.inr (Or.inr (Or.inr (Or.inr (Or.inr (Or.inr ⟨rfl, hi⟩))))))
  · rw [if_neg e]
theorem Eqm.u {h : Nat} {ad : Nat → Nat} {τ σ : Sg} {a : Nat} {D : Nat → Int32} (h1 : Eqm h ad τ σ) : Eqm h ad (sU τ a D) (sU σ a D) := by
  refine ⟨h1.1, h1.2.1, fun b k q => ?_⟩
  by_cases e : b = a
  · subst e; rw [sU_e, sU_e]
  · rw [sU_n e, sU_n e]; exact h1.2.2 b k q
theorem Eqm.i {h : Nat} {ad : Nat → Nat} {τ σ : Sg} {a k : Nat} {x : Int32} (h1 : Eqm h ad τ σ) : Eqm h ad (sI τ a k x) (sI σ a k x) := by
  refine ⟨h1.1, h1.2.1, fun b j q => ?_⟩
  show up τ.2.1 a (up (τ.2.1 a) k x) b j = up σ.2.1 a (up (σ.2.1 a) k x) b j
  unfold up
  by_cases e : b = a
  · subst e
    rw [if_pos rfl, if_pos rfl]
    by_cases e2 : j = k
    · rw [if_pos e2, if_pos e2]
    · rw [if_neg e2, if_neg e2]; exact h1.2.2 b j q
  · rw [if_neg e, if_neg e]; exact h1.2.2 b j q
/-- a contract: it answers v and leaves σ' but for scratch -/
def Kq (g : Gx) (l : Launch) (h : Nat) (ad : Nat → Nat) (d : Nat) (Y : Mi) (av : List Value) (σ : Sg) (v : Option Value) (σ' : Sg) : Prop := Kt g l d Y av σ 0 0 (fun r τ => r = v ∧ Eqm h ad τ σ') (fun _ _ _ => False)
abbrev Tq (g : Gx) (l : Launch) (h : Nat) (ad : Nat → Nat) (d : Nat) (Y : Mi) (av : List Value) (σ : Sg) (v : Option Value) (pc : Nat) (ls : List (Option Value)) (st : List Value) (τ : Sg) : Prop := Tj g l d Y av 0 0 (fun r τ' => r = v ∧ Eqm h ad τ' σ) (fun _ _ _ => False) 0 0 pc ls st τ
theorem qubR {σ : Sg} {h : Nat} {ad : Nat → Nat} {o : Int32 × Int32} {v w : Int32} {τ : Sg} (e : o = (v, w)) (hq : Eqm h ad τ (mSt σ h w)) : some (Value.int v) = some (Value.int o.1) ∧ Eqm h ad τ (mSt σ h o.2) := by rw [e]; exact ⟨rfl, hq⟩
theorem qubX {σ : Sg} {h : Nat} {ad : Nat → Nat} {o : Int32 × Int32} {v u w : Int32} (e : o = (v, w)) : some (Value.int v) = some (Value.int o.1) ∧ Eqm h ad (sI (mSt σ h u) h 0 w) (mSt σ h o.2) := by rw [e, mSt_r]; exact ⟨rfl, Eqm.rf⟩
def oFound (d : Nat) : Option Nat → Int32 × Int32
  | some t => (nI (t + d), nI 0)
  | none => (-1, nI 8)
def outF (C : Nat → Int32) (W P Dn k t : Nat) : Bool := decide (szOf (mPeopleWith C P 37 k) < szOf (mPeopleWith (mDays C W P Dn (t + 1)) P 37 k))
def oOut (C : Nat → Int32) (W P Dn : Nat) (k : Int32) : Int32 × Int32 := if okN k W then oFound 1 (fUp (outF C W P Dn (ixn k)) 200) else (-1, nI 2)
def lrnF (C : Nat → Int32) (W P Dn p k t : Nat) : Bool := hs (mDays C W P Dn t (37 + p)) k
def oLearnsIn (C : Nat → Int32) (W P Dn : Nat) (p k : Int32) : Int32 × Int32 := if okN p P ∧ okN k W then oFound 0 (fUp (lrnF C W P Dn (ixn p) (ixn k)) 201) else (-1, nI 2)
def wldF (C : Nat → Int32) (W P Dn p t : Nat) : Bool := decide (C (25 + p) < mHair (mDays C W P Dn t) W p)
def oWildIn (C : Nat → Int32) (W P Dn : Nat) (p : Int32) : Int32 × Int32 := if okN p P then oFound 0 (fUp (wldF C W P Dn (ixn p)) 201) else (-1, nI 2)
/-- what is found, as the int that the code keeps -/
def oJ (d : Nat) : Option Nat → Int32
  | some t => nI (t + d)
  | none => -1
theorem oJ_ge {d : Nat} {o : Option Nat} (h : 0 ≤ oJ d o) : o ≠ none := by
  intro e; rw [e] at h; exact absurd (show (0 : Int32) ≤ -1 from h) (by decide +kernel)
theorem oJ_nge {d : Nat} {o : Option Nat} (h : ¬ 0 ≤ oJ d o) (hk : ∀ k, o = some k → k + d < 1000) : o = none := by
  cases o with
  | none => rfl
  | some k => exact absurd (Int32.not_lt.mp (nI_pos (by have := hk k rfl; omega))) h
theorem oFound_J {d : Nat} {o : Option Nat} : oFound d o = (oJ d o, if o = none then nI 8 else nI 0) := by cases o <;> rfl
section M11
variable {g : Gx} {l : Launch} {σ : Sg} {h : Nat} {ad : Nat → Nat} {C : Nat → Int32}
theorem o_hairIn (H : Mo σ h ad) (hC : σ.2.1 (ad 20) = C) {W P Dn : Nat} (hw : Wd C W P Dn) (p n : Int32) : Kq g l h ad 6 MX9_hairIn [.ref h, .int p, .int n] σ (some (.int (oHairIn C W P Dn p n).1)) (mSt σ h (oHairIn C W P Dn p n).2) := by
  obtain ⟨⟨hW, hW8⟩, ⟨hP, hP6⟩, ⟨hD, hD6⟩, hdn⟩ := id hw
  have ne : ad 20 ≠ ad 21 := Mo.ne H (by decide) (by decide) (by decide)
  refine Kt.go (Y := MX9_hairIn) (ls := [some (.ref h), some (.int p), some (.int n), none]) (by decide) (Nat.le_of_ble_eq_true rfl) rfl ?_
  first | refine j_aload_n dX9_hairIn_0 rfl ?_ | refine j_aload_nN dX9_hairIn_0 rfl ?_
  refine j_iconst (v := nI 0) dX9_hairIn_1 (by decide +kernel) ?_
  refine j_putI dX9_hairIn_2 fl_X9_67 rfl (Mo.h H) rfl rfl rfl ?_
  first | refine j_aload_n dX9_hairIn_5 rfl ?_ | refine j_aload_nN dX9_hairIn_5 rfl ?_
  refine j_iconst (v := nI 0) dX9_hairIn_6 (by decide +kernel) ?_
  refine j_putI dX9_hairIn_7 fl_X9_70 rfl (Mo.h H) rfl rfl rfl ?_
  refine j_eq rfl rfl (σ' := mSt σ h (nI 0)) rfl ?_
  have H0 := H
  have hC0 := hC
  replace hC := (mSt_row (w := nI 0) H0 (k := 20) ⟨_, _, rfl⟩).trans hC0
  replace H : Mo (mSt σ h (nI 0)) h ad := H0
  first | refine j_aload_n dX9_hairIn_10 rfl ?_ | refine j_aload_nN dX9_hairIn_10 rfl ?_
  refine j_iload_n dX9_hairIn_11 rfl ?_
  refine j_dV1 kl_X9_345 (m_isPersonAt H hC hP hP6 p) dX9_hairIn_12 rfl rfl (by decide) (Mo.h H) (Nat.le_of_ble_eq_true rfl) (by first | decide | omega) (by omega) (by omega) ?_
  first | (with_reducible refine j_gB ?_; refine j_if_neB (tgt := 24) dX9_hairIn_15 (by decide) (fun c_15 => ?_) (fun c_15 => ?_)) | (with_reducible refine j_gC ?_; refine j_if_neC (tgt := 24) dX9_hairIn_15 (by decide) (fun c_15 => ?_) (fun c_15 => ?_)) | (with_reducible refine j_gN ?_; refine j_if_neN (tgt := 24) dX9_hairIn_15 (by decide) (by omega) (fun c_15 => ?_) (fun c_15 => ?_)) | refine j_if_ne (tgt := 24) dX9_hairIn_15 (by decide) (fun c_15 => ?_) (fun c_15 => ?_)
  · refine j_iload_n dX9_hairIn_24 rfl ?_
    refine j_dS1 kl_X9_409 (m_isAhead n) dX9_hairIn_25 rfl rfl (Nat.le_of_ble_eq_true rfl) (by first | decide | omega) (by omega) (by omega) ?_
    rw [inL_ok (n := 201) (by decide +kernel)]
    first | (with_reducible refine j_gB ?_; refine j_if_neB (tgt := 37) dX9_hairIn_28 (by decide) (fun c_28 => ?_) (fun c_28 => ?_)) | (with_reducible refine j_gC ?_; refine j_if_neC (tgt := 37) dX9_hairIn_28 (by decide) (fun c_28 => ?_) (fun c_28 => ?_)) | (with_reducible refine j_gN ?_; refine j_if_neN (tgt := 37) dX9_hairIn_28 (by decide) (by omega) (fun c_28 => ?_) (fun c_28 => ?_)) | refine j_if_ne (tgt := 37) dX9_hairIn_28 (by decide) (fun c_28 => ?_) (fun c_28 => ?_)
    · obtain ⟨p, hp, rfl⟩ := okN_nI c_15
      obtain ⟨n, hn, rfl⟩ := okN_nI c_28
      have ep : ixn (nI p) = p := ixn_nI (by omega)
      have en : ixn (nI n) = n := ixn_nI (by omega)
      have f1 := mDays_fr hw n
      first | refine j_aload_n dX9_hairIn_37 rfl ?_ | refine j_aload_nN dX9_hairIn_37 rfl ?_
      refine j_iload_n dX9_hairIn_38 rfl ?_
      refine j_dV0 kl_X9_412 (m_goesAhead H hC rfl (by omega) hw) dX9_hairIn_39 rfl rfl (by decide) (Mo.h H) (Nat.le_of_ble_eq_true rfl) (by first | decide | omega) (by omega) (by omega) ?_
      first | refine j_aload_n dX9_hairIn_42 rfl ?_ | refine j_aload_nN dX9_hairIn_42 rfl ?_
      refine j_iload_n dX9_hairIn_43 rfl ?_
      refine j_dV1 kl_X9_320 (m_hairOf (σ := sU (sU (mSt σ h (nI 0)) (ad 21) _) (ad 20) (mDays C W P Dn n)) H sU_e ((f1 0 (by omega)).trans hW) hW8 (by omega)) dX9_hairIn_44 rfl rfl (by decide) (Mo.h H) (Nat.le_of_ble_eq_true rfl) (by first | decide | omega) (by omega) (by omega) ?_
      refine j_istore_n dX9_hairIn_47 (by decide) ?_
      first | refine j_aload_n dX9_hairIn_48 rfl ?_ | refine j_aload_nN dX9_hairIn_48 rfl ?_
      refine j_dV0 kl_X9_415 (m_givesB (σ := sU (sU (mSt σ h (nI 0)) (ad 21) _) (ad 20) (mDays C W P Dn n)) H sU_e ((sU_n (Ne.symm ne)).trans sU_e)) dX9_hairIn_49 rfl rfl (by decide) (Mo.h H) (Nat.le_of_ble_eq_true rfl) (by first | decide | omega) (by omega) (by omega) ?_
      rw [sU_U, cpN_back (fun k hk => f1 k (by omega)), sUh (show (sU (mSt σ h (nI 0)) (ad 21) _).2.1 (ad 20) = C from (sU_n ne).trans hC)]
      refine j_iload_n dX9_hairIn_52 rfl ?_
      refine j_iret dX9_hairIn_53 ⟨_, rfl, rfl⟩ (by omega) (by omega) ?_
      exact qubR (by rw [oHairIn, if_pos c_15, if_pos c_28, ep, en]) (Eqm.a (by omega) Eqm.rf)
    · first | refine j_aload_n dX9_hairIn_31 rfl ?_ | refine j_aload_nN dX9_hairIn_31 rfl ?_
      refine j_iconst (v := nI 5) dX9_hairIn_32 (by decide +kernel) ?_
      refine j_dV1 kl_X9_325 (m_refuse H _) dX9_hairIn_33 rfl rfl (by decide) (Mo.h H) (Nat.le_of_ble_eq_true rfl) (by first | decide | omega) (by omega) (by omega) ?_
      refine j_iret dX9_hairIn_36 ⟨_, rfl, rfl⟩ (by omega) (by omega) ?_
      exact qubX (by simp [oHairIn, *])
  · first | refine j_aload_n dX9_hairIn_18 rfl ?_ | refine j_aload_nN dX9_hairIn_18 rfl ?_
    refine j_iconst (v := nI 2) dX9_hairIn_19 (by decide +kernel) ?_
    refine j_dV1 kl_X9_325 (m_refuse H _) dX9_hairIn_20 rfl rfl (by decide) (Mo.h H) (Nat.le_of_ble_eq_true rfl) (by first | decide | omega) (by omega) (by omega) ?_
    refine j_iret dX9_hairIn_23 ⟨_, rfl, rfl⟩ (by omega) (by omega) ?_
    exact qubX (by simp [oHairIn, *])
theorem o_knownIn (H : Mo σ h ad) (hC : σ.2.1 (ad 20) = C) {W P Dn : Nat} (hw : Wd C W P Dn) (p n : Int32) : Kq g l h ad 6 MX9_knownIn [.ref h, .int p, .int n] σ (some (.int (oKnownIn C W P Dn p n).1)) (mSt σ h (oKnownIn C W P Dn p n).2) := by
  obtain ⟨⟨hW, hW8⟩, ⟨hP, hP6⟩, ⟨hD, hD6⟩, hdn⟩ := id hw
  have ne : ad 20 ≠ ad 21 := Mo.ne H (by decide) (by decide) (by decide)
  refine Kt.go (Y := MX9_knownIn) (ls := [some (.ref h), some (.int p), some (.int n), none]) (by decide) (Nat.le_of_ble_eq_true rfl) rfl ?_
  first | refine j_aload_n dX9_knownIn_0 rfl ?_ | refine j_aload_nN dX9_knownIn_0 rfl ?_
  refine j_iconst (v := nI 0) dX9_knownIn_1 (by decide +kernel) ?_
  refine j_putI dX9_knownIn_2 fl_X9_67 rfl (Mo.h H) rfl rfl rfl ?_
  first | refine j_aload_n dX9_knownIn_5 rfl ?_ | refine j_aload_nN dX9_knownIn_5 rfl ?_
  refine j_iconst (v := nI 0) dX9_knownIn_6 (by decide +kernel) ?_
  refine j_putI dX9_knownIn_7 fl_X9_70 rfl (Mo.h H) rfl rfl rfl ?_
  refine j_eq rfl rfl (σ' := mSt σ h (nI 0)) rfl ?_
  have H0 := H
  have hC0 := hC
  replace hC := (mSt_row (w := nI 0) H0 (k := 20) ⟨_, _, rfl⟩).trans hC0
  replace H : Mo (mSt σ h (nI 0)) h ad := H0
  first | refine j_aload_n dX9_knownIn_10 rfl ?_ | refine j_aload_nN dX9_knownIn_10 rfl ?_
  refine j_iload_n dX9_knownIn_11 rfl ?_
  refine j_dV1 kl_X9_345 (m_isPersonAt H hC hP hP6 p) dX9_knownIn_12 rfl rfl (by decide) (Mo.h H) (Nat.le_of_ble_eq_true rfl) (by first | decide | omega) (by omega) (by omega) ?_
  first | (with_reducible refine j_gB ?_; refine j_if_neB (tgt := 24) dX9_knownIn_15 (by decide) (fun c_15 => ?_) (fun c_15 => ?_)) | (with_reducible refine j_gC ?_; refine j_if_neC (tgt := 24) dX9_knownIn_15 (by decide) (fun c_15 => ?_) (fun c_15 => ?_)) | (with_reducible refine j_gN ?_; refine j_if_neN (tgt := 24) dX9_knownIn_15 (by decide) (by omega) (fun c_15 => ?_) (fun c_15 => ?_)) | refine j_if_ne (tgt := 24) dX9_knownIn_15 (by decide) (fun c_15 => ?_) (fun c_15 => ?_)
  · refine j_iload_n dX9_knownIn_24 rfl ?_
    refine j_dS1 kl_X9_409 (m_isAhead n) dX9_knownIn_25 rfl rfl (Nat.le_of_ble_eq_true rfl) (by first | decide | omega) (by omega) (by omega) ?_
    rw [inL_ok (n := 201) (by decide +kernel)]
    first | (with_reducible refine j_gB ?_; refine j_if_neB (tgt := 37) dX9_knownIn_28 (by decide) (fun c_28 => ?_) (fun c_28 => ?_)) | (with_reducible refine j_gC ?_; refine j_if_neC (tgt := 37) dX9_knownIn_28 (by decide) (fun c_28 => ?_) (fun c_28 => ?_)) | (with_reducible refine j_gN ?_; refine j_if_neN (tgt := 37) dX9_knownIn_28 (by decide) (by omega) (fun c_28 => ?_) (fun c_28 => ?_)) | refine j_if_ne (tgt := 37) dX9_knownIn_28 (by decide) (fun c_28 => ?_) (fun c_28 => ?_)
    · obtain ⟨p, hp, rfl⟩ := okN_nI c_15
      obtain ⟨n, hn, rfl⟩ := okN_nI c_28
      have ep : ixn (nI p) = p := ixn_nI (by omega)
      have en : ixn (nI n) = n := ixn_nI (by omega)
      have f1 := mDays_fr hw n
      first | refine j_aload_n dX9_knownIn_37 rfl ?_ | refine j_aload_nN dX9_knownIn_37 rfl ?_
      refine j_iload_n dX9_knownIn_38 rfl ?_
      refine j_dV0 kl_X9_412 (m_goesAhead H hC rfl (by omega) hw) dX9_knownIn_39 rfl rfl (by decide) (Mo.h H) (Nat.le_of_ble_eq_true rfl) (by first | decide | omega) (by omega) (by omega) ?_
      have hC2 := hC
      replace hC : (sU (sU (mSt σ h (nI 0)) (ad 21) (cpN 175 C ((mSt σ h (nI 0)).2.1 (ad 21)))) (ad 20) (mDays C W P Dn n)).2.1 (ad 20) = mDays C W P Dn n := sU_e
      first | refine j_aload_n dX9_knownIn_42 rfl ?_ | refine j_aload_nN dX9_knownIn_42 rfl ?_
      refine j_getR dX9_knownIn_43 fl_X9_35 rfl (Mo.h H) (Mo.R H _ _ _ rfl) ?_
      refine j_bipush (v := nI 37) dX9_knownIn_46 (by decide +kernel) ?_
      refine j_iload_n dX9_knownIn_48 rfl ?_
      first | (with_reducible refine j_gNN ?_; refine j_iaddN dX9_knownIn_49 ?_) | refine j_iadd dX9_knownIn_49 ?_
      refine j_iald dX9_knownIn_50 (Mo.S H _ _ _ rfl) rfl (by omega) (by decide) (by first | assumption | (rewrite [hC]; first | assumption | rfl) | rfl) ?_
      refine j_istore_n dX9_knownIn_51 (by decide) ?_
      first | refine j_aload_n dX9_knownIn_52 rfl ?_ | refine j_aload_nN dX9_knownIn_52 rfl ?_
      refine j_dV0 kl_X9_415 (m_givesB (σ := sU (sU (mSt σ h (nI 0)) (ad 21) _) (ad 20) (mDays C W P Dn n)) H sU_e ((sU_n (Ne.symm ne)).trans sU_e)) dX9_knownIn_53 rfl rfl (by decide) (Mo.h H) (Nat.le_of_ble_eq_true rfl) (by first | decide | omega) (by omega) (by omega) ?_
      rw [sU_U, cpN_back (fun k hk => f1 k (by omega)), sUh (show (sU (mSt σ h (nI 0)) (ad 21) _).2.1 (ad 20) = C from (sU_n ne).trans hC2)]
      refine j_iload_n dX9_knownIn_56 rfl ?_
      refine j_iret dX9_knownIn_57 ⟨_, rfl, rfl⟩ (by omega) (by omega) ?_
      exact qubR (by rw [oKnownIn, if_pos c_15, if_pos c_28, ep, en]) (Eqm.a (by omega) Eqm.rf)
    · first | refine j_aload_n dX9_knownIn_31 rfl ?_ | refine j_aload_nN dX9_knownIn_31 rfl ?_
      refine j_iconst (v := nI 5) dX9_knownIn_32 (by decide +kernel) ?_
      refine j_dV1 kl_X9_325 (m_refuse H _) dX9_knownIn_33 rfl rfl (by decide) (Mo.h H) (Nat.le_of_ble_eq_true rfl) (by first | decide | omega) (by omega) (by omega) ?_
      refine j_iret dX9_knownIn_36 ⟨_, rfl, rfl⟩ (by omega) (by omega) ?_
      exact qubX (by simp [oKnownIn, *])
  · first | refine j_aload_n dX9_knownIn_18 rfl ?_ | refine j_aload_nN dX9_knownIn_18 rfl ?_
    refine j_iconst (v := nI 2) dX9_knownIn_19 (by decide +kernel) ?_
    refine j_dV1 kl_X9_325 (m_refuse H _) dX9_knownIn_20 rfl rfl (by decide) (Mo.h H) (Nat.le_of_ble_eq_true rfl) (by first | decide | omega) (by omega) (by omega) ?_
    refine j_iret dX9_knownIn_23 ⟨_, rfl, rfl⟩ (by omega) (by omega) ?_
    exact qubX (by simp [oKnownIn, *])
theorem o_out (H : Mo σ h ad) (hC : σ.2.1 (ad 20) = C) {W P Dn : Nat} (hw : Wd C W P Dn) (k : Int32) : Kq g l h ad 6 MX9_out [.ref h, .int k] σ (some (.int (oOut C W P Dn k).1)) (mSt σ h (oOut C W P Dn k).2) := by
  obtain ⟨⟨hW, hW8⟩, ⟨hP, hP6⟩, ⟨hD, hD6⟩, hdn⟩ := id hw
  have ne : ad 20 ≠ ad 21 := Mo.ne H (by decide) (by decide) (by decide)
  refine Kt.go (Y := MX9_out) (ls := [some (.ref h), some (.int k), none, none, none]) (by decide) (Nat.le_of_ble_eq_true rfl) rfl ?_
  first | refine j_aload_n dX9_out_0 rfl ?_ | refine j_aload_nN dX9_out_0 rfl ?_
  refine j_iconst (v := nI 0) dX9_out_1 (by decide +kernel) ?_
  refine j_putI dX9_out_2 fl_X9_67 rfl (Mo.h H) rfl rfl rfl ?_
  first | refine j_aload_n dX9_out_5 rfl ?_ | refine j_aload_nN dX9_out_5 rfl ?_
  refine j_iconst (v := nI 0) dX9_out_6 (by decide +kernel) ?_
  refine j_putI dX9_out_7 fl_X9_70 rfl (Mo.h H) rfl rfl rfl ?_
  refine j_eq rfl rfl (σ' := mSt σ h (nI 0)) rfl ?_
  have H0 := H
  have hC0 := hC
  replace hC := (mSt_row (w := nI 0) H0 (k := 20) ⟨_, _, rfl⟩).trans hC0
  replace H : Mo (mSt σ h (nI 0)) h ad := H0
  first | refine j_aload_n dX9_out_10 rfl ?_ | refine j_aload_nN dX9_out_10 rfl ?_
  refine j_iload_n dX9_out_11 rfl ?_
  refine j_i2l dX9_out_12 ?_
  refine j_dV1 kl_X9_334 (m_isWordAt H hC hW hW8 k) dX9_out_13 rfl rfl (by decide) (Mo.h H) (Nat.le_of_ble_eq_true rfl) (by first | decide | omega) (by omega) (by omega) ?_
  first | (with_reducible refine j_gB ?_; refine j_if_neB (tgt := 25) dX9_out_16 (by decide) (fun c_16 => ?_) (fun c_16 => ?_)) | (with_reducible refine j_gC ?_; refine j_if_neC (tgt := 25) dX9_out_16 (by decide) (fun c_16 => ?_) (fun c_16 => ?_)) | (with_reducible refine j_gN ?_; refine j_if_neN (tgt := 25) dX9_out_16 (by decide) (by omega) (fun c_16 => ?_) (fun c_16 => ?_)) | refine j_if_ne (tgt := 25) dX9_out_16 (by decide) (fun c_16 => ?_) (fun c_16 => ?_)
  · obtain ⟨k, hk, rfl⟩ := okN_nI c_16
    have ek : ixn (nI k) = k := ixn_nI (by omega)
    have eo : oOut C W P Dn (nI k) = oFound 1 (fUp (outF C W P Dn k) 200) := by rw [oOut, if_pos c_16, ek]
    rw [eo, oFound_J]
    generalize hA : cpN 175 C ((mSt σ h (nI 0)).2.1 (ad 21)) = A
    have fin : ∀ D x4, Fr C D → Tq g l h ad 6 MX9_out [.ref h, .int (nI k)] (mSt σ h (if fUp (outF C W P Dn k) 200 = none then nI 8 else nI 0)) (some (.int (oJ 1 (fUp (outF C W P Dn k) 200)))) 85 [some (.ref h), some (.int (nI k)), some (.int (szOf (mPeopleWith C P 37 k))), some (.int (oJ 1 (fUp (outF C W P Dn k) 200))), x4] [] (sU (sU (mSt σ h (nI 0)) (ad 21) A) (ad 20) D) := by
      intro D x4 f1
      have hA2 : cpN 175 A D = C := by rw [← hA]; exact cpN_back (fun k hk => f1 k (by omega))
      first | refine j_aload_n dX9_out_85 rfl ?_ | refine j_aload_nN dX9_out_85 rfl ?_
      refine j_dV0 kl_X9_415 (m_givesB (σ := sU (sU (mSt σ h (nI 0)) (ad 21) A) (ad 20) D) H sU_e ((sU_n (Ne.symm ne)).trans sU_e)) dX9_out_86 rfl rfl (by decide) (Mo.h H) (Nat.le_of_ble_eq_true rfl) (by first | decide | omega) (by omega) (by omega) ?_
      rw [sU_U, hA2, sUh (show (sU (mSt σ h (nI 0)) (ad 21) A).2.1 (ad 20) = C from (sU_n ne).trans hC)]
      refine j_iload_n dX9_out_89 rfl ?_
      first | (with_reducible refine j_gC ?_; refine j_if_geC (tgt := 102) dX9_out_90 (by decide) (fun c_90 => ?_) (fun c_90 => ?_)) | refine j_if_ge (tgt := 102) dX9_out_90 (by decide) (fun c_90 => ?_) (fun c_90 => ?_)
      · refine j_iload_n dX9_out_102 rfl ?_
        refine j_iret dX9_out_103 ⟨_, rfl, rfl⟩ (by omega) (by omega) ?_
        first
        | (have z := oJ_ge c_90
           exact ⟨rfl, by rw [if_neg z]; exact Eqm.a (by omega) Eqm.rf⟩)
        | (have z := oJ_nge c_90 (fun k q => by have := fUp_lt _ _ q; omega)
           refine ⟨by rw [z]; rfl, ?_⟩
           have y : Eqm h ad (sI (sU (mSt σ h (nI 0)) (ad 21) A) h 0 (nI 8)) (sI (mSt σ h (nI 0)) h 0 (nI 8)) := Eqm.i (Eqm.a (by omega) Eqm.rf)
           rw [mSt_r] at y
           rw [if_pos z]
           exact y)
      · first | refine j_aload_n dX9_out_93 rfl ?_ | refine j_aload_nN dX9_out_93 rfl ?_
        refine j_bipush (v := nI 8) dX9_out_94 (by decide +kernel) ?_
        refine j_dV1 kl_X9_325 (m_refuse (σ := sU (mSt σ h (nI 0)) (ad 21) A) H _) dX9_out_96 rfl rfl (by decide) (Mo.h H) (Nat.le_of_ble_eq_true rfl) (by first | decide | omega) (by omega) (by omega) ?_
        refine j_goto (tgt := 103) dX9_out_99 (by decide) ?_
        refine j_iret dX9_out_103 ⟨_, rfl, rfl⟩ (by omega) (by omega) ?_
        first
        | (have z := oJ_ge c_90
           exact ⟨rfl, by rw [if_neg z]; exact Eqm.a (by omega) Eqm.rf⟩)
        | (have z := oJ_nge c_90 (fun k q => by have := fUp_lt _ _ q; omega)
           refine ⟨by rw [z]; rfl, ?_⟩
           have y : Eqm h ad (sI (sU (mSt σ h (nI 0)) (ad 21) A) h 0 (nI 8)) (sI (mSt σ h (nI 0)) h 0 (nI 8)) := Eqm.i (Eqm.a (by omega) Eqm.rf)
           rw [mSt_r] at y
           rw [if_pos z]
           exact y)
    have key : ∀ j, j ≤ 200 → ∀ D, D = mDays C W P Dn j → fUp (outF C W P Dn k) j = none → Tq g l h ad 6 MX9_out [.ref h, .int (nI k)] (mSt σ h (if fUp (outF C W P Dn k) 200 = none then nI 8 else nI 0)) (some (.int (oJ 1 (fUp (outF C W P Dn k) 200)))) 45 [some (.ref h), some (.int (nI k)), some (.int (szOf (mPeopleWith C P 37 k))), some (.int (-1)), some (.int (nI (j + 1)))] [] (sU (sU (mSt σ h (nI 0)) (ad 21) A) (ad 20) D) := by
      refine loop_up fun j hj ih => ?_
      intro D hD hf
      have f0 : Fr C D := by rw [hD]; exact mDays_fr hw j
      have f1 := mDays_fr hw (j + 1)
      have ej : mDay D W P Dn = mDays C W P Dn (j + 1) := by rw [hD]; rfl
      refine j_iload dX9_out_45 rfl ?_
      refine j_sipush (v := nI 200) dX9_out_47 (by decide +kernel) ?_
      first | (with_reducible refine j_gNN ?_; refine j_icmp_gtN (tgt := 85) dX9_out_50 (by decide) (by omega) (by omega) (fun c_50 => ?_) (fun c_50 => ?_)) | refine j_icmp_gt (tgt := 85) dX9_out_50 (by decide) (fun c_50 => ?_) (fun c_50 => ?_)
      · have e : j = 200 := by omega
        subst e
        have fj := fin D (some (.int (nI 201))) f0
        rw [hf] at fj ⊢
        exact fj
      · refine j_iload_n dX9_out_53 rfl ?_
        first | (with_reducible refine j_gC ?_; refine j_if_geC (tgt := 85) dX9_out_54 (by decide) (fun c_54 => ?_) (fun c_54 => ?_)) | refine j_if_ge (tgt := 85) dX9_out_54 (by decide) (fun c_54 => ?_) (fun c_54 => ?_)
        · exact absurd c_54 (by decide +kernel)
        · first | refine j_aload_n dX9_out_57 rfl ?_ | refine j_aload_nN dX9_out_57 rfl ?_
          refine j_dV1 kl_X9_381 (m_goesDay (σ := sU (sU (mSt σ h (nI 0)) (ad 21) A) (ad 20) D) H sU_e (hw.fr f0)) dX9_out_58 rfl rfl (by decide) (Mo.h H) (Nat.le_of_ble_eq_true rfl) (by first | decide | omega) (by omega) (by omega) ?_
          rw [sU_U, ej]
          refine j_pop dX9_out_61 rfl ?_
          first | refine j_aload_n dX9_out_62 rfl ?_ | refine j_aload_nN dX9_out_62 rfl ?_
          refine j_bipush (v := nI 37) dX9_out_63 (by decide +kernel) ?_
          refine j_iload_n dX9_out_65 rfl ?_
          refine j_dV1 kl_X9_339 (m_peopleWith (σ := sU (sU (mSt σ h (nI 0)) (ad 21) A) (ad 20) (mDays C W P Dn (j + 1))) H sU_e ((f1 1 (by omega)).trans hP) hP6 (by decide)) dX9_out_66 rfl rfl (by decide) (Mo.h H) (Nat.le_of_ble_eq_true rfl) (by first | decide | omega) (by omega) (by omega) ?_
          refine j_dS1 kl_X9_390 (k_sizeOf _) dX9_out_69 rfl rfl (Nat.le_of_ble_eq_true rfl) (by first | decide | omega) (by omega) (by omega) ?_
          refine j_iload_n dX9_out_72 rfl ?_
          first | (with_reducible refine j_gNN ?_; refine j_icmp_leN (tgt := 79) dX9_out_73 (by decide) (by omega) (by omega) (fun c_73 => ?_) (fun c_73 => ?_)) | refine j_icmp_le (tgt := 79) dX9_out_73 (by decide) (fun c_73 => ?_) (fun c_73 => ?_)
          · first | refine j_iincN dX9_out_79 rfl (by decide) ?_ | refine j_iinc dX9_out_79 rfl rfl (by decide) ?_
            refine j_goto (tgt := 45) dX9_out_82 (by decide) ?_
            first
            | (have z : outF C W P Dn k j = false := decide_eq_false (Int32.not_lt.mpr c_73)
               exact ih (by omega) _ rfl (by rw [fUp, hf, z]; rfl))
            | (have z : outF C W P Dn k j = true := decide_eq_true (Int32.not_le.mp c_73)
               have z2 : fUp (outF C W P Dn k) 200 = some j := fUp_le (j := j + 1) (by rw [fUp, hf, z]; rfl) (by omega)
               have fj := fin (mDays C W P Dn (j + 1)) (some (.int (nI (j + 2)))) f1
               rw [z2] at fj ⊢
               refine j_iload dX9_out_45 rfl ?_
               refine j_sipush (v := nI 200) dX9_out_47 (by decide +kernel) ?_
               first | (with_reducible refine j_gNN ?_; refine j_icmp_gtN (tgt := 85) dX9_out_50 (by decide) (by omega) (by omega) (fun c_50 => ?_) (fun c_50 => ?_)) | refine j_icmp_gt (tgt := 85) dX9_out_50 (by decide) (fun c_50 => ?_) (fun c_50 => ?_)
               · exact fj
               · refine j_iload_n dX9_out_53 rfl ?_
                 first | (with_reducible refine j_gC ?_; refine j_if_geC (tgt := 85) dX9_out_54 (by decide) (fun c_54 => ?_) (fun c_54 => ?_)) | refine j_if_ge (tgt := 85) dX9_out_54 (by decide) (fun c_54 => ?_) (fun c_54 => ?_)
                 · exact fj
                 · exact absurd (Int32.not_lt.mp (nI_pos (show j + 1 < 2 ^ 31 by omega))) c_54
               )
          · refine j_iload dX9_out_76 rfl ?_
            refine j_istore_n dX9_out_78 (by decide) ?_
            first | refine j_iincN dX9_out_79 rfl (by decide) ?_ | refine j_iinc dX9_out_79 rfl rfl (by decide) ?_
            refine j_goto (tgt := 45) dX9_out_82 (by decide) ?_
            first
            | (have z : outF C W P Dn k j = false := decide_eq_false (Int32.not_lt.mpr c_73)
               exact ih (by omega) _ rfl (by rw [fUp, hf, z]; rfl))
            | (have z : outF C W P Dn k j = true := decide_eq_true (Int32.not_le.mp c_73)
               have z2 : fUp (outF C W P Dn k) 200 = some j := fUp_le (j := j + 1) (by rw [fUp, hf, z]; rfl) (by omega)
               have fj := fin (mDays C W P Dn (j + 1)) (some (.int (nI (j + 2)))) f1
               rw [z2] at fj ⊢
               refine j_iload dX9_out_45 rfl ?_
               refine j_sipush (v := nI 200) dX9_out_47 (by decide +kernel) ?_
               first | (with_reducible refine j_gNN ?_; refine j_icmp_gtN (tgt := 85) dX9_out_50 (by decide) (by omega) (by omega) (fun c_50 => ?_) (fun c_50 => ?_)) | refine j_icmp_gt (tgt := 85) dX9_out_50 (by decide) (fun c_50 => ?_) (fun c_50 => ?_)
               · exact fj
               · refine j_iload_n dX9_out_53 rfl ?_
                 first | (with_reducible refine j_gC ?_; refine j_if_geC (tgt := 85) dX9_out_54 (by decide) (fun c_54 => ?_) (fun c_54 => ?_)) | refine j_if_ge (tgt := 85) dX9_out_54 (by decide) (fun c_54 => ?_) (fun c_54 => ?_)
                 · exact fj
                 · exact absurd (Int32.not_lt.mp (nI_pos (show j + 1 < 2 ^ 31 by omega))) c_54
               )
    first | refine j_aload_n dX9_out_25 rfl ?_ | refine j_aload_nN dX9_out_25 rfl ?_
    refine j_bipush (v := nI 37) dX9_out_26 (by decide +kernel) ?_
    refine j_iload_n dX9_out_28 rfl ?_
    refine j_dV1 kl_X9_339 (m_peopleWith H hC hP hP6 (by decide)) dX9_out_29 rfl rfl (by decide) (Mo.h H) (Nat.le_of_ble_eq_true rfl) (by first | decide | omega) (by omega) (by omega) ?_
    refine j_dS1 kl_X9_390 (k_sizeOf _) dX9_out_32 rfl rfl (Nat.le_of_ble_eq_true rfl) (by first | decide | omega) (by omega) (by omega) ?_
    refine j_istore_n dX9_out_35 (by decide) ?_
    refine j_iconst (v := -1) dX9_out_36 (by decide +kernel) ?_
    refine j_istore_n dX9_out_37 (by decide) ?_
    first | refine j_aload_n dX9_out_38 rfl ?_ | refine j_aload_nN dX9_out_38 rfl ?_
    refine j_dV0 kl_X9_406 (m_puts H hC rfl) dX9_out_39 rfl rfl (by decide) (Mo.h H) (Nat.le_of_ble_eq_true rfl) (by first | decide | omega) (by omega) (by omega) ?_
    refine j_iconst (v := nI 1) dX9_out_42 (by decide +kernel) ?_
    refine j_istore dX9_out_43 (by decide) ?_
    rw [hA]
    refine j_eq rfl rfl ?_ (key 0 (by omega) C rfl rfl)
    exact (sUh ((sU_n ne).trans hC)).symm
  · first | refine j_aload_n dX9_out_19 rfl ?_ | refine j_aload_nN dX9_out_19 rfl ?_
    refine j_iconst (v := nI 2) dX9_out_20 (by decide +kernel) ?_
    refine j_dV1 kl_X9_325 (m_refuse H _) dX9_out_21 rfl rfl (by decide) (Mo.h H) (Nat.le_of_ble_eq_true rfl) (by first | decide | omega) (by omega) (by omega) ?_
    refine j_iret dX9_out_24 ⟨_, rfl, rfl⟩ (by omega) (by omega) ?_
    exact qubX (by simp [oOut, *])
theorem o_learnsIn (H : Mo σ h ad) (hC : σ.2.1 (ad 20) = C) {W P Dn : Nat} (hw : Wd C W P Dn) (p k : Int32) : Kq g l h ad 6 MX9_learnsIn [.ref h, .int p, .int k] σ (some (.int (oLearnsIn C W P Dn p k).1)) (mSt σ h (oLearnsIn C W P Dn p k).2) := by
  obtain ⟨⟨hW, hW8⟩, ⟨hP, hP6⟩, ⟨hD, hD6⟩, hdn⟩ := id hw
  have ne : ad 20 ≠ ad 21 := Mo.ne H (by decide) (by decide) (by decide)
  refine Kt.go (Y := MX9_learnsIn) (ls := [some (.ref h), some (.int p), some (.int k), none, none]) (by decide) (Nat.le_of_ble_eq_true rfl) rfl ?_
  first | refine j_aload_n dX9_learnsIn_0 rfl ?_ | refine j_aload_nN dX9_learnsIn_0 rfl ?_
  refine j_iconst (v := nI 0) dX9_learnsIn_1 (by decide +kernel) ?_
  refine j_putI dX9_learnsIn_2 fl_X9_67 rfl (Mo.h H) rfl rfl rfl ?_
  first | refine j_aload_n dX9_learnsIn_5 rfl ?_ | refine j_aload_nN dX9_learnsIn_5 rfl ?_
  refine j_iconst (v := nI 0) dX9_learnsIn_6 (by decide +kernel) ?_
  refine j_putI dX9_learnsIn_7 fl_X9_70 rfl (Mo.h H) rfl rfl rfl ?_
  refine j_eq rfl rfl (σ' := mSt σ h (nI 0)) rfl ?_
  have H0 := H
  have hC0 := hC
  replace hC := (mSt_row (w := nI 0) H0 (k := 20) ⟨_, _, rfl⟩).trans hC0
  replace H : Mo (mSt σ h (nI 0)) h ad := H0
  first | refine j_aload_n dX9_learnsIn_10 rfl ?_ | refine j_aload_nN dX9_learnsIn_10 rfl ?_
  refine j_iload_n dX9_learnsIn_11 rfl ?_
  refine j_dV1 kl_X9_345 (m_isPersonAt H hC hP hP6 p) dX9_learnsIn_12 rfl rfl (by decide) (Mo.h H) (Nat.le_of_ble_eq_true rfl) (by first | decide | omega) (by omega) (by omega) ?_
  first | (with_reducible refine j_gB ?_; refine j_if_eqB (tgt := 27) dX9_learnsIn_15 (by decide) (fun c_15 => ?_) (fun c_15 => ?_)) | (with_reducible refine j_gC ?_; refine j_if_eqC (tgt := 27) dX9_learnsIn_15 (by decide) (fun c_15 => ?_) (fun c_15 => ?_)) | (with_reducible refine j_gN ?_; refine j_if_eqN (tgt := 27) dX9_learnsIn_15 (by decide) (by omega) (fun c_15 => ?_) (fun c_15 => ?_)) | refine j_if_eq (tgt := 27) dX9_learnsIn_15 (by decide) (fun c_15 => ?_) (fun c_15 => ?_)
  · first | refine j_aload_n dX9_learnsIn_27 rfl ?_ | refine j_aload_nN dX9_learnsIn_27 rfl ?_
    refine j_iconst (v := nI 2) dX9_learnsIn_28 (by decide +kernel) ?_
    refine j_dV1 kl_X9_325 (m_refuse H _) dX9_learnsIn_29 rfl rfl (by decide) (Mo.h H) (Nat.le_of_ble_eq_true rfl) (by first | decide | omega) (by omega) (by omega) ?_
    refine j_iret dX9_learnsIn_32 ⟨_, rfl, rfl⟩ (by omega) (by omega) ?_
    exact qubX (by simp [oLearnsIn, *])
  · first | refine j_aload_n dX9_learnsIn_18 rfl ?_ | refine j_aload_nN dX9_learnsIn_18 rfl ?_
    refine j_iload_n dX9_learnsIn_19 rfl ?_
    refine j_i2l dX9_learnsIn_20 ?_
    refine j_dV1 kl_X9_334 (m_isWordAt H hC hW hW8 k) dX9_learnsIn_21 rfl rfl (by decide) (Mo.h H) (Nat.le_of_ble_eq_true rfl) (by first | decide | omega) (by omega) (by omega) ?_
    first | (with_reducible refine j_gB ?_; refine j_if_neB (tgt := 33) dX9_learnsIn_24 (by decide) (fun c_24 => ?_) (fun c_24 => ?_)) | (with_reducible refine j_gC ?_; refine j_if_neC (tgt := 33) dX9_learnsIn_24 (by decide) (fun c_24 => ?_) (fun c_24 => ?_)) | (with_reducible refine j_gN ?_; refine j_if_neN (tgt := 33) dX9_learnsIn_24 (by decide) (by omega) (fun c_24 => ?_) (fun c_24 => ?_)) | refine j_if_ne (tgt := 33) dX9_learnsIn_24 (by decide) (fun c_24 => ?_) (fun c_24 => ?_)
    · obtain ⟨k, hk, rfl⟩ := okN_nI c_24
      obtain ⟨p, hp, rfl⟩ := okN_nI c_15
      have ek : ixn (nI k) = k := ixn_nI (by omega)
      have ep : ixn (nI p) = p := ixn_nI (by omega)
      have eo : oLearnsIn C W P Dn (nI p) (nI k) = oFound 0 (fUp (lrnF C W P Dn p k) 201) := by rw [oLearnsIn, if_pos ⟨c_15, c_24⟩, ek, ep]
      rw [eo, oFound_J]
      generalize hA : cpN 175 C ((mSt σ h (nI 0)).2.1 (ad 21)) = A
      have fin : ∀ D x4, Fr C D → Tq g l h ad 6 MX9_learnsIn [.ref h, .int (nI p), .int (nI k)] (mSt σ h (if fUp (lrnF C W P Dn p k) 201 = none then nI 8 else nI 0)) (some (.int (oJ 0 (fUp (lrnF C W P Dn p k) 201)))) 77 [some (.ref h), some (.int (nI p)), some (.int (nI k)), some (.int (oJ 0 (fUp (lrnF C W P Dn p k) 201))), x4] [] (sU (sU (mSt σ h (nI 0)) (ad 21) A) (ad 20) D) := by
        intro D x4 f1
        have hA2 : cpN 175 A D = C := by rw [← hA]; exact cpN_back (fun k hk => f1 k (by omega))
        first | refine j_aload_n dX9_learnsIn_77 rfl ?_ | refine j_aload_nN dX9_learnsIn_77 rfl ?_
        refine j_dV0 kl_X9_415 (m_givesB (σ := sU (sU (mSt σ h (nI 0)) (ad 21) A) (ad 20) D) H sU_e ((sU_n (Ne.symm ne)).trans sU_e)) dX9_learnsIn_78 rfl rfl (by decide) (Mo.h H) (Nat.le_of_ble_eq_true rfl) (by first | decide | omega) (by omega) (by omega) ?_
        rw [sU_U, hA2, sUh (show (sU (mSt σ h (nI 0)) (ad 21) A).2.1 (ad 20) = C from (sU_n ne).trans hC)]
        refine j_iload_n dX9_learnsIn_81 rfl ?_
        first | (with_reducible refine j_gC ?_; refine j_if_geC (tgt := 94) dX9_learnsIn_82 (by decide) (fun c_82 => ?_) (fun c_82 => ?_)) | refine j_if_ge (tgt := 94) dX9_learnsIn_82 (by decide) (fun c_82 => ?_) (fun c_82 => ?_)
        · refine j_iload_n dX9_learnsIn_94 rfl ?_
          refine j_iret dX9_learnsIn_95 ⟨_, rfl, rfl⟩ (by omega) (by omega) ?_
          first
          | (have z := oJ_ge c_82
             exact ⟨rfl, by rw [if_neg z]; exact Eqm.a (by omega) Eqm.rf⟩)
          | (have z := oJ_nge c_82 (fun k q => by have := fUp_lt _ _ q; omega)
             refine ⟨by rw [z]; rfl, ?_⟩
             have y : Eqm h ad (sI (sU (mSt σ h (nI 0)) (ad 21) A) h 0 (nI 8)) (sI (mSt σ h (nI 0)) h 0 (nI 8)) := Eqm.i (Eqm.a (by omega) Eqm.rf)
             rw [mSt_r] at y
             rw [if_pos z]
             exact y)
        · first | refine j_aload_n dX9_learnsIn_85 rfl ?_ | refine j_aload_nN dX9_learnsIn_85 rfl ?_
          refine j_bipush (v := nI 8) dX9_learnsIn_86 (by decide +kernel) ?_
          refine j_dV1 kl_X9_325 (m_refuse (σ := sU (mSt σ h (nI 0)) (ad 21) A) H _) dX9_learnsIn_88 rfl rfl (by decide) (Mo.h H) (Nat.le_of_ble_eq_true rfl) (by first | decide | omega) (by omega) (by omega) ?_
          refine j_goto (tgt := 95) dX9_learnsIn_91 (by decide) ?_
          refine j_iret dX9_learnsIn_95 ⟨_, rfl, rfl⟩ (by omega) (by omega) ?_
          first
          | (have z := oJ_ge c_82
             exact ⟨rfl, by rw [if_neg z]; exact Eqm.a (by omega) Eqm.rf⟩)
          | (have z := oJ_nge c_82 (fun k q => by have := fUp_lt _ _ q; omega)
             refine ⟨by rw [z]; rfl, ?_⟩
             have y : Eqm h ad (sI (sU (mSt σ h (nI 0)) (ad 21) A) h 0 (nI 8)) (sI (mSt σ h (nI 0)) h 0 (nI 8)) := Eqm.i (Eqm.a (by omega) Eqm.rf)
             rw [mSt_r] at y
             rw [if_pos z]
             exact y)
      have key : ∀ j, j ≤ 201 → ∀ D, D = mDays C W P Dn j → fUp (lrnF C W P Dn p k) j = none → Tq g l h ad 6 MX9_learnsIn [.ref h, .int (nI p), .int (nI k)] (mSt σ h (if fUp (lrnF C W P Dn p k) 201 = none then nI 8 else nI 0)) (some (.int (oJ 0 (fUp (lrnF C W P Dn p k) 201)))) 42 [some (.ref h), some (.int (nI p)), some (.int (nI k)), some (.int (-1)), some (.int (nI j))] [] (sU (sU (mSt σ h (nI 0)) (ad 21) A) (ad 20) D) := by
        refine loop_up fun j hj ih => ?_
        intro D hD hf
        have f0 : Fr C D := by rw [hD]; exact mDays_fr hw j
        have f1 := mDays_fr hw (j + 1)
        have ej : mDay D W P Dn = mDays C W P Dn (j + 1) := by rw [hD]; rfl
        have el : lrnF C W P Dn p k j = hs (D (37 + p)) k := by rw [hD]; rfl
        refine j_iload dX9_learnsIn_42 rfl ?_
        refine j_sipush (v := nI 200) dX9_learnsIn_44 (by decide +kernel) ?_
        first | (with_reducible refine j_gNN ?_; refine j_icmp_gtN (tgt := 77) dX9_learnsIn_47 (by decide) (by omega) (by omega) (fun c_47 => ?_) (fun c_47 => ?_)) | refine j_icmp_gt (tgt := 77) dX9_learnsIn_47 (by decide) (fun c_47 => ?_) (fun c_47 => ?_)
        · have e : j = 201 := by omega
          subst e
          have fj := fin D (some (.int (nI 201))) f0
          rw [hf] at fj ⊢
          exact fj
        · refine j_iload_n dX9_learnsIn_50 rfl ?_
          first | (with_reducible refine j_gC ?_; refine j_if_geC (tgt := 77) dX9_learnsIn_51 (by decide) (fun c_51 => ?_) (fun c_51 => ?_)) | refine j_if_ge (tgt := 77) dX9_learnsIn_51 (by decide) (fun c_51 => ?_) (fun c_51 => ?_)
          · exact absurd c_51 (by decide +kernel)
          · first | refine j_aload_n dX9_learnsIn_54 rfl ?_ | refine j_aload_nN dX9_learnsIn_54 rfl ?_
            refine j_iload_n dX9_learnsIn_55 rfl ?_
            refine j_iload_n dX9_learnsIn_56 rfl ?_
            refine j_dV1 kl_X9_366 (m_knows (σ := sU (sU (mSt σ h (nI 0)) (ad 21) A) (ad 20) D) H sU_e (by omega)) dX9_learnsIn_57 rfl rfl (by decide) (Mo.h H) (Nat.le_of_ble_eq_true rfl) (by first | decide | omega) (by omega) (by omega) ?_
            first | (with_reducible refine j_gB ?_; refine j_if_eqB (tgt := 66) dX9_learnsIn_60 (by decide) (fun c_60 => ?_) (fun c_60 => ?_)) | (with_reducible refine j_gC ?_; refine j_if_eqC (tgt := 66) dX9_learnsIn_60 (by decide) (fun c_60 => ?_) (fun c_60 => ?_)) | (with_reducible refine j_gN ?_; refine j_if_eqN (tgt := 66) dX9_learnsIn_60 (by decide) (by omega) (fun c_60 => ?_) (fun c_60 => ?_)) | refine j_if_eq (tgt := 66) dX9_learnsIn_60 (by decide) (fun c_60 => ?_) (fun c_60 => ?_)
            · first | refine j_aload_n dX9_learnsIn_66 rfl ?_ | refine j_aload_nN dX9_learnsIn_66 rfl ?_
              refine j_dV1 kl_X9_381 (m_goesDay (σ := sU (sU (mSt σ h (nI 0)) (ad 21) A) (ad 20) D) H sU_e (hw.fr f0)) dX9_learnsIn_67 rfl rfl (by decide) (Mo.h H) (Nat.le_of_ble_eq_true rfl) (by first | decide | omega) (by omega) (by omega) ?_
              rw [sU_U, ej]
              refine j_pop dX9_learnsIn_70 rfl ?_
              first | refine j_iincN dX9_learnsIn_71 rfl (by decide) ?_ | refine j_iinc dX9_learnsIn_71 rfl rfl (by decide) ?_
              refine j_goto (tgt := 42) dX9_learnsIn_74 (by decide) ?_
              first
              | exact ih (by omega) _ rfl (by rw [fUp, hf, el, c_60]; rfl)
              | (have z2 : fUp (lrnF C W P Dn p k) 201 = some j := fUp_le (j := j + 1) (by rw [fUp, hf, el, c_60]; rfl) (by omega)
                 have fj := fin (mDays C W P Dn (j + 1)) (some (.int (nI (j + 1)))) f1
                 rw [z2] at fj ⊢
                 refine j_iload dX9_learnsIn_42 rfl ?_
                 refine j_sipush (v := nI 200) dX9_learnsIn_44 (by decide +kernel) ?_
                 first | (with_reducible refine j_gNN ?_; refine j_icmp_gtN (tgt := 77) dX9_learnsIn_47 (by decide) (by omega) (by omega) (fun c_47 => ?_) (fun c_47 => ?_)) | refine j_icmp_gt (tgt := 77) dX9_learnsIn_47 (by decide) (fun c_47 => ?_) (fun c_47 => ?_)
                 · exact fj
                 · refine j_iload_n dX9_learnsIn_50 rfl ?_
                   first | (with_reducible refine j_gC ?_; refine j_if_geC (tgt := 77) dX9_learnsIn_51 (by decide) (fun c_51 => ?_) (fun c_51 => ?_)) | refine j_if_ge (tgt := 77) dX9_learnsIn_51 (by decide) (fun c_51 => ?_) (fun c_51 => ?_)
                   · exact fj
                   · exact absurd (Int32.not_lt.mp (nI_pos (show j < 2 ^ 31 by omega))) c_51
                 )
            · refine j_iload dX9_learnsIn_63 rfl ?_
              refine j_istore_n dX9_learnsIn_65 (by decide) ?_
              first | refine j_aload_n dX9_learnsIn_66 rfl ?_ | refine j_aload_nN dX9_learnsIn_66 rfl ?_
              refine j_dV1 kl_X9_381 (m_goesDay (σ := sU (sU (mSt σ h (nI 0)) (ad 21) A) (ad 20) D) H sU_e (hw.fr f0)) dX9_learnsIn_67 rfl rfl (by decide) (Mo.h H) (Nat.le_of_ble_eq_true rfl) (by first | decide | omega) (by omega) (by omega) ?_
              rw [sU_U, ej]
              refine j_pop dX9_learnsIn_70 rfl ?_
              first | refine j_iincN dX9_learnsIn_71 rfl (by decide) ?_ | refine j_iinc dX9_learnsIn_71 rfl rfl (by decide) ?_
              refine j_goto (tgt := 42) dX9_learnsIn_74 (by decide) ?_
              first
              | exact ih (by omega) _ rfl (by rw [fUp, hf, el, c_60]; rfl)
              | (have z2 : fUp (lrnF C W P Dn p k) 201 = some j := fUp_le (j := j + 1) (by rw [fUp, hf, el, c_60]; rfl) (by omega)
                 have fj := fin (mDays C W P Dn (j + 1)) (some (.int (nI (j + 1)))) f1
                 rw [z2] at fj ⊢
                 refine j_iload dX9_learnsIn_42 rfl ?_
                 refine j_sipush (v := nI 200) dX9_learnsIn_44 (by decide +kernel) ?_
                 first | (with_reducible refine j_gNN ?_; refine j_icmp_gtN (tgt := 77) dX9_learnsIn_47 (by decide) (by omega) (by omega) (fun c_47 => ?_) (fun c_47 => ?_)) | refine j_icmp_gt (tgt := 77) dX9_learnsIn_47 (by decide) (fun c_47 => ?_) (fun c_47 => ?_)
                 · exact fj
                 · refine j_iload_n dX9_learnsIn_50 rfl ?_
                   first | (with_reducible refine j_gC ?_; refine j_if_geC (tgt := 77) dX9_learnsIn_51 (by decide) (fun c_51 => ?_) (fun c_51 => ?_)) | refine j_if_ge (tgt := 77) dX9_learnsIn_51 (by decide) (fun c_51 => ?_) (fun c_51 => ?_)
                   · exact fj
                   · exact absurd (Int32.not_lt.mp (nI_pos (show j < 2 ^ 31 by omega))) c_51
                 )
      refine j_iconst (v := -1) dX9_learnsIn_33 (by decide +kernel) ?_
      refine j_istore_n dX9_learnsIn_34 (by decide) ?_
      first | refine j_aload_n dX9_learnsIn_35 rfl ?_ | refine j_aload_nN dX9_learnsIn_35 rfl ?_
      refine j_dV0 kl_X9_406 (m_puts H hC rfl) dX9_learnsIn_36 rfl rfl (by decide) (Mo.h H) (Nat.le_of_ble_eq_true rfl) (by first | decide | omega) (by omega) (by omega) ?_
      refine j_iconst (v := nI 0) dX9_learnsIn_39 (by decide +kernel) ?_
      refine j_istore dX9_learnsIn_40 (by decide) ?_
      rw [hA]
      refine j_eq rfl rfl ?_ (key 0 (by omega) C rfl rfl)
      exact (sUh ((sU_n ne).trans hC)).symm
    · first | refine j_aload_n dX9_learnsIn_27 rfl ?_ | refine j_aload_nN dX9_learnsIn_27 rfl ?_
      refine j_iconst (v := nI 2) dX9_learnsIn_28 (by decide +kernel) ?_
      refine j_dV1 kl_X9_325 (m_refuse H _) dX9_learnsIn_29 rfl rfl (by decide) (Mo.h H) (Nat.le_of_ble_eq_true rfl) (by first | decide | omega) (by omega) (by omega) ?_
      refine j_iret dX9_learnsIn_32 ⟨_, rfl, rfl⟩ (by omega) (by omega) ?_
      exact qubX (by simp [oLearnsIn, *])
theorem o_wildIn (H : Mo σ h ad) (hC : σ.2.1 (ad 20) = C) {W P Dn : Nat} (hw : Wd C W P Dn) (p : Int32) : Kq g l h ad 6 MX9_wildIn [.ref h, .int p] σ (some (.int (oWildIn C W P Dn p).1)) (mSt σ h (oWildIn C W P Dn p).2) := by
  obtain ⟨⟨hW, hW8⟩, ⟨hP, hP6⟩, ⟨hD, hD6⟩, hdn⟩ := id hw
  have ne : ad 20 ≠ ad 21 := Mo.ne H (by decide) (by decide) (by decide)
  refine Kt.go (Y := MX9_wildIn) (ls := [some (.ref h), some (.int p), none, none]) (by decide) (Nat.le_of_ble_eq_true rfl) rfl ?_
  first | refine j_aload_n dX9_wildIn_0 rfl ?_ | refine j_aload_nN dX9_wildIn_0 rfl ?_
  refine j_iconst (v := nI 0) dX9_wildIn_1 (by decide +kernel) ?_
  refine j_putI dX9_wildIn_2 fl_X9_67 rfl (Mo.h H) rfl rfl rfl ?_
  first | refine j_aload_n dX9_wildIn_5 rfl ?_ | refine j_aload_nN dX9_wildIn_5 rfl ?_
  refine j_iconst (v := nI 0) dX9_wildIn_6 (by decide +kernel) ?_
  refine j_putI dX9_wildIn_7 fl_X9_70 rfl (Mo.h H) rfl rfl rfl ?_
  refine j_eq rfl rfl (σ' := mSt σ h (nI 0)) rfl ?_
  have H0 := H
  have hC0 := hC
  replace hC := (mSt_row (w := nI 0) H0 (k := 20) ⟨_, _, rfl⟩).trans hC0
  replace H : Mo (mSt σ h (nI 0)) h ad := H0
  first | refine j_aload_n dX9_wildIn_10 rfl ?_ | refine j_aload_nN dX9_wildIn_10 rfl ?_
  refine j_iload_n dX9_wildIn_11 rfl ?_
  refine j_dV1 kl_X9_345 (m_isPersonAt H hC hP hP6 p) dX9_wildIn_12 rfl rfl (by decide) (Mo.h H) (Nat.le_of_ble_eq_true rfl) (by first | decide | omega) (by omega) (by omega) ?_
  first | (with_reducible refine j_gB ?_; refine j_if_neB (tgt := 24) dX9_wildIn_15 (by decide) (fun c_15 => ?_) (fun c_15 => ?_)) | (with_reducible refine j_gC ?_; refine j_if_neC (tgt := 24) dX9_wildIn_15 (by decide) (fun c_15 => ?_) (fun c_15 => ?_)) | (with_reducible refine j_gN ?_; refine j_if_neN (tgt := 24) dX9_wildIn_15 (by decide) (by omega) (fun c_15 => ?_) (fun c_15 => ?_)) | refine j_if_ne (tgt := 24) dX9_wildIn_15 (by decide) (fun c_15 => ?_) (fun c_15 => ?_)
  · obtain ⟨p, hp, rfl⟩ := okN_nI c_15
    have ep : ixn (nI p) = p := ixn_nI (by omega)
    have eo : oWildIn C W P Dn (nI p) = oFound 0 (fUp (wldF C W P Dn p) 201) := by rw [oWildIn, if_pos c_15, ep]
    rw [eo, oFound_J]
    generalize hA : cpN 175 C ((mSt σ h (nI 0)).2.1 (ad 21)) = A
    have fin : ∀ D x4, Fr C D → Tq g l h ad 6 MX9_wildIn [.ref h, .int (nI p)] (mSt σ h (if fUp (wldF C W P Dn p) 201 = none then nI 8 else nI 0)) (some (.int (oJ 0 (fUp (wldF C W P Dn p) 201)))) 73 [some (.ref h), some (.int (nI p)), some (.int (oJ 0 (fUp (wldF C W P Dn p) 201))), x4] [] (sU (sU (mSt σ h (nI 0)) (ad 21) A) (ad 20) D) := by
      intro D x4 f1
      have hA2 : cpN 175 A D = C := by rw [← hA]; exact cpN_back (fun k hk => f1 k (by omega))
      first | refine j_aload_n dX9_wildIn_73 rfl ?_ | refine j_aload_nN dX9_wildIn_73 rfl ?_
      refine j_dV0 kl_X9_415 (m_givesB (σ := sU (sU (mSt σ h (nI 0)) (ad 21) A) (ad 20) D) H sU_e ((sU_n (Ne.symm ne)).trans sU_e)) dX9_wildIn_74 rfl rfl (by decide) (Mo.h H) (Nat.le_of_ble_eq_true rfl) (by first | decide | omega) (by omega) (by omega) ?_
      rw [sU_U, hA2, sUh (show (sU (mSt σ h (nI 0)) (ad 21) A).2.1 (ad 20) = C from (sU_n ne).trans hC)]
      refine j_iload_n dX9_wildIn_77 rfl ?_
      first | (with_reducible refine j_gC ?_; refine j_if_geC (tgt := 90) dX9_wildIn_78 (by decide) (fun c_78 => ?_) (fun c_78 => ?_)) | refine j_if_ge (tgt := 90) dX9_wildIn_78 (by decide) (fun c_78 => ?_) (fun c_78 => ?_)
      · refine j_iload_n dX9_wildIn_90 rfl ?_
        refine j_iret dX9_wildIn_91 ⟨_, rfl, rfl⟩ (by omega) (by omega) ?_
        first
        | (have z := oJ_ge c_78
           exact ⟨rfl, by rw [if_neg z]; exact Eqm.a (by omega) Eqm.rf⟩)
        | (have z := oJ_nge c_78 (fun k q => by have := fUp_lt _ _ q; omega)
           refine ⟨by rw [z]; rfl, ?_⟩
           have y : Eqm h ad (sI (sU (mSt σ h (nI 0)) (ad 21) A) h 0 (nI 8)) (sI (mSt σ h (nI 0)) h 0 (nI 8)) := Eqm.i (Eqm.a (by omega) Eqm.rf)
           rw [mSt_r] at y
           rw [if_pos z]
           exact y)
      · first | refine j_aload_n dX9_wildIn_81 rfl ?_ | refine j_aload_nN dX9_wildIn_81 rfl ?_
        refine j_bipush (v := nI 8) dX9_wildIn_82 (by decide +kernel) ?_
        refine j_dV1 kl_X9_325 (m_refuse (σ := sU (mSt σ h (nI 0)) (ad 21) A) H _) dX9_wildIn_84 rfl rfl (by decide) (Mo.h H) (Nat.le_of_ble_eq_true rfl) (by first | decide | omega) (by omega) (by omega) ?_
        refine j_goto (tgt := 91) dX9_wildIn_87 (by decide) ?_
        refine j_iret dX9_wildIn_91 ⟨_, rfl, rfl⟩ (by omega) (by omega) ?_
        first
        | (have z := oJ_ge c_78
           exact ⟨rfl, by rw [if_neg z]; exact Eqm.a (by omega) Eqm.rf⟩)
        | (have z := oJ_nge c_78 (fun k q => by have := fUp_lt _ _ q; omega)
           refine ⟨by rw [z]; rfl, ?_⟩
           have y : Eqm h ad (sI (sU (mSt σ h (nI 0)) (ad 21) A) h 0 (nI 8)) (sI (mSt σ h (nI 0)) h 0 (nI 8)) := Eqm.i (Eqm.a (by omega) Eqm.rf)
           rw [mSt_r] at y
           rw [if_pos z]
           exact y)
    have key : ∀ j, j ≤ 201 → ∀ D, D = mDays C W P Dn j → fUp (wldF C W P Dn p) j = none → Tq g l h ad 6 MX9_wildIn [.ref h, .int (nI p)] (mSt σ h (if fUp (wldF C W P Dn p) 201 = none then nI 8 else nI 0)) (some (.int (oJ 0 (fUp (wldF C W P Dn p) 201)))) 32 [some (.ref h), some (.int (nI p)), some (.int (-1)), some (.int (nI j))] [] (sU (sU (mSt σ h (nI 0)) (ad 21) A) (ad 20) D) := by
      refine loop_up fun j hj ih => ?_
      intro D hD hf
      have f0 : Fr C D := by rw [hD]; exact mDays_fr hw j
      have f1 := mDays_fr hw (j + 1)
      have ej : mDay D W P Dn = mDays C W P Dn (j + 1) := by rw [hD]; rfl
      have el : wldF C W P Dn p j = decide (C (25 + p) < mHair D W p) := by rw [hD]; rfl
      have eT : D (25 + p) = C (25 + p) := f0 _ (by omega)
      have hC0 := hC
      have hC : (sU (sU (mSt σ h (nI 0)) (ad 21) A) (ad 20) D).2.1 (ad 20) = D := sU_e
      refine j_iload_n dX9_wildIn_32 rfl ?_
      refine j_sipush (v := nI 200) dX9_wildIn_33 (by decide +kernel) ?_
      first | (with_reducible refine j_gNN ?_; refine j_icmp_gtN (tgt := 73) dX9_wildIn_36 (by decide) (by omega) (by omega) (fun c_36 => ?_) (fun c_36 => ?_)) | refine j_icmp_gt (tgt := 73) dX9_wildIn_36 (by decide) (fun c_36 => ?_) (fun c_36 => ?_)
      · have e : j = 201 := by omega
        subst e
        have fj := fin D (some (.int (nI 201))) f0
        rw [hf] at fj ⊢
        exact fj
      · refine j_iload_n dX9_wildIn_39 rfl ?_
        first | (with_reducible refine j_gC ?_; refine j_if_geC (tgt := 73) dX9_wildIn_40 (by decide) (fun c_40 => ?_) (fun c_40 => ?_)) | refine j_if_ge (tgt := 73) dX9_wildIn_40 (by decide) (fun c_40 => ?_) (fun c_40 => ?_)
        · exact absurd c_40 (by decide +kernel)
        · first | refine j_aload_n dX9_wildIn_43 rfl ?_ | refine j_aload_nN dX9_wildIn_43 rfl ?_
          refine j_iload_n dX9_wildIn_44 rfl ?_
          refine j_dV1 kl_X9_320 (m_hairOf (σ := sU (sU (mSt σ h (nI 0)) (ad 21) A) (ad 20) D) H sU_e ((f0 0 (by omega)).trans hW) hW8 (by omega)) dX9_wildIn_45 rfl rfl (by decide) (Mo.h H) (Nat.le_of_ble_eq_true rfl) (by first | decide | omega) (by omega) (by omega) ?_
          first | refine j_aload_n dX9_wildIn_48 rfl ?_ | refine j_aload_nN dX9_wildIn_48 rfl ?_
          refine j_getR dX9_wildIn_49 fl_X9_35 rfl (Mo.h H) (Mo.R H _ _ _ rfl) ?_
          refine j_bipush (v := nI 25) dX9_wildIn_52 (by decide +kernel) ?_
          refine j_iload_n dX9_wildIn_54 rfl ?_
          first | (with_reducible refine j_gNN ?_; refine j_iaddN dX9_wildIn_55 ?_) | refine j_iadd dX9_wildIn_55 ?_
          refine j_iald dX9_wildIn_56 (Mo.S H _ _ _ rfl) rfl (by omega) (by decide) (by first | assumption | (rewrite [hC]; first | assumption | rfl) | rfl) ?_
          first | (with_reducible refine j_gNN ?_; refine j_icmp_leN (tgt := 62) dX9_wildIn_57 (by decide) (by omega) (by omega) (fun c_57 => ?_) (fun c_57 => ?_)) | refine j_icmp_le (tgt := 62) dX9_wildIn_57 (by decide) (fun c_57 => ?_) (fun c_57 => ?_)
          · first | refine j_aload_n dX9_wildIn_62 rfl ?_ | refine j_aload_nN dX9_wildIn_62 rfl ?_
            refine j_dV1 kl_X9_381 (m_goesDay (σ := sU (sU (mSt σ h (nI 0)) (ad 21) A) (ad 20) D) H sU_e (hw.fr f0)) dX9_wildIn_63 rfl rfl (by decide) (Mo.h H) (Nat.le_of_ble_eq_true rfl) (by first | decide | omega) (by omega) (by omega) ?_
            rw [sU_U, ej]
            refine j_pop dX9_wildIn_66 rfl ?_
            first | refine j_iincN dX9_wildIn_67 rfl (by decide) ?_ | refine j_iinc dX9_wildIn_67 rfl rfl (by decide) ?_
            refine j_goto (tgt := 32) dX9_wildIn_70 (by decide) ?_
            first
            | (have z := decide_eq_false (Int32.not_lt.mpr c_57)
               exact ih (by omega) _ rfl (by rw [fUp, hf, el, z]; rfl))
            | (have z := decide_eq_true (Int32.not_le.mp c_57)
               have z2 : fUp (wldF C W P Dn p) 201 = some j := fUp_le (j := j + 1) (by rw [fUp, hf, el, z]; rfl) (by omega)
               have fj := fin (mDays C W P Dn (j + 1)) (some (.int (nI (j + 1)))) f1
               rw [z2] at fj ⊢
               refine j_iload_n dX9_wildIn_32 rfl ?_
               refine j_sipush (v := nI 200) dX9_wildIn_33 (by decide +kernel) ?_
               first | (with_reducible refine j_gNN ?_; refine j_icmp_gtN (tgt := 73) dX9_wildIn_36 (by decide) (by omega) (by omega) (fun c_36 => ?_) (fun c_36 => ?_)) | refine j_icmp_gt (tgt := 73) dX9_wildIn_36 (by decide) (fun c_36 => ?_) (fun c_36 => ?_)
               · exact fj
               · refine j_iload_n dX9_wildIn_39 rfl ?_
                 first | (with_reducible refine j_gC ?_; refine j_if_geC (tgt := 73) dX9_wildIn_40 (by decide) (fun c_40 => ?_) (fun c_40 => ?_)) | refine j_if_ge (tgt := 73) dX9_wildIn_40 (by decide) (fun c_40 => ?_) (fun c_40 => ?_)
                 · exact fj
                 · exact absurd (Int32.not_lt.mp (nI_pos (show j < 2 ^ 31 by omega))) c_40
               )
          · refine j_iload_n dX9_wildIn_60 rfl ?_
            refine j_istore_n dX9_wildIn_61 (by decide) ?_
            first | refine j_aload_n dX9_wildIn_62 rfl ?_ | refine j_aload_nN dX9_wildIn_62 rfl ?_
            refine j_dV1 kl_X9_381 (m_goesDay (σ := sU (sU (mSt σ h (nI 0)) (ad 21) A) (ad 20) D) H sU_e (hw.fr f0)) dX9_wildIn_63 rfl rfl (by decide) (Mo.h H) (Nat.le_of_ble_eq_true rfl) (by first | decide | omega) (by omega) (by omega) ?_
            rw [sU_U, ej]
            refine j_pop dX9_wildIn_66 rfl ?_
            first | refine j_iincN dX9_wildIn_67 rfl (by decide) ?_ | refine j_iinc dX9_wildIn_67 rfl rfl (by decide) ?_
            refine j_goto (tgt := 32) dX9_wildIn_70 (by decide) ?_
            first
            | (have z := decide_eq_false (Int32.not_lt.mpr c_57)
               exact ih (by omega) _ rfl (by rw [fUp, hf, el, z]; rfl))
            | (have z := decide_eq_true (Int32.not_le.mp c_57)
               have z2 : fUp (wldF C W P Dn p) 201 = some j := fUp_le (j := j + 1) (by rw [fUp, hf, el, z]; rfl) (by omega)
               have fj := fin (mDays C W P Dn (j + 1)) (some (.int (nI (j + 1)))) f1
               rw [z2] at fj ⊢
               refine j_iload_n dX9_wildIn_32 rfl ?_
               refine j_sipush (v := nI 200) dX9_wildIn_33 (by decide +kernel) ?_
               first | (with_reducible refine j_gNN ?_; refine j_icmp_gtN (tgt := 73) dX9_wildIn_36 (by decide) (by omega) (by omega) (fun c_36 => ?_) (fun c_36 => ?_)) | refine j_icmp_gt (tgt := 73) dX9_wildIn_36 (by decide) (fun c_36 => ?_) (fun c_36 => ?_)
               · exact fj
               · refine j_iload_n dX9_wildIn_39 rfl ?_
                 first | (with_reducible refine j_gC ?_; refine j_if_geC (tgt := 73) dX9_wildIn_40 (by decide) (fun c_40 => ?_) (fun c_40 => ?_)) | refine j_if_ge (tgt := 73) dX9_wildIn_40 (by decide) (fun c_40 => ?_) (fun c_40 => ?_)
                 · exact fj
                 · exact absurd (Int32.not_lt.mp (nI_pos (show j < 2 ^ 31 by omega))) c_40
               )
    refine j_iconst (v := -1) dX9_wildIn_24 (by decide +kernel) ?_
    refine j_istore_n dX9_wildIn_25 (by decide) ?_
    first | refine j_aload_n dX9_wildIn_26 rfl ?_ | refine j_aload_nN dX9_wildIn_26 rfl ?_
    refine j_dV0 kl_X9_406 (m_puts H hC rfl) dX9_wildIn_27 rfl rfl (by decide) (Mo.h H) (Nat.le_of_ble_eq_true rfl) (by first | decide | omega) (by omega) (by omega) ?_
    refine j_iconst (v := nI 0) dX9_wildIn_30 (by decide +kernel) ?_
    refine j_istore_n dX9_wildIn_31 (by decide) ?_
    rw [hA]
    refine j_eq rfl rfl ?_ (key 0 (by omega) C rfl rfl)
    exact (sUh ((sU_n ne).trans hC)).symm
  · first | refine j_aload_n dX9_wildIn_18 rfl ?_ | refine j_aload_nN dX9_wildIn_18 rfl ?_
    refine j_iconst (v := nI 2) dX9_wildIn_19 (by decide +kernel) ?_
    refine j_dV1 kl_X9_325 (m_refuse H _) dX9_wildIn_20 rfl rfl (by decide) (Mo.h H) (Nat.le_of_ble_eq_true rfl) (by first | decide | omega) (by omega) (by omega) ?_
    refine j_iret dX9_wildIn_23 ⟨_, rfl, rfl⟩ (by omega) (by omega) ?_
    exact qubX (by simp [oWildIn, *])
end M11
