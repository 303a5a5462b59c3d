/-! THE MODEL: says, dines, a day, cuts; days ahead -/
set_option maxRecDepth 100000
def rm (x y : Int32) : Int32 := x - x / y * y
/-- a whole number as a place -/
def ixn (x : Int32) : Nat := x.toNatClampNeg
theorem ixn_nI {n : Nat} (h : n < 2 ^ 31) : ixn (nI n) = n := nI_clamp h
/-- the dinners' cells are well -/
def Wd (C : Nat → Int32) (W P Dn : Nat) : Prop := (C 0 = nI W ∧ W ≤ 8) ∧ (C 1 = nI P ∧ P ≤ 6) ∧ (C 2 = nI Dn ∧ Dn ≤ 6) ∧ ∀ d, d < Dn → ∃ a b e, C (145 + d) = nI a ∧ a < P ∧ C (151 + d) = nI b ∧ b < P ∧ a ≠ b ∧ C (157 + d) = nI e ∧ 1 ≤ e ∧ e ≤ 30
theorem Wd.fr {C D : Nat → Int32} {W P Dn : Nat} (h : Wd C W P Dn) (f : Fr C D) : Wd D W P Dn := by
  obtain ⟨⟨h1, h2⟩, ⟨h3, h4⟩, ⟨h5, h6⟩, h7⟩ := h
  refine ⟨⟨(f 0 (by omega)).trans h1, h2⟩, ⟨(f 1 (by omega)).trans h3, h4⟩, ⟨(f 2 (by omega)).trans h5, h6⟩, fun d hd => ?_⟩
  obtain ⟨a, b, e, q1, q2, q3, q4, q5, q6, q7⟩ := h7 d hd
  exact ⟨a, b, e, (f _ (by omega)).trans q1, q2, (f _ (by omega)).trans q3, q4, q5, (f _ (by omega)).trans q6, q7⟩
section M3
variable {g : Gx} {l : Launch} {σ : Sg} {h : Nat} {ad : Nat → Nat} {C : Nat → Int32}
theorem m_knows (H : Mo σ h ad) (hC : σ.2.1 (ad 20) = C) {p k : Nat} (hp : p < 6) : Kd g l 1 MX9_knows [.ref h, .int (nI p), .int (nI k)] σ (some (.int (bI (hs (C (37 + p)) k)))) σ := by subst hC; exact k_mknows H hp
theorem m_keeps (H : Mo σ h ad) (hC : σ.2.1 (ad 20) = C) {p k : Nat} (hp : p < 6) : Kd g l 1 MX9_keeps [.ref h, .int (nI p), .int (nI k)] σ (some (.int (bI (hs (C (43 + p)) k)))) σ := by subst hC; exact k_mkeeps H hp
theorem m_hairOf (H : Mo σ h ad) (hC : σ.2.1 (ad 20) = C) {W p : Nat} (hW : C 0 = nI W) (hW8 : W ≤ 8) (hp : p < 6) : Kd g l 2 MX9_hairOf [.ref h, .int (nI p)] σ (some (.int (mHair C W p))) σ := by subst hC; exact k_mhairOf H hW hW8 hp
theorem m_longestOf (H : Mo σ h ad) (hC : σ.2.1 (ad 20) = C) {W p : Nat} {set : Int32} (hW : C 0 = nI W) (hW8 : W ≤ 8) (hp : p < 6) : Kd g l 2 MX9_longestOf [.ref h, .int (nI p), .int set] σ (some (.int (oI (mLongest C W p set)))) σ := by subst hC; exact k_mlongestOf H hW hW8 hp
theorem m_strandIs (H : Mo σ h ad) (hC : σ.2.1 (ad 20) = C) {p k : Nat} (hp : p < 6) (hk : k < 8) : Kd g l 0 MX9_strandIs [.ref h, .int (nI p), .int (nI k)] σ none (sU σ (ad 20) (mStrand C p k)) := by subst hC; exact k_mstrandIs H hp hk
theorem m_grows (H : Mo σ h ad) (hC : σ.2.1 (ad 20) = C) {W p : Nat} (hW : C 0 = nI W) (hW8 : W ≤ 8) (hp : p < 6) : Kd g l 2 MX9_grows [.ref h, .int (nI p)] σ none (sU σ (ad 20) (mGrow C W p)) := by subst hC; exact k_mgrows H hW hW8 hp
/-- p says the word k to q -/
def mSaysB (C : Nat → Int32) (p k q : Nat) : Bool := decide (p ≠ q) && hs (C (43 + p)) k && !hs (C (37 + q)) k
def mSaysC (C : Nat → Int32) (p k q : Nat) : Nat → Int32 := up (up C (37 + q) (C (37 + q) ||| bt k)) (43 + p) (C (43 + p) &&& (bt k ^^^ (-1)))
def mSays (C : Nat → Int32) (p k q : Nat) : Nat → Int32 := if mSaysB C p k q then mSaysC C p k q else C
theorem mSays_fr {C : Nat → Int32} {p k q : Nat} (hp : p < 6) (hq : q < 6) : Fr C (mSays C p k q) := by
  unfold mSays
  split
  · exact (Fr.rf.up (by omega)).up (by omega)
  · exact Fr.rf
theorem m_says (H : Mo σ h ad) (hC : σ.2.1 (ad 20) = C) {p k q : Nat} (hp : p < 6) (hq : q < 6) : Kd g l 2 MX9_says [.ref h, .int (nI p), .int (nI k), .int (nI q)] σ (some (.int (bI (mSaysB C p k q)))) (sU σ (ad 20) (mSays C p k q)) := by
  have f0 : mSaysB C p k q = false → sU σ (ad 20) (mSays C p k q) = σ := fun e => by rw [mSays, e, ← hC]; exact sU_self
  refine Kt.go (Y := MX9_says) (ls := [some (.ref h), some (.int (nI p)), some (.int (nI k)), some (.int (nI q))]) (by decide) (Nat.le_of_ble_eq_true rfl) rfl ?_
  refine j_iload_n dX9_says_0 rfl ?_
  refine j_iload_n dX9_says_1 rfl ?_
  first | (with_reducible refine j_gNN ?_; refine j_icmp_eqN (tgt := 23) dX9_says_2 (by decide) (by omega) (by omega) (fun c_2 => ?_) (fun c_2 => ?_)) | refine j_icmp_eq (tgt := 23) dX9_says_2 (by decide) (fun c_2 => ?_) (fun c_2 => ?_)
  · refine j_iconst (v := nI 0) dX9_says_23 (by decide +kernel) ?_
    refine j_iret dX9_says_24 ⟨_, rfl, rfl⟩ (by omega) (by omega) ?_
    have e : mSaysB C p k q = false := by simp [mSaysB, *]
    exact ⟨by rw [e]; rfl, (f0 e).symm⟩
  · first | refine j_aload_n dX9_says_5 rfl ?_ | refine j_aload_nN dX9_says_5 rfl ?_
    refine j_iload_n dX9_says_6 rfl ?_
    refine j_iload_n dX9_says_7 rfl ?_
    refine j_dV1 kl_X9_317 (m_keeps H hC hp) dX9_says_8 rfl rfl (by decide) (Mo.h H) (Nat.le_of_ble_eq_true rfl) (by first | decide | omega) (by omega) (by omega) ?_
    first | (with_reducible refine j_gB ?_; refine j_if_eqB (tgt := 23) dX9_says_11 (by decide) (fun c_11 => ?_) (fun c_11 => ?_)) | (with_reducible refine j_gC ?_; refine j_if_eqC (tgt := 23) dX9_says_11 (by decide) (fun c_11 => ?_) (fun c_11 => ?_)) | (with_reducible refine j_gN ?_; refine j_if_eqN (tgt := 23) dX9_says_11 (by decide) (by omega) (fun c_11 => ?_) (fun c_11 => ?_)) | refine j_if_eq (tgt := 23) dX9_says_11 (by decide) (fun c_11 => ?_) (fun c_11 => ?_)
    · refine j_iconst (v := nI 0) dX9_says_23 (by decide +kernel) ?_
      refine j_iret dX9_says_24 ⟨_, rfl, rfl⟩ (by omega) (by omega) ?_
      have e : mSaysB C p k q = false := by simp [mSaysB, *]
      exact ⟨by rw [e]; rfl, (f0 e).symm⟩
    · first | refine j_aload_n dX9_says_14 rfl ?_ | refine j_aload_nN dX9_says_14 rfl ?_
      refine j_iload_n dX9_says_15 rfl ?_
      refine j_iload_n dX9_says_16 rfl ?_
      refine j_dV1 kl_X9_366 (m_knows H hC hq) dX9_says_17 rfl rfl (by decide) (Mo.h H) (Nat.le_of_ble_eq_true rfl) (by first | decide | omega) (by omega) (by omega) ?_
      first | (with_reducible refine j_gB ?_; refine j_if_eqB (tgt := 25) dX9_says_20 (by decide) (fun c_20 => ?_) (fun c_20 => ?_)) | (with_reducible refine j_gC ?_; refine j_if_eqC (tgt := 25) dX9_says_20 (by decide) (fun c_20 => ?_) (fun c_20 => ?_)) | (with_reducible refine j_gN ?_; refine j_if_eqN (tgt := 25) dX9_says_20 (by decide) (by omega) (fun c_20 => ?_) (fun c_20 => ?_)) | refine j_if_eq (tgt := 25) dX9_says_20 (by decide) (fun c_20 => ?_) (fun c_20 => ?_)
      · first | refine j_aload_n dX9_says_25 rfl ?_ | refine j_aload_nN dX9_says_25 rfl ?_
        refine j_getR dX9_says_26 fl_X9_35 rfl (Mo.h H) (Mo.R H _ _ _ rfl) ?_
        refine j_bipush (v := nI 37) dX9_says_29 (by decide +kernel) ?_
        refine j_iload_n dX9_says_31 rfl ?_
        first | (with_reducible refine j_gNN ?_; refine j_iaddN dX9_says_32 ?_) | refine j_iadd dX9_says_32 ?_
        refine j_dup2 dX9_says_33 rfl rfl ?_
        refine j_iald dX9_says_34 (Mo.S H _ _ _ rfl) rfl (by omega) (by decide) (by first | assumption | (rewrite [hC]; first | assumption | rfl) | rfl) ?_
        refine j_iconst (v := nI 1) dX9_says_35 (by decide +kernel) ?_
        refine j_iload_n dX9_says_36 rfl ?_
        refine j_ishl dX9_says_37 ?_
        refine j_ior dX9_says_38 ?_
        refine j_iast dX9_says_39 (Mo.S H _ _ _ rfl) rfl (by omega) (by decide) ?_
        first | refine j_aload_n dX9_says_40 rfl ?_ | refine j_aload_nN dX9_says_40 rfl ?_
        refine j_getR dX9_says_41 fl_X9_35 rfl (Mo.h H) (Mo.R H _ _ _ rfl) ?_
        refine j_bipush (v := nI 43) dX9_says_44 (by decide +kernel) ?_
        refine j_iload_n dX9_says_46 rfl ?_
        first | (with_reducible refine j_gNN ?_; refine j_iaddN dX9_says_47 ?_) | refine j_iadd dX9_says_47 ?_
        refine j_dup2 dX9_says_48 rfl rfl ?_
        refine j_iald dX9_says_49 (Mo.S H _ _ _ rfl) rfl (by omega) (by decide) (by first | assumption | (rewrite [hC]; first | assumption | rfl) | rfl) ?_
        refine j_iconst (v := nI 1) dX9_says_50 (by decide +kernel) ?_
        refine j_iload_n dX9_says_51 rfl ?_
        refine j_ishl dX9_says_52 ?_
        refine j_iconst (v := -1) dX9_says_53 (by decide +kernel) ?_
        refine j_ixor dX9_says_54 ?_
        refine j_iand dX9_says_55 ?_
        refine j_iast dX9_says_56 (Mo.S H _ _ _ rfl) rfl (by omega) (by decide) ?_
        refine j_iconst (v := nI 1) dX9_says_57 (by decide +kernel) ?_
        refine j_iret dX9_says_58 ⟨_, rfl, rfl⟩ (by omega) (by omega) ?_
        have e : mSaysB C p k q = true := by simp [mSaysB, *]
        refine ⟨by rw [e]; rfl, ?_⟩
        rw [mSays, e, if_pos rfl, mSaysC]
        simp only [sI, sU, up_eq, up_up, hC, up_ne (show 43 + p ≠ 37 + q by omega)]
        rfl
      · refine j_iconst (v := nI 0) dX9_says_23 (by decide +kernel) ?_
        refine j_iret dX9_says_24 ⟨_, rfl, rfl⟩ (by omega) (by omega) ?_
        have e : mSaysB C p k q = false := by simp [mSaysB, *]
        exact ⟨by rw [e]; rfl, (f0 e).symm⟩
def mDinesK (C : Nat → Int32) (W p q : Nat) : Option Nat := if C (25 + p) < mHair C W p then mLongest C W p (C (37 + q) ^^^ (-1)) else none
def mDinesB (C : Nat → Int32) (W p q : Nat) : Bool := match mDinesK C W p q with
  | none => false
  | some k => mSaysB C p k q
def mDines (C : Nat → Int32) (W p q : Nat) : Nat → Int32 := match mDinesK C W p q with
  | none => C
  | some k => mSays C p k q
theorem mDines_fr {C : Nat → Int32} {W p q : Nat} (hp : p < 6) (hq : q < 6) : Fr C (mDines C W p q) := by
  unfold mDines
  split
  · exact Fr.rf
  · exact mSays_fr hp hq
theorem m_dines (H : Mo σ h ad) (hC : σ.2.1 (ad 20) = C) {W p q : Nat} (hW : C 0 = nI W) (hW8 : W ≤ 8) (hp : p < 6) (hq : q < 6) : Kd g l 3 MX9_dines [.ref h, .int (nI p), .int (nI q)] σ (some (.int (bI (mDinesB C W p q)))) (sU σ (ad 20) (mDines C W p q)) := by
  have f0 : mDinesK C W p q = none → sU σ (ad 20) (mDines C W p q) = σ ∧ mDinesB C W p q = false := fun e => by
    unfold mDines mDinesB
    rw [e, ← hC]
    exact ⟨sU_self, rfl⟩
  refine Kt.go (Y := MX9_dines) (ls := [some (.ref h), some (.int (nI p)), some (.int (nI q)), none]) (by decide) (Nat.le_of_ble_eq_true rfl) rfl ?_
  first | refine j_aload_n dX9_dines_0 rfl ?_ | refine j_aload_nN dX9_dines_0 rfl ?_
  refine j_iload_n dX9_dines_1 rfl ?_
  refine j_dV1 kl_X9_320 (m_hairOf H hC hW hW8 hp) dX9_dines_2 rfl rfl (by decide) (Mo.h H) (Nat.le_of_ble_eq_true rfl) (by first | decide | omega) (by omega) (by omega) ?_
  first | refine j_aload_n dX9_dines_5 rfl ?_ | refine j_aload_nN dX9_dines_5 rfl ?_
  refine j_getR dX9_dines_6 fl_X9_35 rfl (Mo.h H) (Mo.R H _ _ _ rfl) ?_
  refine j_bipush (v := nI 25) dX9_dines_9 (by decide +kernel) ?_
  refine j_iload_n dX9_dines_11 rfl ?_
  first | (with_reducible refine j_gNN ?_; refine j_iaddN dX9_dines_12 ?_) | refine j_iadd dX9_dines_12 ?_
  refine j_iald dX9_dines_13 (Mo.S H _ _ _ rfl) rfl (by omega) (by decide) (by first | assumption | (rewrite [hC]; first | assumption | rfl) | rfl) ?_
  first | (with_reducible refine j_gNN ?_; refine j_icmp_gtN (tgt := 19) dX9_dines_14 (by decide) (by omega) (by omega) (fun c_14 => ?_) (fun c_14 => ?_)) | refine j_icmp_gt (tgt := 19) dX9_dines_14 (by decide) (fun c_14 => ?_) (fun c_14 => ?_)
  · first | refine j_aload_n dX9_dines_19 rfl ?_ | refine j_aload_nN dX9_dines_19 rfl ?_
    refine j_iload_n dX9_dines_20 rfl ?_
    first | refine j_aload_n dX9_dines_21 rfl ?_ | refine j_aload_nN dX9_dines_21 rfl ?_
    refine j_getR dX9_dines_22 fl_X9_35 rfl (Mo.h H) (Mo.R H _ _ _ rfl) ?_
    refine j_bipush (v := nI 37) dX9_dines_25 (by decide +kernel) ?_
    refine j_iload_n dX9_dines_27 rfl ?_
    first | (with_reducible refine j_gNN ?_; refine j_iaddN dX9_dines_28 ?_) | refine j_iadd dX9_dines_28 ?_
    refine j_iald dX9_dines_29 (Mo.S H _ _ _ rfl) rfl (by omega) (by decide) (by first | assumption | (rewrite [hC]; first | assumption | rfl) | rfl) ?_
    refine j_iconst (v := -1) dX9_dines_30 (by decide +kernel) ?_
    refine j_ixor dX9_dines_31 ?_
    refine j_dV1 kl_X9_353 (m_longestOf H hC hW hW8 hp) dX9_dines_32 rfl rfl (by decide) (Mo.h H) (Nat.le_of_ble_eq_true rfl) (by first | decide | omega) (by omega) (by omega) ?_
    refine j_istore_n dX9_dines_35 (by decide) ?_
    have e0 : mDinesK C W p q = mLongest C W p (C (37 + q) ^^^ (-1)) := by rw [mDinesK, if_pos (by first | exact c_14 | exact Int32.not_le.mp c_14)]
    rw [← e0]
    cases e : mDinesK C W p q with
    | none =>
      refine j_iload_n dX9_dines_36 rfl ?_
      first | (with_reducible refine j_gC ?_; refine j_if_ltC (tgt := 54) dX9_dines_37 (by decide) (fun c_37 => ?_) (fun c_37 => ?_)) | refine j_if_lt (tgt := 54) dX9_dines_37 (by decide) (fun c_37 => ?_) (fun c_37 => ?_)
      · refine j_iconst (v := nI 0) dX9_dines_54 (by decide +kernel) ?_
        refine j_iret dX9_dines_55 ⟨_, rfl, rfl⟩ (by omega) (by omega) ?_
        exact ⟨by rw [(f0 e).2]; rfl, (f0 e).1.symm⟩
      · exact absurd (by decide) c_37
    | some k =>
      refine j_eq (ls' := [some (.ref h), some (.int (nI p)), some (.int (nI q)), some (.int (nI k))]) rfl rfl rfl ?_
      have eB : mDinesB C W p q = mSaysB C p k q := by unfold mDinesB; rw [e]
      have eC : mDines C W p q = mSays C p k q := by unfold mDines; rw [e]
      have hk : k < 8 := by have := lgo_lt (C := C) (p := p) (set := C (37 + q) ^^^ (-1)) W k (e0.symm.trans e); omega
      refine j_iload_n dX9_dines_36 rfl ?_
      first | (with_reducible refine j_gC ?_; refine j_if_ltC (tgt := 54) dX9_dines_37 (by decide) (fun c_37 => ?_) (fun c_37 => ?_)) | refine j_if_lt (tgt := 54) dX9_dines_37 (by decide) (fun c_37 => ?_) (fun c_37 => ?_)
      · exact absurd c_37 (nI_pos (by omega))
      · first | refine j_aload_n dX9_dines_40 rfl ?_ | refine j_aload_nN dX9_dines_40 rfl ?_
        refine j_iload_n dX9_dines_41 rfl ?_
        refine j_iload_n dX9_dines_42 rfl ?_
        refine j_iload_n dX9_dines_43 rfl ?_
        refine j_dV1 kl_X9_369 (m_says H hC hp hq) dX9_dines_44 rfl rfl (by decide) (Mo.h H) (Nat.le_of_ble_eq_true rfl) (by first | decide | omega) (by omega) (by omega) ?_
        first | (with_reducible refine j_gB ?_; refine j_if_eqB (tgt := 54) dX9_dines_47 (by decide) (fun c_47 => ?_) (fun c_47 => ?_)) | (with_reducible refine j_gC ?_; refine j_if_eqC (tgt := 54) dX9_dines_47 (by decide) (fun c_47 => ?_) (fun c_47 => ?_)) | (with_reducible refine j_gN ?_; refine j_if_eqN (tgt := 54) dX9_dines_47 (by decide) (by omega) (fun c_47 => ?_) (fun c_47 => ?_)) | refine j_if_eq (tgt := 54) dX9_dines_47 (by decide) (fun c_47 => ?_) (fun c_47 => ?_)
        · refine j_iconst (v := nI 0) dX9_dines_54 (by decide +kernel) ?_
          refine j_iret dX9_dines_55 ⟨_, rfl, rfl⟩ (by omega) (by omega) ?_
          exact ⟨by rw [eB, c_47]; rfl, by rw [eC]⟩
        · refine j_iconst (v := nI 1) dX9_dines_50 (by decide +kernel) ?_
          refine j_goto (tgt := 55) dX9_dines_51 (by decide) ?_
          refine j_iret dX9_dines_55 ⟨_, rfl, rfl⟩ (by omega) (by omega) ?_
          exact ⟨by rw [eB, c_47]; rfl, by rw [eC]⟩
  · refine j_iconst (v := nI 0) dX9_dines_17 (by decide +kernel) ?_
    refine j_iret dX9_dines_18 ⟨_, rfl, rfl⟩ (by omega) (by omega) ?_
    have e := f0 (by rw [mDinesK, if_neg (fun q2 => absurd q2 (Int32.not_lt.mpr (by first | exact c_14 | exact Int32.not_lt.mp c_14)))])
    exact ⟨by rw [e.2]; rfl, e.1.symm⟩
def mGrowAll (C : Nat → Int32) (W : Nat) : Nat → Nat → Int32 := fun j => itr (fun p D => mGrow D W p) j C
theorem mGrowAll_fr {C : Nat → Int32} {W : Nat} (hW : W ≤ 8) : ∀ j, j ≤ 6 → Fr C (mGrowAll C W j) := by
  intro j
  induction j with
  | zero => intro _; exact Fr.rf
  | succ j ih => intro hj; exact (ih (by omega)).tr (mGrow_fr (by omega) W hW)
/-- dinner d of a day -/
def dStep (W d : Nat) (s : Int32 × (Nat → Int32)) : Int32 × (Nat → Int32) :=
  if rm (s.2 6) (s.2 (157 + d)) = 0 then
    let a := ixn (s.2 (145 + d))
    let b := ixn (s.2 (151 + d))
    let D1 := mDines s.2 W a b
    (s.1 + bI (mDinesB s.2 W a b) + bI (mDinesB D1 W b a), mDines D1 W b a)
  else s
def mDayG (C : Nat → Int32) (W P : Nat) : Nat → Int32 := up (mGrowAll C W P) 6 (mGrowAll C W P 6 + nI 1)
def mDayS (C : Nat → Int32) (W P Dn : Nat) : Int32 × (Nat → Int32) := itr (dStep W) Dn (nI 0, mDayG C W P)
def mDayN (C : Nat → Int32) (W P Dn : Nat) : Int32 := (mDayS C W P Dn).1
def mDay (C : Nat → Int32) (W P Dn : Nat) : Nat → Int32 := up (mDayS C W P Dn).2 7 ((mDayS C W P Dn).2 7 + (mDayS C W P Dn).1)
theorem dStep_fr {W P Dn d : Nat} {s : Int32 × (Nat → Int32)} (hw : Wd s.2 W P Dn) (hd : d < Dn) : Fr s.2 (dStep W d s).2 := by
  obtain ⟨a, b, e, q1, q2, q3, q4, -⟩ := hw.2.2.2 d hd
  have hP := hw.2.1.2
  unfold dStep
  split
  · dsimp only
    rw [q1, q3, ixn_nI (by omega), ixn_nI (by omega)]
    exact (mDines_fr (by omega) (by omega)).tr (mDines_fr (by omega) (by omega))
  · exact Fr.rf
theorem mDayS_fr {C : Nat → Int32} {W P Dn : Nat} (hw : Wd C W P Dn) : ∀ j, j ≤ Dn → Fr C (itr (dStep W) j (nI 0, mDayG C W P)).2 := by
  intro j
  induction j with
  | zero => intro _; exact (mGrowAll_fr hw.1.2 P hw.2.1.2).up (by omega)
  | succ j ih => intro hj; exact (ih (by omega)).tr (dStep_fr (hw.fr (ih (by omega))) (by omega))
theorem mDay_fr {C : Nat → Int32} {W P Dn : Nat} (hw : Wd C W P Dn) : Fr C (mDay C W P Dn) := (mDayS_fr hw Dn (Nat.le_refl _)).up (by omega)
theorem m_goesDay (H : Mo σ h ad) (hC : σ.2.1 (ad 20) = C) {W P Dn : Nat} (hw : Wd C W P Dn) : Kd g l 4 MX9_goesDay [.ref h] σ (some (.int (mDayN C W P Dn))) (sU σ (ad 20) (mDay C W P Dn)) := by
  refine Kt.go (Y := MX9_goesDay) (ls := [some (.ref h), none, none]) (by decide) (Nat.le_of_ble_eq_true rfl) rfl ?_
  have key2 : ∀ j, j ≤ Dn → ∀ n D, (n, D) = itr (dStep W) j (nI 0, mDayG C W P) → Td g l 4 MX9_goesDay [.ref h] (sU σ (ad 20) (mDay C W P Dn)) (some (.int (mDayN C W P Dn))) 38 [some (.ref h), some (.int n), some (.int (nI j))] [] (sU σ (ad 20) D) := by
    refine loop_up fun j hj ih => ?_
    intro n D hD
    have hF : Fr C D := by have := mDayS_fr hw j hj; rw [← hD] at this; exact this
    have H0 := H
    have H : Mo (sU σ (ad 20) D) h ad := H0
    have hw2 := hw.fr hF
    have hD2 : D 2 = nI Dn := hw2.2.2.1.1
    have hDn := hw2.2.2.1.2
    have hP6 := hw2.2.1.2
    have hW8 := hw2.1.2
    have hC0 := hC
    have hC : (sU σ (ad 20) D).2.1 (ad 20) = D := sU_e
    by_cases hjD : j < Dn
    · obtain ⟨a, b, e, q1, q2, q3, q4, q5, q6, q7, q8⟩ := hw2.2.2.2 j hjD
      have he : ¬ nI e = 0 := nI_ne0 (by omega) (by omega)
      have hs : itr (dStep W) (j + 1) (nI 0, mDayG C W P) = dStep W j (n, D) := by rw [itr, ← hD]
      have ea : ixn (nI a) = a := ixn_nI (by omega)
      have eb : ixn (nI b) = b := ixn_nI (by omega)
      refine j_iload_n dX9_goesDay_38 rfl ?_
      first | refine j_aload_n dX9_goesDay_39 rfl ?_ | refine j_aload_nN dX9_goesDay_39 rfl ?_
      refine j_getR dX9_goesDay_40 fl_X9_35 rfl (Mo.h H) (Mo.R H _ _ _ rfl) ?_
      refine j_iconst (v := nI 2) dX9_goesDay_43 (by decide +kernel) ?_
      refine j_iald dX9_goesDay_44 (Mo.S H _ _ _ rfl) rfl (by omega) (by decide) (by first | assumption | (rewrite [hC]; first | assumption | rfl) | rfl) ?_
      first | (with_reducible refine j_gNN ?_; refine j_icmp_geN (tgt := 132) dX9_goesDay_45 (by decide) (by omega) (by omega) (fun c_45 => ?_) (fun c_45 => ?_)) | refine j_icmp_ge (tgt := 132) dX9_goesDay_45 (by decide) (fun c_45 => ?_) (fun c_45 => ?_)
      · exact absurd hjD (Nat.not_lt.mpr c_45)
      · first | refine j_aload_n dX9_goesDay_48 rfl ?_ | refine j_aload_nN dX9_goesDay_48 rfl ?_
        refine j_getR dX9_goesDay_49 fl_X9_35 rfl (Mo.h H) (Mo.R H _ _ _ rfl) ?_
        refine j_bipush (v := nI 6) dX9_goesDay_52 (by decide +kernel) ?_
        refine j_iald dX9_goesDay_54 (Mo.S H _ _ _ rfl) rfl (by omega) (by decide) (by first | assumption | (rewrite [hC]; first | assumption | rfl) | rfl) ?_
        first | refine j_aload_n dX9_goesDay_55 rfl ?_ | refine j_aload_nN dX9_goesDay_55 rfl ?_
        refine j_getR dX9_goesDay_56 fl_X9_35 rfl (Mo.h H) (Mo.R H _ _ _ rfl) ?_
        refine j_sipush (v := nI 157) dX9_goesDay_59 (by decide +kernel) ?_
        refine j_iload_n dX9_goesDay_62 rfl ?_
        first | (with_reducible refine j_gNN ?_; refine j_iaddN dX9_goesDay_63 ?_) | refine j_iadd dX9_goesDay_63 ?_
        refine j_iald dX9_goesDay_64 (Mo.S H _ _ _ rfl) rfl (by omega) (by decide) (by first | assumption | (rewrite [hC]; first | assumption | rfl) | rfl) ?_
        refine j_irem dX9_goesDay_65 he ?_
        first | (with_reducible refine j_gB ?_; refine j_if_eqB (tgt := 72) dX9_goesDay_66 (by decide) (fun c_66 => ?_) (fun c_66 => ?_)) | (with_reducible refine j_gC ?_; refine j_if_eqC (tgt := 72) dX9_goesDay_66 (by decide) (fun c_66 => ?_) (fun c_66 => ?_)) | (with_reducible refine j_gN ?_; refine j_if_eqN (tgt := 72) dX9_goesDay_66 (by decide) (by omega) (fun c_66 => ?_) (fun c_66 => ?_)) | refine j_if_eq (tgt := 72) dX9_goesDay_66 (by decide) (fun c_66 => ?_) (fun c_66 => ?_)
        · refine j_iload_n dX9_goesDay_72 rfl ?_
          first | refine j_aload_n dX9_goesDay_73 rfl ?_ | refine j_aload_nN dX9_goesDay_73 rfl ?_
          first | refine j_aload_n dX9_goesDay_74 rfl ?_ | refine j_aload_nN dX9_goesDay_74 rfl ?_
          refine j_getR dX9_goesDay_75 fl_X9_35 rfl (Mo.h H) (Mo.R H _ _ _ rfl) ?_
          refine j_sipush (v := nI 145) dX9_goesDay_78 (by decide +kernel) ?_
          refine j_iload_n dX9_goesDay_81 rfl ?_
          first | (with_reducible refine j_gNN ?_; refine j_iaddN dX9_goesDay_82 ?_) | refine j_iadd dX9_goesDay_82 ?_
          refine j_iald dX9_goesDay_83 (Mo.S H _ _ _ rfl) rfl (by omega) (by decide) (by first | assumption | (rewrite [hC]; first | assumption | rfl) | rfl) ?_
          first | refine j_aload_n dX9_goesDay_84 rfl ?_ | refine j_aload_nN dX9_goesDay_84 rfl ?_
          refine j_getR dX9_goesDay_85 fl_X9_35 rfl (Mo.h H) (Mo.R H _ _ _ rfl) ?_
          refine j_sipush (v := nI 151) dX9_goesDay_88 (by decide +kernel) ?_
          refine j_iload_n dX9_goesDay_91 rfl ?_
          first | (with_reducible refine j_gNN ?_; refine j_iaddN dX9_goesDay_92 ?_) | refine j_iadd dX9_goesDay_92 ?_
          refine j_iald dX9_goesDay_93 (Mo.S H _ _ _ rfl) rfl (by omega) (by decide) (by first | assumption | (rewrite [hC]; first | assumption | rfl) | rfl) ?_
          refine j_dV1 kl_X9_376 (m_dines H hC hw2.1.1 hW8 (by omega) (by omega)) dX9_goesDay_94 rfl rfl (by decide) (Mo.h H) (Nat.le_of_ble_eq_true rfl) (by first | decide | omega) (by omega) (by omega) ?_
          rw [sU_U]
          have H : Mo (sU σ (ad 20) (mDines D W a b)) h ad := H0
          have hC : (sU σ (ad 20) (mDines D W a b)).2.1 (ad 20) = mDines D W a b := sU_e
          have f1 : Fr D (mDines D W a b) := mDines_fr (by omega) (by omega)
          have q1' := (f1 (145 + j) (by omega)).trans q1
          have q3' := (f1 (151 + j) (by omega)).trans q3
          have hw0' := (f1 0 (by omega)).trans hw2.1.1
          first | (with_reducible refine j_gNN ?_; refine j_iaddN dX9_goesDay_97 ?_) | refine j_iadd dX9_goesDay_97 ?_
          refine j_istore_n dX9_goesDay_98 (by decide) ?_
          refine j_iload_n dX9_goesDay_99 rfl ?_
          first | refine j_aload_n dX9_goesDay_100 rfl ?_ | refine j_aload_nN dX9_goesDay_100 rfl ?_
          first | refine j_aload_n dX9_goesDay_101 rfl ?_ | refine j_aload_nN dX9_goesDay_101 rfl ?_
          refine j_getR dX9_goesDay_102 fl_X9_35 rfl (Mo.h H) (Mo.R H _ _ _ rfl) ?_
          refine j_sipush (v := nI 151) dX9_goesDay_105 (by decide +kernel) ?_
          refine j_iload_n dX9_goesDay_108 rfl ?_
          first | (with_reducible refine j_gNN ?_; refine j_iaddN dX9_goesDay_109 ?_) | refine j_iadd dX9_goesDay_109 ?_
          refine j_iald dX9_goesDay_110 (Mo.S H _ _ _ rfl) rfl (by omega) (by decide) (by first | assumption | (rewrite [hC]; first | assumption | rfl) | rfl) ?_
          first | refine j_aload_n dX9_goesDay_111 rfl ?_ | refine j_aload_nN dX9_goesDay_111 rfl ?_
          refine j_getR dX9_goesDay_112 fl_X9_35 rfl (Mo.h H) (Mo.R H _ _ _ rfl) ?_
          refine j_sipush (v := nI 145) dX9_goesDay_115 (by decide +kernel) ?_
          refine j_iload_n dX9_goesDay_118 rfl ?_
          first | (with_reducible refine j_gNN ?_; refine j_iaddN dX9_goesDay_119 ?_) | refine j_iadd dX9_goesDay_119 ?_
          refine j_iald dX9_goesDay_120 (Mo.S H _ _ _ rfl) rfl (by omega) (by decide) (by first | assumption | (rewrite [hC]; first | assumption | rfl) | rfl) ?_
          refine j_dV1 kl_X9_376 (m_dines H hC hw0' hW8 (by omega) (by omega)) dX9_goesDay_121 rfl rfl (by decide) (Mo.h H) (Nat.le_of_ble_eq_true rfl) (by first | decide | omega) (by omega) (by omega) ?_
          rw [sU_U]
          first | (with_reducible refine j_gNN ?_; refine j_iaddN dX9_goesDay_124 ?_) | refine j_iadd dX9_goesDay_124 ?_
          refine j_istore_n dX9_goesDay_125 (by decide) ?_
          first | refine j_iincN dX9_goesDay_126 rfl (by decide) ?_ | refine j_iinc dX9_goesDay_126 rfl rfl (by decide) ?_
          refine j_goto (tgt := 38) dX9_goesDay_129 (by decide) ?_
          first
          | exact ih hjD _ _ (by rw [hs, dStep, if_neg (by dsimp only; rw [q6]; exact c_66)])
          | exact ih hjD _ _ (by rw [hs, dStep, if_pos (by dsimp only; rw [q6]; exact c_66)]; dsimp only; rw [q1, q3, ea, eb])
        · refine j_goto (tgt := 126) dX9_goesDay_69 (by decide) ?_
          first | refine j_iincN dX9_goesDay_126 rfl (by decide) ?_ | refine j_iinc dX9_goesDay_126 rfl rfl (by decide) ?_
          refine j_goto (tgt := 38) dX9_goesDay_129 (by decide) ?_
          first
          | exact ih hjD _ _ (by rw [hs, dStep, if_neg (by dsimp only; rw [q6]; exact c_66)])
          | exact ih hjD _ _ (by rw [hs, dStep, if_pos (by dsimp only; rw [q6]; exact c_66)]; dsimp only; rw [q1, q3, ea, eb])
    · have hje : j = Dn := by omega
      subst hje
      refine j_iload_n dX9_goesDay_38 rfl ?_
      first | refine j_aload_n dX9_goesDay_39 rfl ?_ | refine j_aload_nN dX9_goesDay_39 rfl ?_
      refine j_getR dX9_goesDay_40 fl_X9_35 rfl (Mo.h H) (Mo.R H _ _ _ rfl) ?_
      refine j_iconst (v := nI 2) dX9_goesDay_43 (by decide +kernel) ?_
      refine j_iald dX9_goesDay_44 (Mo.S H _ _ _ rfl) rfl (by omega) (by decide) (by first | assumption | (rewrite [hC]; first | assumption | rfl) | rfl) ?_
      first | (with_reducible refine j_gNN ?_; refine j_icmp_geN (tgt := 132) dX9_goesDay_45 (by decide) (by omega) (by omega) (fun c_45 => ?_) (fun c_45 => ?_)) | refine j_icmp_ge (tgt := 132) dX9_goesDay_45 (by decide) (fun c_45 => ?_) (fun c_45 => ?_)
      · first | refine j_aload_n dX9_goesDay_132 rfl ?_ | refine j_aload_nN dX9_goesDay_132 rfl ?_
        refine j_getR dX9_goesDay_133 fl_X9_35 rfl (Mo.h H) (Mo.R H _ _ _ rfl) ?_
        refine j_bipush (v := nI 7) dX9_goesDay_136 (by decide +kernel) ?_
        refine j_dup2 dX9_goesDay_138 rfl rfl ?_
        refine j_iald dX9_goesDay_139 (Mo.S H _ _ _ rfl) rfl (by omega) (by decide) (by first | assumption | (rewrite [hC]; first | assumption | rfl) | rfl) ?_
        refine j_iload_n dX9_goesDay_140 rfl ?_
        first | (with_reducible refine j_gNN ?_; refine j_iaddN dX9_goesDay_141 ?_) | refine j_iadd dX9_goesDay_141 ?_
        refine j_iast dX9_goesDay_142 (Mo.S H _ _ _ rfl) rfl (by omega) (by decide) ?_
        refine j_iload_n dX9_goesDay_143 rfl ?_
        refine j_iret dX9_goesDay_144 ⟨_, rfl, rfl⟩ (by omega) (by omega) ?_
        refine ⟨?_, ?_⟩
        · rw [mDayN, mDayS, ← hD]
        · rw [mDay, mDayS, ← hD, sI_U, sU_U, sU_e]
      · exact absurd c_45 hjD
  have key1 : ∀ j, j ≤ P → ∀ D, D = mGrowAll C W j → Td g l 4 MX9_goesDay [.ref h] (sU σ (ad 20) (mDay C W P Dn)) (some (.int (mDayN C W P Dn))) 2 [some (.ref h), some (.int (nI j)), none] [] (sU σ (ad 20) D) := by
    refine loop_up fun j hj ih => ?_
    intro D hD
    have hP6 := hw.2.1.2
    have hF : Fr C D := by rw [hD]; exact mGrowAll_fr hw.1.2 j (by omega)
    have H0 := H
    have H : Mo (sU σ (ad 20) D) h ad := H0
    have hw2 := hw.fr hF
    have hD1 : D 1 = nI P := hw2.2.1.1
    have hW8 := hw2.1.2
    have hC0 := hC
    have hC : (sU σ (ad 20) D).2.1 (ad 20) = D := sU_e
    refine j_iload_n dX9_goesDay_2 rfl ?_
    first | refine j_aload_n dX9_goesDay_3 rfl ?_ | refine j_aload_nN dX9_goesDay_3 rfl ?_
    refine j_getR dX9_goesDay_4 fl_X9_35 rfl (Mo.h H) (Mo.R H _ _ _ rfl) ?_
    refine j_iconst (v := nI 1) dX9_goesDay_7 (by decide +kernel) ?_
    refine j_iald dX9_goesDay_8 (Mo.S H _ _ _ rfl) rfl (by omega) (by decide) (by first | assumption | (rewrite [hC]; first | assumption | rfl) | rfl) ?_
    first | (with_reducible refine j_gNN ?_; refine j_icmp_geN (tgt := 23) dX9_goesDay_9 (by decide) (by omega) (by omega) (fun c_9 => ?_) (fun c_9 => ?_)) | refine j_icmp_ge (tgt := 23) dX9_goesDay_9 (by decide) (fun c_9 => ?_) (fun c_9 => ?_)
    · first | refine j_aload_n dX9_goesDay_23 rfl ?_ | refine j_aload_nN dX9_goesDay_23 rfl ?_
      refine j_getR dX9_goesDay_24 fl_X9_35 rfl (Mo.h H) (Mo.R H _ _ _ rfl) ?_
      refine j_bipush (v := nI 6) dX9_goesDay_27 (by decide +kernel) ?_
      refine j_dup2 dX9_goesDay_29 rfl rfl ?_
      refine j_iald dX9_goesDay_30 (Mo.S H _ _ _ rfl) rfl (by omega) (by decide) (by first | assumption | (rewrite [hC]; first | assumption | rfl) | rfl) ?_
      refine j_iconst (v := nI 1) dX9_goesDay_31 (by decide +kernel) ?_
      first | (with_reducible refine j_gNN ?_; refine j_iaddN dX9_goesDay_32 ?_) | refine j_iadd dX9_goesDay_32 ?_
      refine j_iast dX9_goesDay_33 (Mo.S H _ _ _ rfl) rfl (by omega) (by decide) ?_
      refine j_iconst (v := nI 0) dX9_goesDay_34 (by decide +kernel) ?_
      refine j_istore_n dX9_goesDay_35 (by decide) ?_
      refine j_iconst (v := nI 0) dX9_goesDay_36 (by decide +kernel) ?_
      refine j_istore_n dX9_goesDay_37 (by decide) ?_
      have e : j = P := by omega
      subst e
      refine j_eq rfl rfl (show _ = sU σ (ad 20) (mDayG C W j) from ?_) (key2 0 (by omega) _ _ rfl)
      rw [sI_U, sU_U, sU_e, mDayG, ← hD]
    · first | refine j_aload_n dX9_goesDay_12 rfl ?_ | refine j_aload_nN dX9_goesDay_12 rfl ?_
      refine j_iload_n dX9_goesDay_13 rfl ?_
      refine j_dV0 kl_X9_373 (m_grows H hC hw2.1.1 hW8 (by omega)) dX9_goesDay_14 rfl rfl (by decide) (Mo.h H) (Nat.le_of_ble_eq_true rfl) (by first | decide | omega) (by omega) (by omega) ?_
      rw [sU_U]
      first | refine j_iincN dX9_goesDay_17 rfl (by decide) ?_ | refine j_iinc dX9_goesDay_17 rfl rfl (by decide) ?_
      refine j_goto (tgt := 2) dX9_goesDay_20 (by decide) ?_
      exact ih (by omega) _ (by rw [hD]; rfl)
  refine j_iconst (v := nI 0) dX9_goesDay_0 (by decide +kernel) ?_
  refine j_istore_n dX9_goesDay_1 (by decide) ?_
  exact j_eq rfl rfl (by rw [← hC]; exact sU_self.symm) (key1 0 (by omega) _ rfl)
def mKeepB (C : Nat → Int32) (p k : Nat) : Bool := hs (C (37 + p)) k && !hs (C (43 + p)) k
def mKeep (C : Nat → Int32) (p k : Nat) : Nat → Int32 := if mKeepB C p k then mStrand C p k else C
theorem m_keepsNow (H : Mo σ h ad) (hC : σ.2.1 (ad 20) = C) {p k : Nat} (hp : p < 6) (hk : k < 8) : Kd g l 2 MX9_keepsNow [.ref h, .int (nI p), .int (nI k)] σ (some (.int (bI (mKeepB C p k)))) (sU σ (ad 20) (mKeep C p k)) := by
  have f0 : mKeepB C p k = false → sU σ (ad 20) (mKeep C p k) = σ := fun e => by rw [mKeep, e, ← hC]; exact sU_self
  refine Kt.go (Y := MX9_keepsNow) (ls := [some (.ref h), some (.int (nI p)), some (.int (nI k))]) (by decide) (Nat.le_of_ble_eq_true rfl) rfl ?_
  first | refine j_aload_n dX9_keepsNow_0 rfl ?_ | refine j_aload_nN dX9_keepsNow_0 rfl ?_
  refine j_iload_n dX9_keepsNow_1 rfl ?_
  refine j_iload_n dX9_keepsNow_2 rfl ?_
  refine j_dV1 kl_X9_366 (m_knows H hC hp) dX9_keepsNow_3 rfl rfl (by decide) (Mo.h H) (Nat.le_of_ble_eq_true rfl) (by first | decide | omega) (by omega) (by omega) ?_
  first | (with_reducible refine j_gB ?_; refine j_if_eqB (tgt := 18) dX9_keepsNow_6 (by decide) (fun c_6 => ?_) (fun c_6 => ?_)) | (with_reducible refine j_gC ?_; refine j_if_eqC (tgt := 18) dX9_keepsNow_6 (by decide) (fun c_6 => ?_) (fun c_6 => ?_)) | (with_reducible refine j_gN ?_; refine j_if_eqN (tgt := 18) dX9_keepsNow_6 (by decide) (by omega) (fun c_6 => ?_) (fun c_6 => ?_)) | refine j_if_eq (tgt := 18) dX9_keepsNow_6 (by decide) (fun c_6 => ?_) (fun c_6 => ?_)
  · refine j_iconst (v := nI 0) dX9_keepsNow_18 (by decide +kernel) ?_
    refine j_iret dX9_keepsNow_19 ⟨_, rfl, rfl⟩ (by omega) (by omega) ?_
    have e : mKeepB C p k = false := by simp [mKeepB, *]
    exact ⟨by rw [e]; rfl, (f0 e).symm⟩
  · first | refine j_aload_n dX9_keepsNow_9 rfl ?_ | refine j_aload_nN dX9_keepsNow_9 rfl ?_
    refine j_iload_n dX9_keepsNow_10 rfl ?_
    refine j_iload_n dX9_keepsNow_11 rfl ?_
    refine j_dV1 kl_X9_317 (m_keeps H hC hp) dX9_keepsNow_12 rfl rfl (by decide) (Mo.h H) (Nat.le_of_ble_eq_true rfl) (by first | decide | omega) (by omega) (by omega) ?_
    first | (with_reducible refine j_gB ?_; refine j_if_eqB (tgt := 20) dX9_keepsNow_15 (by decide) (fun c_15 => ?_) (fun c_15 => ?_)) | (with_reducible refine j_gC ?_; refine j_if_eqC (tgt := 20) dX9_keepsNow_15 (by decide) (fun c_15 => ?_) (fun c_15 => ?_)) | (with_reducible refine j_gN ?_; refine j_if_eqN (tgt := 20) dX9_keepsNow_15 (by decide) (by omega) (fun c_15 => ?_) (fun c_15 => ?_)) | refine j_if_eq (tgt := 20) dX9_keepsNow_15 (by decide) (fun c_15 => ?_) (fun c_15 => ?_)
    · first | refine j_aload_n dX9_keepsNow_20 rfl ?_ | refine j_aload_nN dX9_keepsNow_20 rfl ?_
      refine j_iload_n dX9_keepsNow_21 rfl ?_
      refine j_iload_n dX9_keepsNow_22 rfl ?_
      refine j_dV0 kl_X9_384 (m_strandIs H hC hp hk) dX9_keepsNow_23 rfl rfl (by decide) (Mo.h H) (Nat.le_of_ble_eq_true rfl) (by first | decide | omega) (by omega) (by omega) ?_
      refine j_iconst (v := nI 1) dX9_keepsNow_26 (by decide +kernel) ?_
      refine j_iret dX9_keepsNow_27 ⟨_, rfl, rfl⟩ (by omega) (by omega) ?_
      have e : mKeepB C p k = true := by simp [mKeepB, *]
      exact ⟨by rw [e]; rfl, by rw [mKeep, e]; rfl⟩
    · refine j_iconst (v := nI 0) dX9_keepsNow_18 (by decide +kernel) ?_
      refine j_iret dX9_keepsNow_19 ⟨_, rfl, rfl⟩ (by omega) (by omega) ?_
      have e : mKeepB C p k = false := by simp [mKeepB, *]
      exact ⟨by rw [e]; rfl, (f0 e).symm⟩
end M3
