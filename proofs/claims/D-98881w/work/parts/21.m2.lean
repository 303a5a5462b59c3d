/-! THE MODEL: sums and sets over people and words; strands; a day -/
set_option maxRecDepth 100000
/-- in the body of a method that is a function (see Kd) -/
abbrev Td (g : Gx) (l : Launch) (d : Nat) (Y : Mi) (av : List Value) (σ : Sg) (v : Option Value) (pc : Nat) (ls : List (Option Value)) (st : List Value) (τ : Sg) : Prop := Tj g l d Y av 0 0 (fun r τ' => r = v ∧ τ' = σ) (fun _ _ _ => False) 0 0 pc ls st τ
/-- a step n times -/
def itr {α : Type} (f : Nat → α → α) : Nat → α → α
  | 0, a => a
  | n + 1, a => f n (itr f n a)
def bt (k : Nat) : Int32 := nI 1 <<< (nI k &&& 31)
def btI (x : Int32) : Int32 := nI 1 <<< (x &&& 31)
def oI : Option Nat → Int32
  | none => -1
  | some k => nI k
/-- two rows that differ in days, counts, sets and strands alone -/
def Fr (C D : Nat → Int32) : Prop := ∀ i, (i < 6 ∨ (9 ≤ i ∧ i < 37) ∨ 145 ≤ i) → D i = C i
theorem Fr.rf {C : Nat → Int32} : Fr C C := fun _ _ => rfl
theorem Fr.tr {C D E : Nat → Int32} (h1 : Fr C D) (h2 : Fr D E) : Fr C E := fun i hi => (h2 i hi).trans (h1 i hi)
theorem Fr.up {C D : Nat → Int32} (h : Fr C D) {i : Nat} {v : Int32} (hi : (37 ≤ i ∧ i < 145) ∨ (6 ≤ i ∧ i < 9)) : Fr C (up D i v) := fun j hj => by
  rw [up_ne (by omega)]
  exact h j hj
section M2
variable {g : Gx} {l : Launch} {σ : Sg} {h : Nat} {ad : Nat → Nat}
def mAllHair (C : Nat → Int32) (W P : Nat) : Int32 := sumTo (fun p => mHair C W p) P
theorem k_mallHair (H : Mo σ h ad) {W P : Nat} (hW : (σ.2.1 (ad 20)) 0 = nI W) (hW8 : W ≤ 8) (hP : (σ.2.1 (ad 20)) 1 = nI P) (hP6 : P ≤ 6) : Kd g l 3 MX9_allHair [.ref h] σ (some (.int (mAllHair (σ.2.1 (ad 20)) W P))) σ := by
  refine Kt.go (Y := MX9_allHair) (ls := [some (.ref h), none, none]) (by decide) (Nat.le_of_ble_eq_true rfl) rfl ?_
  have key : ∀ j, j ≤ P → ∀ a, a = sumTo (fun p => mHair (σ.2.1 (ad 20)) W p) j → Td g l 3 MX9_allHair [.ref h] σ (some (.int (mAllHair (σ.2.1 (ad 20)) W P))) 4 [some (.ref h), some (.int a), some (.int (nI j))] [] σ := by
    refine loop_up fun j hj ih => ?_
    intro a ha
    refine j_iload_n dX9_allHair_4 rfl ?_
    first | refine j_aload_n dX9_allHair_5 rfl ?_ | refine j_aload_nN dX9_allHair_5 rfl ?_
    refine j_getR dX9_allHair_6 fl_X9_35 rfl (Mo.h H) (Mo.R H _ _ _ rfl) ?_
    refine j_iconst (v := nI 1) dX9_allHair_9 (by decide +kernel) ?_
    refine j_iald dX9_allHair_10 (Mo.S H _ _ _ rfl) rfl (by omega) (by decide) (by first | assumption | (simp only [sU_e]; first | assumption | rfl) | rfl) ?_
    first | (with_reducible refine j_gNN ?_; refine j_icmp_geN (tgt := 28) dX9_allHair_11 (by decide) (by omega) (by omega) (fun c_11 => ?_) (fun c_11 => ?_)) | refine j_icmp_ge (tgt := 28) dX9_allHair_11 (by decide) (fun c_11 => ?_) (fun c_11 => ?_)
    · refine j_iload_n dX9_allHair_28 rfl ?_
      refine j_iret dX9_allHair_29 ⟨_, rfl, rfl⟩ (by omega) (by omega) ?_
      exact ⟨by rw [ha, show j = P by omega]; rfl, rfl⟩
    · refine j_iload_n dX9_allHair_14 rfl ?_
      first | refine j_aload_n dX9_allHair_15 rfl ?_ | refine j_aload_nN dX9_allHair_15 rfl ?_
      refine j_iload_n dX9_allHair_16 rfl ?_
      refine j_dV1 kl_X9_320 (k_mhairOf H hW hW8 (by omega)) dX9_allHair_17 rfl rfl (by decide) (Mo.h H) (Nat.le_of_ble_eq_true rfl) (by first | decide | omega) (by omega) (by omega) ?_
      first | (with_reducible refine j_gNN ?_; refine j_iaddN dX9_allHair_20 ?_) | refine j_iadd dX9_allHair_20 ?_
      refine j_istore_n dX9_allHair_21 (by decide) ?_
      first | refine j_iincN dX9_allHair_22 rfl (by decide) ?_ | refine j_iinc dX9_allHair_22 rfl rfl (by decide) ?_
      refine j_goto (tgt := 4) dX9_allHair_25 (by decide) ?_
      exact ih (by omega) _ (by rw [ha]; rfl)
  refine j_iconst (v := nI 0) dX9_allHair_0 (by decide +kernel) ?_
  refine j_istore_n dX9_allHair_1 (by decide) ?_
  refine j_iconst (v := nI 0) dX9_allHair_2 (by decide +kernel) ?_
  refine j_istore_n dX9_allHair_3 (by decide) ?_
  exact key 0 (by omega) _ rfl
def barF (C : Nat → Int32) (p : Nat) : Int32 := if C (31 + p) = nI 1 then bt p else nI 0
def mBarbers (C : Nat → Int32) (P : Nat) : Int32 := orTo (barF C) P
theorem k_mbarbers (H : Mo σ h ad) {P : Nat} (hP : (σ.2.1 (ad 20)) 1 = nI P) (hP6 : P ≤ 6) : Kd g l 0 MX9_barbers [.ref h] σ (some (.int (mBarbers (σ.2.1 (ad 20)) P))) σ := by
  refine Kt.go (Y := MX9_barbers) (ls := [some (.ref h), none, none]) (by decide) (Nat.le_of_ble_eq_true rfl) rfl ?_
  have key : ∀ j, j ≤ P → ∀ a, a = orTo (barF (σ.2.1 (ad 20))) j → Td g l 0 MX9_barbers [.ref h] σ (some (.int (mBarbers (σ.2.1 (ad 20)) P))) 4 [some (.ref h), some (.int a), some (.int (nI j))] [] σ := by
    refine loop_up fun j hj ih => ?_
    intro a ha
    refine j_iload_n dX9_barbers_4 rfl ?_
    first | refine j_aload_n dX9_barbers_5 rfl ?_ | refine j_aload_nN dX9_barbers_5 rfl ?_
    refine j_getR dX9_barbers_6 fl_X9_35 rfl (Mo.h H) (Mo.R H _ _ _ rfl) ?_
    refine j_iconst (v := nI 1) dX9_barbers_9 (by decide +kernel) ?_
    refine j_iald dX9_barbers_10 (Mo.S H _ _ _ rfl) rfl (by omega) (by decide) (by first | assumption | (simp only [sU_e]; first | assumption | rfl) | rfl) ?_
    first | (with_reducible refine j_gNN ?_; refine j_icmp_geN (tgt := 43) dX9_barbers_11 (by decide) (by omega) (by omega) (fun c_11 => ?_) (fun c_11 => ?_)) | refine j_icmp_ge (tgt := 43) dX9_barbers_11 (by decide) (fun c_11 => ?_) (fun c_11 => ?_)
    · refine j_iload_n dX9_barbers_43 rfl ?_
      refine j_iret dX9_barbers_44 ⟨_, rfl, rfl⟩ (by omega) (by omega) ?_
      exact ⟨by rw [ha, show j = P by omega]; rfl, rfl⟩
    · refine j_iload_n dX9_barbers_14 rfl ?_
      first | refine j_aload_n dX9_barbers_15 rfl ?_ | refine j_aload_nN dX9_barbers_15 rfl ?_
      refine j_getR dX9_barbers_16 fl_X9_35 rfl (Mo.h H) (Mo.R H _ _ _ rfl) ?_
      refine j_bipush (v := nI 31) dX9_barbers_19 (by decide +kernel) ?_
      refine j_iload_n dX9_barbers_21 rfl ?_
      first | (with_reducible refine j_gNN ?_; refine j_iaddN dX9_barbers_22 ?_) | refine j_iadd dX9_barbers_22 ?_
      refine j_iald dX9_barbers_23 (Mo.S H _ _ _ rfl) rfl (by omega) (by decide) (by first | assumption | (simp only [sU_e]; first | assumption | rfl) | rfl) ?_
      refine j_iconst (v := nI 1) dX9_barbers_24 (by decide +kernel) ?_
      first | (with_reducible refine j_gNN ?_; refine j_icmp_neN (tgt := 34) dX9_barbers_25 (by decide) (by omega) (by omega) (fun c_25 => ?_) (fun c_25 => ?_)) | refine j_icmp_ne (tgt := 34) dX9_barbers_25 (by decide) (fun c_25 => ?_) (fun c_25 => ?_)
      · refine j_iconst (v := nI 0) dX9_barbers_34 (by decide +kernel) ?_
        refine j_ior dX9_barbers_35 ?_
        refine j_istore_n dX9_barbers_36 (by decide) ?_
        first | refine j_iincN dX9_barbers_37 rfl (by decide) ?_ | refine j_iinc dX9_barbers_37 rfl rfl (by decide) ?_
        refine j_goto (tgt := 4) dX9_barbers_40 (by decide) ?_
        exact ih (by omega) _ (by rw [ha, orTo, barF]; first | (rw [if_pos c_25]; rfl) | (rw [if_neg c_25]))
      · refine j_iconst (v := nI 1) dX9_barbers_28 (by decide +kernel) ?_
        refine j_iload_n dX9_barbers_29 rfl ?_
        refine j_ishl dX9_barbers_30 ?_
        refine j_goto (tgt := 35) dX9_barbers_31 (by decide) ?_
        refine j_ior dX9_barbers_35 ?_
        refine j_istore_n dX9_barbers_36 (by decide) ?_
        first | refine j_iincN dX9_barbers_37 rfl (by decide) ?_ | refine j_iinc dX9_barbers_37 rfl rfl (by decide) ?_
        refine j_goto (tgt := 4) dX9_barbers_40 (by decide) ?_
        exact ih (by omega) _ (by rw [ha, orTo, barF]; first | (rw [if_pos c_25]; rfl) | (rw [if_neg c_25]))
  refine j_iconst (v := nI 0) dX9_barbers_0 (by decide +kernel) ?_
  refine j_istore_n dX9_barbers_1 (by decide) ?_
  refine j_iconst (v := nI 0) dX9_barbers_2 (by decide +kernel) ?_
  refine j_istore_n dX9_barbers_3 (by decide) ?_
  exact key 0 (by omega) _ rfl
def pwF (C : Nat → Int32) (r k p : Nat) : Int32 := if hs (C (r + p)) k then bt p else nI 0
def mPeopleWith (C : Nat → Int32) (P r k : Nat) : Int32 := orTo (pwF C r k) P
theorem k_mpeopleWith (H : Mo σ h ad) {P r k : Nat} (hP : (σ.2.1 (ad 20)) 1 = nI P) (hP6 : P ≤ 6) (hr : r ≤ 1000) : Kd g l 1 MX9_peopleWith [.ref h, .int (nI r), .int (nI k)] σ (some (.int (mPeopleWith (σ.2.1 (ad 20)) P r k))) σ := by
  refine Kt.go (Y := MX9_peopleWith) (ls := [some (.ref h), some (.int (nI r)), some (.int (nI k)), none, none]) (by decide) (Nat.le_of_ble_eq_true rfl) rfl ?_
  have key : ∀ j, j ≤ P → ∀ a, a = orTo (pwF (σ.2.1 (ad 20)) r k) j → Td g l 1 MX9_peopleWith [.ref h, .int (nI r), .int (nI k)] σ (some (.int (mPeopleWith (σ.2.1 (ad 20)) P r k))) 5 [some (.ref h), some (.int (nI r)), some (.int (nI k)), some (.int a), some (.int (nI j))] [] σ := by
    refine loop_up fun j hj ih => ?_
    intro a ha
    refine j_iload dX9_peopleWith_5 rfl ?_
    first | refine j_aload_n dX9_peopleWith_7 rfl ?_ | refine j_aload_nN dX9_peopleWith_7 rfl ?_
    refine j_getR dX9_peopleWith_8 fl_X9_35 rfl (Mo.h H) (Mo.R H _ _ _ rfl) ?_
    refine j_iconst (v := nI 1) dX9_peopleWith_11 (by decide +kernel) ?_
    refine j_iald dX9_peopleWith_12 (Mo.S H _ _ _ rfl) rfl (by omega) (by decide) (by first | assumption | (simp only [sU_e]; first | assumption | rfl) | rfl) ?_
    first | (with_reducible refine j_gNN ?_; refine j_icmp_geN (tgt := 49) dX9_peopleWith_13 (by decide) (by omega) (by omega) (fun c_13 => ?_) (fun c_13 => ?_)) | refine j_icmp_ge (tgt := 49) dX9_peopleWith_13 (by decide) (fun c_13 => ?_) (fun c_13 => ?_)
    · refine j_iload_n dX9_peopleWith_49 rfl ?_
      refine j_iret dX9_peopleWith_50 ⟨_, rfl, rfl⟩ (by omega) (by omega) ?_
      exact ⟨by rw [ha, show j = P by omega]; rfl, rfl⟩
    · refine j_iload_n dX9_peopleWith_16 rfl ?_
      first | refine j_aload_n dX9_peopleWith_17 rfl ?_ | refine j_aload_nN dX9_peopleWith_17 rfl ?_
      refine j_getR dX9_peopleWith_18 fl_X9_35 rfl (Mo.h H) (Mo.R H _ _ _ rfl) ?_
      refine j_iload_n dX9_peopleWith_21 rfl ?_
      refine j_iload dX9_peopleWith_22 rfl ?_
      first | (with_reducible refine j_gNN ?_; refine j_iaddN dX9_peopleWith_24 ?_) | refine j_iadd dX9_peopleWith_24 ?_
      refine j_iald dX9_peopleWith_25 (Mo.S H _ _ _ rfl) rfl (by omega) (by decide) (by first | assumption | (simp only [sU_e]; first | assumption | rfl) | rfl) ?_
      refine j_iload_n dX9_peopleWith_26 rfl ?_
      refine j_dS1 kl_X9_106 (k_has _ _ _ _ k) dX9_peopleWith_27 rfl rfl (Nat.le_of_ble_eq_true rfl) (by first | decide | omega) (by omega) (by omega) ?_
      first | (with_reducible refine j_gB ?_; refine j_if_eqB (tgt := 40) dX9_peopleWith_30 (by decide) (fun c_30 => ?_) (fun c_30 => ?_)) | (with_reducible refine j_gC ?_; refine j_if_eqC (tgt := 40) dX9_peopleWith_30 (by decide) (fun c_30 => ?_) (fun c_30 => ?_)) | (with_reducible refine j_gN ?_; refine j_if_eqN (tgt := 40) dX9_peopleWith_30 (by decide) (by omega) (fun c_30 => ?_) (fun c_30 => ?_)) | refine j_if_eq (tgt := 40) dX9_peopleWith_30 (by decide) (fun c_30 => ?_) (fun c_30 => ?_)
      · refine j_iconst (v := nI 0) dX9_peopleWith_40 (by decide +kernel) ?_
        refine j_ior dX9_peopleWith_41 ?_
        refine j_istore_n dX9_peopleWith_42 (by decide) ?_
        first | refine j_iincN dX9_peopleWith_43 rfl (by decide) ?_ | refine j_iinc dX9_peopleWith_43 rfl rfl (by decide) ?_
        refine j_goto (tgt := 5) dX9_peopleWith_46 (by decide) ?_
        exact ih (by omega) _ (by rw [ha, orTo, pwF, c_30]; rfl)
      · refine j_iconst (v := nI 1) dX9_peopleWith_33 (by decide +kernel) ?_
        refine j_iload dX9_peopleWith_34 rfl ?_
        refine j_ishl dX9_peopleWith_36 ?_
        refine j_goto (tgt := 41) dX9_peopleWith_37 (by decide) ?_
        refine j_ior dX9_peopleWith_41 ?_
        refine j_istore_n dX9_peopleWith_42 (by decide) ?_
        first | refine j_iincN dX9_peopleWith_43 rfl (by decide) ?_ | refine j_iinc dX9_peopleWith_43 rfl rfl (by decide) ?_
        refine j_goto (tgt := 5) dX9_peopleWith_46 (by decide) ?_
        exact ih (by omega) _ (by rw [ha, orTo, pwF, c_30]; rfl)
  refine j_iconst (v := nI 0) dX9_peopleWith_0 (by decide +kernel) ?_
  refine j_istore_n dX9_peopleWith_1 (by decide) ?_
  refine j_iconst (v := nI 0) dX9_peopleWith_2 (by decide +kernel) ?_
  refine j_istore dX9_peopleWith_3 (by decide) ?_
  exact key 0 (by omega) _ rfl
def hvF (C : Nat → Int32) (k : Int32) (i : Nat) : Int32 := if C (163 + i) = k then btI (C (169 + i)) else if C (169 + i) = k then btI (C (163 + i)) else nI 0
def mHalvesOf (C : Nat → Int32) (Hn : Nat) (k : Int32) : Int32 := orTo (hvF C k) Hn
theorem k_mhalvesOf (H : Mo σ h ad) {Hn : Nat} {k : Int32} (hH : (σ.2.1 (ad 20)) 3 = nI Hn) (hH6 : Hn ≤ 6) : Kd g l 0 MX9_halvesOf [.ref h, .int k] σ (some (.int (mHalvesOf (σ.2.1 (ad 20)) Hn k))) σ := by
  refine Kt.go (Y := MX9_halvesOf) (ls := [some (.ref h), some (.int k), none, none]) (by decide) (Nat.le_of_ble_eq_true rfl) rfl ?_
  have key : ∀ j, j ≤ Hn → ∀ a, a = orTo (hvF (σ.2.1 (ad 20)) k) j → Td g l 0 MX9_halvesOf [.ref h, .int k] σ (some (.int (mHalvesOf (σ.2.1 (ad 20)) Hn k))) 4 [some (.ref h), some (.int k), some (.int a), some (.int (nI j))] [] σ := by
    refine loop_up fun j hj ih => ?_
    intro a ha
    refine j_iload_n dX9_halvesOf_4 rfl ?_
    first | refine j_aload_n dX9_halvesOf_5 rfl ?_ | refine j_aload_nN dX9_halvesOf_5 rfl ?_
    refine j_getR dX9_halvesOf_6 fl_X9_35 rfl (Mo.h H) (Mo.R H _ _ _ rfl) ?_
    refine j_iconst (v := nI 3) dX9_halvesOf_9 (by decide +kernel) ?_
    refine j_iald dX9_halvesOf_10 (Mo.S H _ _ _ rfl) rfl (by omega) (by decide) (by first | assumption | (simp only [sU_e]; first | assumption | rfl) | rfl) ?_
    first | (with_reducible refine j_gNN ?_; refine j_icmp_geN (tgt := 82) dX9_halvesOf_11 (by decide) (by omega) (by omega) (fun c_11 => ?_) (fun c_11 => ?_)) | refine j_icmp_ge (tgt := 82) dX9_halvesOf_11 (by decide) (fun c_11 => ?_) (fun c_11 => ?_)
    · refine j_iload_n dX9_halvesOf_82 rfl ?_
      refine j_iret dX9_halvesOf_83 ⟨_, rfl, rfl⟩ (by omega) (by omega) ?_
      exact ⟨by rw [ha, show j = Hn by omega]; rfl, rfl⟩
    · refine j_iload_n dX9_halvesOf_14 rfl ?_
      first | refine j_aload_n dX9_halvesOf_15 rfl ?_ | refine j_aload_nN dX9_halvesOf_15 rfl ?_
      refine j_getR dX9_halvesOf_16 fl_X9_35 rfl (Mo.h H) (Mo.R H _ _ _ rfl) ?_
      refine j_sipush (v := nI 163) dX9_halvesOf_19 (by decide +kernel) ?_
      refine j_iload_n dX9_halvesOf_22 rfl ?_
      first | (with_reducible refine j_gNN ?_; refine j_iaddN dX9_halvesOf_23 ?_) | refine j_iadd dX9_halvesOf_23 ?_
      refine j_iald dX9_halvesOf_24 (Mo.S H _ _ _ rfl) rfl (by omega) (by decide) (by first | assumption | (simp only [sU_e]; first | assumption | rfl) | rfl) ?_
      refine j_iload_n dX9_halvesOf_25 rfl ?_
      first | (with_reducible refine j_gNN ?_; refine j_icmp_neN (tgt := 44) dX9_halvesOf_26 (by decide) (by omega) (by omega) (fun c_26 => ?_) (fun c_26 => ?_)) | refine j_icmp_ne (tgt := 44) dX9_halvesOf_26 (by decide) (fun c_26 => ?_) (fun c_26 => ?_)
      · first | refine j_aload_n dX9_halvesOf_44 rfl ?_ | refine j_aload_nN dX9_halvesOf_44 rfl ?_
        refine j_getR dX9_halvesOf_45 fl_X9_35 rfl (Mo.h H) (Mo.R H _ _ _ rfl) ?_
        refine j_sipush (v := nI 169) dX9_halvesOf_48 (by decide +kernel) ?_
        refine j_iload_n dX9_halvesOf_51 rfl ?_
        first | (with_reducible refine j_gNN ?_; refine j_iaddN dX9_halvesOf_52 ?_) | refine j_iadd dX9_halvesOf_52 ?_
        refine j_iald dX9_halvesOf_53 (Mo.S H _ _ _ rfl) rfl (by omega) (by decide) (by first | assumption | (simp only [sU_e]; first | assumption | rfl) | rfl) ?_
        refine j_iload_n dX9_halvesOf_54 rfl ?_
        first | (with_reducible refine j_gNN ?_; refine j_icmp_neN (tgt := 73) dX9_halvesOf_55 (by decide) (by omega) (by omega) (fun c_55 => ?_) (fun c_55 => ?_)) | refine j_icmp_ne (tgt := 73) dX9_halvesOf_55 (by decide) (fun c_55 => ?_) (fun c_55 => ?_)
        · refine j_iconst (v := nI 0) dX9_halvesOf_73 (by decide +kernel) ?_
          refine j_ior dX9_halvesOf_74 ?_
          refine j_istore_n dX9_halvesOf_75 (by decide) ?_
          first | refine j_iincN dX9_halvesOf_76 rfl (by decide) ?_ | refine j_iinc dX9_halvesOf_76 rfl rfl (by decide) ?_
          refine j_goto (tgt := 4) dX9_halvesOf_79 (by decide) ?_
          exact ih (by omega) _ (by rw [ha, orTo, hvF]; first | (rw [if_pos c_26]; rfl) | (rw [if_neg c_26, if_pos c_55]; rfl) | (rw [if_neg c_26, if_neg c_55]))
        · refine j_iconst (v := nI 1) dX9_halvesOf_58 (by decide +kernel) ?_
          first | refine j_aload_n dX9_halvesOf_59 rfl ?_ | refine j_aload_nN dX9_halvesOf_59 rfl ?_
          refine j_getR dX9_halvesOf_60 fl_X9_35 rfl (Mo.h H) (Mo.R H _ _ _ rfl) ?_
          refine j_sipush (v := nI 163) dX9_halvesOf_63 (by decide +kernel) ?_
          refine j_iload_n dX9_halvesOf_66 rfl ?_
          first | (with_reducible refine j_gNN ?_; refine j_iaddN dX9_halvesOf_67 ?_) | refine j_iadd dX9_halvesOf_67 ?_
          refine j_iald dX9_halvesOf_68 (Mo.S H _ _ _ rfl) rfl (by omega) (by decide) (by first | assumption | (simp only [sU_e]; first | assumption | rfl) | rfl) ?_
          refine j_ishl dX9_halvesOf_69 ?_
          refine j_goto (tgt := 74) dX9_halvesOf_70 (by decide) ?_
          refine j_ior dX9_halvesOf_74 ?_
          refine j_istore_n dX9_halvesOf_75 (by decide) ?_
          first | refine j_iincN dX9_halvesOf_76 rfl (by decide) ?_ | refine j_iinc dX9_halvesOf_76 rfl rfl (by decide) ?_
          refine j_goto (tgt := 4) dX9_halvesOf_79 (by decide) ?_
          exact ih (by omega) _ (by rw [ha, orTo, hvF]; first | (rw [if_pos c_26]; rfl) | (rw [if_neg c_26, if_pos c_55]; rfl) | (rw [if_neg c_26, if_neg c_55]))
      · refine j_iconst (v := nI 1) dX9_halvesOf_29 (by decide +kernel) ?_
        first | refine j_aload_n dX9_halvesOf_30 rfl ?_ | refine j_aload_nN dX9_halvesOf_30 rfl ?_
        refine j_getR dX9_halvesOf_31 fl_X9_35 rfl (Mo.h H) (Mo.R H _ _ _ rfl) ?_
        refine j_sipush (v := nI 169) dX9_halvesOf_34 (by decide +kernel) ?_
        refine j_iload_n dX9_halvesOf_37 rfl ?_
        first | (with_reducible refine j_gNN ?_; refine j_iaddN dX9_halvesOf_38 ?_) | refine j_iadd dX9_halvesOf_38 ?_
        refine j_iald dX9_halvesOf_39 (Mo.S H _ _ _ rfl) rfl (by omega) (by decide) (by first | assumption | (simp only [sU_e]; first | assumption | rfl) | rfl) ?_
        refine j_ishl dX9_halvesOf_40 ?_
        refine j_goto (tgt := 74) dX9_halvesOf_41 (by decide) ?_
        refine j_ior dX9_halvesOf_74 ?_
        refine j_istore_n dX9_halvesOf_75 (by decide) ?_
        first | refine j_iincN dX9_halvesOf_76 rfl (by decide) ?_ | refine j_iinc dX9_halvesOf_76 rfl rfl (by decide) ?_
        refine j_goto (tgt := 4) dX9_halvesOf_79 (by decide) ?_
        exact ih (by omega) _ (by rw [ha, orTo, hvF]; first | (rw [if_pos c_26]; rfl) | (rw [if_neg c_26, if_pos c_55]; rfl) | (rw [if_neg c_26, if_neg c_55]))
  refine j_iconst (v := nI 0) dX9_halvesOf_0 (by decide +kernel) ?_
  refine j_istore_n dX9_halvesOf_1 (by decide) ?_
  refine j_iconst (v := nI 0) dX9_halvesOf_2 (by decide +kernel) ?_
  refine j_istore_n dX9_halvesOf_3 (by decide) ?_
  exact key 0 (by omega) _ rfl
/-- of some words that p keeps that with the longest strand, among the first j -/
def lgo (C : Nat → Int32) (p : Nat) (set : Int32) : Nat → Option Nat
  | 0 => none
  | j + 1 => if hs (C (43 + p)) j = true ∧ hs set j = true ∧ (∀ i, lgo C p set j = some i → C (49 + 8 * p + i) < C (49 + 8 * p + j)) then some j else lgo C p set j
theorem lgo_lt {C : Nat → Int32} {p : Nat} {set : Int32} : ∀ j i, lgo C p set j = some i → i < j := by
  intro j
  induction j with
  | zero => intro i hi; cases hi
  | succ j ih =>
    intro i hi
    rw [lgo] at hi
    split at hi
    · cases hi; omega
    · have := ih i hi; omega
def mLongest (C : Nat → Int32) (W p : Nat) (set : Int32) : Option Nat := lgo C p set W
theorem k_mlongestOf (H : Mo σ h ad) {W p : Nat} {set : Int32} (hW : (σ.2.1 (ad 20)) 0 = nI W) (hW8 : W ≤ 8) (hp : p < 6) : Kd g l 2 MX9_longestOf [.ref h, .int (nI p), .int set] σ (some (.int (oI (mLongest (σ.2.1 (ad 20)) W p set)))) σ := by
  refine Kt.go (Y := MX9_longestOf) (ls := [some (.ref h), some (.int (nI p)), some (.int set), none, none]) (by decide) (Nat.le_of_ble_eq_true rfl) rfl ?_
  have key : ∀ j, j ≤ W → ∀ a b, b = lgo (σ.2.1 (ad 20)) p set j → a = oI b → Td g l 2 MX9_longestOf [.ref h, .int (nI p), .int set] σ (some (.int (oI (mLongest (σ.2.1 (ad 20)) W p set)))) 5 [some (.ref h), some (.int (nI p)), some (.int set), some (.int a), some (.int (nI j))] [] σ := by
    refine loop_up fun j hj ih => ?_
    intro a b hb ha
    refine j_iload dX9_longestOf_5 rfl ?_
    first | refine j_aload_n dX9_longestOf_7 rfl ?_ | refine j_aload_nN dX9_longestOf_7 rfl ?_
    refine j_getR dX9_longestOf_8 fl_X9_35 rfl (Mo.h H) (Mo.R H _ _ _ rfl) ?_
    refine j_iconst (v := nI 0) dX9_longestOf_11 (by decide +kernel) ?_
    refine j_iald dX9_longestOf_12 (Mo.S H _ _ _ rfl) rfl (by omega) (by decide) (by first | assumption | (simp only [sU_e]; first | assumption | rfl) | rfl) ?_
    first | (with_reducible refine j_gNN ?_; refine j_icmp_geN (tgt := 80) dX9_longestOf_13 (by decide) (by omega) (by omega) (fun c_13 => ?_) (fun c_13 => ?_)) | refine j_icmp_ge (tgt := 80) dX9_longestOf_13 (by decide) (fun c_13 => ?_) (fun c_13 => ?_)
    · refine j_iload_n dX9_longestOf_80 rfl ?_
      refine j_iret dX9_longestOf_81 ⟨_, rfl, rfl⟩ (by omega) (by omega) ?_
      exact ⟨by rw [ha, hb, show j = W by omega]; rfl, rfl⟩
    · first | refine j_aload_n dX9_longestOf_16 rfl ?_ | refine j_aload_nN dX9_longestOf_16 rfl ?_
      refine j_iload_n dX9_longestOf_17 rfl ?_
      refine j_iload dX9_longestOf_18 rfl ?_
      refine j_dV1 kl_X9_317 (k_mkeeps H hp) dX9_longestOf_20 rfl rfl (by decide) (Mo.h H) (Nat.le_of_ble_eq_true rfl) (by first | decide | omega) (by omega) (by omega) ?_
      first | (with_reducible refine j_gB ?_; refine j_if_eqB (tgt := 74) dX9_longestOf_23 (by decide) (fun c_23 => ?_) (fun c_23 => ?_)) | (with_reducible refine j_gC ?_; refine j_if_eqC (tgt := 74) dX9_longestOf_23 (by decide) (fun c_23 => ?_) (fun c_23 => ?_)) | (with_reducible refine j_gN ?_; refine j_if_eqN (tgt := 74) dX9_longestOf_23 (by decide) (by omega) (fun c_23 => ?_) (fun c_23 => ?_)) | refine j_if_eq (tgt := 74) dX9_longestOf_23 (by decide) (fun c_23 => ?_) (fun c_23 => ?_)
      · first | refine j_iincN dX9_longestOf_74 rfl (by decide) ?_ | refine j_iinc dX9_longestOf_74 rfl rfl (by decide) ?_
        refine j_goto (tgt := 5) dX9_longestOf_77 (by decide) ?_
        exact ih (by omega) _ _ (by rw [lgo, if_neg (by simp [c_23, *])]; exact hb) ha
      · refine j_iload_n dX9_longestOf_26 rfl ?_
        refine j_iload dX9_longestOf_27 rfl ?_
        refine j_dS1 kl_X9_106 (k_has _ _ _ _ j) dX9_longestOf_29 rfl rfl (Nat.le_of_ble_eq_true rfl) (by first | decide | omega) (by omega) (by omega) ?_
        first | (with_reducible refine j_gB ?_; refine j_if_eqB (tgt := 74) dX9_longestOf_32 (by decide) (fun c_32 => ?_) (fun c_32 => ?_)) | (with_reducible refine j_gC ?_; refine j_if_eqC (tgt := 74) dX9_longestOf_32 (by decide) (fun c_32 => ?_) (fun c_32 => ?_)) | (with_reducible refine j_gN ?_; refine j_if_eqN (tgt := 74) dX9_longestOf_32 (by decide) (by omega) (fun c_32 => ?_) (fun c_32 => ?_)) | refine j_if_eq (tgt := 74) dX9_longestOf_32 (by decide) (fun c_32 => ?_) (fun c_32 => ?_)
        · first | refine j_iincN dX9_longestOf_74 rfl (by decide) ?_ | refine j_iinc dX9_longestOf_74 rfl rfl (by decide) ?_
          refine j_goto (tgt := 5) dX9_longestOf_77 (by decide) ?_
          exact ih (by omega) _ _ (by rw [lgo, if_neg (by simp [c_23, *])]; exact hb) ha
        · rcases b with _ | i
          · refine j_iload_n dX9_longestOf_35 rfl ?_
            first | (with_reducible refine j_gC ?_; refine j_if_ltC (tgt := 71) dX9_longestOf_36 (by decide) (fun c_36 => ?_) (fun c_36 => ?_)) | refine j_if_lt (tgt := 71) dX9_longestOf_36 (by decide) (fun c_36 => ?_) (fun c_36 => ?_)
            · refine j_iload dX9_longestOf_71 rfl ?_
              refine j_istore_n dX9_longestOf_73 (by decide) ?_
              first | refine j_iincN dX9_longestOf_74 rfl (by decide) ?_ | refine j_iinc dX9_longestOf_74 rfl rfl (by decide) ?_
              refine j_goto (tgt := 5) dX9_longestOf_77 (by decide) ?_
              exact ih (by omega) _ (some j) (by rw [lgo, if_pos ⟨c_23, c_32, fun i hi => by rw [← hb] at hi; cases hi⟩]) rfl
            · exact absurd (by rw [ha]; decide) c_36
          · have hi : i < j := lgo_lt j i hb.symm
            have ha : a = nI i := ha
            subst ha
            refine j_iload_n dX9_longestOf_35 rfl ?_
            first | (with_reducible refine j_gC ?_; refine j_if_ltC (tgt := 71) dX9_longestOf_36 (by decide) (fun c_36 => ?_) (fun c_36 => ?_)) | refine j_if_lt (tgt := 71) dX9_longestOf_36 (by decide) (fun c_36 => ?_) (fun c_36 => ?_)
            · exact absurd c_36 (nI_pos (by omega))
            · first | refine j_aload_n dX9_longestOf_39 rfl ?_ | refine j_aload_nN dX9_longestOf_39 rfl ?_
              refine j_getR dX9_longestOf_40 fl_X9_35 rfl (Mo.h H) (Mo.R H _ _ _ rfl) ?_
              refine j_bipush (v := nI 49) dX9_longestOf_43 (by decide +kernel) ?_
              refine j_bipush (v := nI 8) dX9_longestOf_45 (by decide +kernel) ?_
              refine j_iload_n dX9_longestOf_47 rfl ?_
              first | (with_reducible refine j_gNN ?_; refine j_imulN dX9_longestOf_48 ?_) | refine j_imul dX9_longestOf_48 ?_
              first | (with_reducible refine j_gNN ?_; refine j_iaddN dX9_longestOf_49 ?_) | refine j_iadd dX9_longestOf_49 ?_
              refine j_iload dX9_longestOf_50 rfl ?_
              first | (with_reducible refine j_gNN ?_; refine j_iaddN dX9_longestOf_52 ?_) | refine j_iadd dX9_longestOf_52 ?_
              refine j_iald dX9_longestOf_53 (Mo.S H _ _ _ rfl) rfl (by omega) (by decide) (by first | assumption | (simp only [sU_e]; first | assumption | rfl) | rfl) ?_
              first | refine j_aload_n dX9_longestOf_54 rfl ?_ | refine j_aload_nN dX9_longestOf_54 rfl ?_
              refine j_getR dX9_longestOf_55 fl_X9_35 rfl (Mo.h H) (Mo.R H _ _ _ rfl) ?_
              refine j_bipush (v := nI 49) dX9_longestOf_58 (by decide +kernel) ?_
              refine j_bipush (v := nI 8) dX9_longestOf_60 (by decide +kernel) ?_
              refine j_iload_n dX9_longestOf_62 rfl ?_
              first | (with_reducible refine j_gNN ?_; refine j_imulN dX9_longestOf_63 ?_) | refine j_imul dX9_longestOf_63 ?_
              first | (with_reducible refine j_gNN ?_; refine j_iaddN dX9_longestOf_64 ?_) | refine j_iadd dX9_longestOf_64 ?_
              refine j_iload_n dX9_longestOf_65 rfl ?_
              first | (with_reducible refine j_gNN ?_; refine j_iaddN dX9_longestOf_66 ?_) | refine j_iadd dX9_longestOf_66 ?_
              refine j_iald dX9_longestOf_67 (Mo.S H _ _ _ rfl) rfl (by omega) (by decide) (by first | assumption | (simp only [sU_e]; first | assumption | rfl) | rfl) ?_
              first | (with_reducible refine j_gNN ?_; refine j_icmp_leN (tgt := 74) dX9_longestOf_68 (by decide) (by omega) (by omega) (fun c_68 => ?_) (fun c_68 => ?_)) | refine j_icmp_le (tgt := 74) dX9_longestOf_68 (by decide) (fun c_68 => ?_) (fun c_68 => ?_)
              · first | refine j_iincN dX9_longestOf_74 rfl (by decide) ?_ | refine j_iinc dX9_longestOf_74 rfl rfl (by decide) ?_
                refine j_goto (tgt := 5) dX9_longestOf_77 (by decide) ?_
                exact ih (by omega) _ (some i) (by rw [lgo, if_neg (fun q => absurd (q.2.2 i hb.symm) (Int32.not_lt.mpr c_68))]; exact hb) rfl
              · refine j_iload dX9_longestOf_71 rfl ?_
                refine j_istore_n dX9_longestOf_73 (by decide) ?_
                first | refine j_iincN dX9_longestOf_74 rfl (by decide) ?_ | refine j_iinc dX9_longestOf_74 rfl rfl (by decide) ?_
                refine j_goto (tgt := 5) dX9_longestOf_77 (by decide) ?_
                exact ih (by omega) _ (some j) (by rw [lgo, if_pos ⟨c_23, c_32, fun i2 hi2 => by rw [← hb] at hi2; cases hi2; exact Int32.not_le.mp c_68⟩]) rfl
  refine j_iconst (v := -1) dX9_longestOf_0 (by decide +kernel) ?_
  refine j_istore_n dX9_longestOf_1 (by decide) ?_
  refine j_iconst (v := nI 0) dX9_longestOf_2 (by decide +kernel) ?_
  refine j_istore dX9_longestOf_3 (by decide) ?_
  exact key 0 (by omega) _ none rfl rfl
def mStrand (C : Nat → Int32) (p k : Nat) : Nat → Int32 := up (up (up C (43 + p) (C (43 + p) ||| bt k)) (49 + 8 * p + k) (nI 0)) (97 + 8 * p + k) (nI 0)
theorem mStrand_fr {C : Nat → Int32} {p k : Nat} (hp : p < 6) (hk : k < 8) : Fr C (mStrand C p k) := ((Fr.rf.up (by omega)).up (by omega)).up (by omega)
theorem k_mstrandIs (H : Mo σ h ad) {p k : Nat} (hp : p < 6) (hk : k < 8) : Kd g l 0 MX9_strandIs [.ref h, .int (nI p), .int (nI k)] σ none (sU σ (ad 20) (mStrand (σ.2.1 (ad 20)) p k)) := by
  refine Kt.go (Y := MX9_strandIs) (ls := [some (.ref h), some (.int (nI p)), some (.int (nI k))]) (by decide) (Nat.le_of_ble_eq_true rfl) rfl ?_
  first | refine j_aload_n dX9_strandIs_0 rfl ?_ | refine j_aload_nN dX9_strandIs_0 rfl ?_
  refine j_getR dX9_strandIs_1 fl_X9_35 rfl (Mo.h H) (Mo.R H _ _ _ rfl) ?_
  refine j_bipush (v := nI 43) dX9_strandIs_4 (by decide +kernel) ?_
  refine j_iload_n dX9_strandIs_6 rfl ?_
  first | (with_reducible refine j_gNN ?_; refine j_iaddN dX9_strandIs_7 ?_) | refine j_iadd dX9_strandIs_7 ?_
  refine j_dup2 dX9_strandIs_8 rfl rfl ?_
  refine j_iald dX9_strandIs_9 (Mo.S H _ _ _ rfl) rfl (by omega) (by decide) (by first | assumption | (simp only [sU_e]; first | assumption | rfl) | rfl) ?_
  refine j_iconst (v := nI 1) dX9_strandIs_10 (by decide +kernel) ?_
  refine j_iload_n dX9_strandIs_11 rfl ?_
  refine j_ishl dX9_strandIs_12 ?_
  refine j_ior dX9_strandIs_13 ?_
  refine j_iast dX9_strandIs_14 (Mo.S H _ _ _ rfl) rfl (by omega) (by decide) ?_
  first | refine j_aload_n dX9_strandIs_15 rfl ?_ | refine j_aload_nN dX9_strandIs_15 rfl ?_
  refine j_getR dX9_strandIs_16 fl_X9_35 rfl (Mo.h H) (Mo.R H _ _ _ rfl) ?_
  refine j_bipush (v := nI 49) dX9_strandIs_19 (by decide +kernel) ?_
  refine j_bipush (v := nI 8) dX9_strandIs_21 (by decide +kernel) ?_
  refine j_iload_n dX9_strandIs_23 rfl ?_
  first | (with_reducible refine j_gNN ?_; refine j_imulN dX9_strandIs_24 ?_) | refine j_imul dX9_strandIs_24 ?_
  first | (with_reducible refine j_gNN ?_; refine j_iaddN dX9_strandIs_25 ?_) | refine j_iadd dX9_strandIs_25 ?_
  refine j_iload_n dX9_strandIs_26 rfl ?_
  first | (with_reducible refine j_gNN ?_; refine j_iaddN dX9_strandIs_27 ?_) | refine j_iadd dX9_strandIs_27 ?_
  refine j_iconst (v := nI 0) dX9_strandIs_28 (by decide +kernel) ?_
  refine j_iast dX9_strandIs_29 (Mo.S H _ _ _ rfl) rfl (by omega) (by decide) ?_
  first | refine j_aload_n dX9_strandIs_30 rfl ?_ | refine j_aload_nN dX9_strandIs_30 rfl ?_
  refine j_getR dX9_strandIs_31 fl_X9_35 rfl (Mo.h H) (Mo.R H _ _ _ rfl) ?_
  refine j_bipush (v := nI 97) dX9_strandIs_34 (by decide +kernel) ?_
  refine j_bipush (v := nI 8) dX9_strandIs_36 (by decide +kernel) ?_
  refine j_iload_n dX9_strandIs_38 rfl ?_
  first | (with_reducible refine j_gNN ?_; refine j_imulN dX9_strandIs_39 ?_) | refine j_imul dX9_strandIs_39 ?_
  first | (with_reducible refine j_gNN ?_; refine j_iaddN dX9_strandIs_40 ?_) | refine j_iadd dX9_strandIs_40 ?_
  refine j_iload_n dX9_strandIs_41 rfl ?_
  first | (with_reducible refine j_gNN ?_; refine j_iaddN dX9_strandIs_42 ?_) | refine j_iadd dX9_strandIs_42 ?_
  refine j_iconst (v := nI 0) dX9_strandIs_43 (by decide +kernel) ?_
  refine j_iast dX9_strandIs_44 (Mo.S H _ _ _ rfl) rfl (by omega) (by decide) ?_
  refine j_vret dX9_strandIs_45 rfl (by omega) (by omega) ?_
  exact ⟨rfl, by simp only [sI, sU, up_eq, up_up]; rfl⟩
/-- a day for strand k of p -/
def grStep (p k : Nat) (D : Nat → Int32) : Nat → Int32 := if hs (D (43 + p)) k then
    (if D (97 + (8 * p + k)) < D (17 + k) then up (up D (49 + (8 * p + k)) (D (49 + (8 * p + k)) + D (9 + k))) (97 + (8 * p + k)) (mn (nI 999) (D (97 + (8 * p + k)) + nI 1)) else up D (97 + (8 * p + k)) (mn (nI 999) (D (97 + (8 * p + k)) + nI 1)))
  else D
def mGrow (C : Nat → Int32) (W p : Nat) : Nat → Int32 := itr (grStep p) W C
theorem grStep_fr {p k : Nat} {D : Nat → Int32} (hp : p < 6) (hk : k < 8) : Fr D (grStep p k D) := by
  unfold grStep
  split
  · split
    · exact (Fr.rf.up (by omega)).up (by omega)
    · exact Fr.rf.up (by omega)
  · exact Fr.rf
theorem mGrow_fr {C : Nat → Int32} {p : Nat} (hp : p < 6) : ∀ j, j ≤ 8 → Fr C (itr (grStep p) j C) := by
  intro j
  induction j with
  | zero => intro _; exact Fr.rf
  | succ j ih => intro hj; exact (ih (by omega)).tr (grStep_fr hp (by omega))
theorem k_mgrows (H : Mo σ h ad) {W p : Nat} (hW : (σ.2.1 (ad 20)) 0 = nI W) (hW8 : W ≤ 8) (hp : p < 6) : Kd g l 2 MX9_grows [.ref h, .int (nI p)] σ none (sU σ (ad 20) (mGrow (σ.2.1 (ad 20)) W p)) := by
  refine Kt.go (Y := MX9_grows) (ls := [some (.ref h), some (.int (nI p)), none, none]) (by decide) (Nat.le_of_ble_eq_true rfl) rfl ?_
  have key : ∀ j, j ≤ W → ∀ a D, D = itr (grStep p) j (σ.2.1 (ad 20)) → Td g l 2 MX9_grows [.ref h, .int (nI p)] (sU σ (ad 20) (mGrow (σ.2.1 (ad 20)) W p)) none 2 [some (.ref h), some (.int (nI p)), some (.int (nI j)), a] [] (sU σ (ad 20) D) := by
    refine loop_up fun j hj ih => ?_
    intro a D hD
    have hF : Fr (σ.2.1 (ad 20)) D := by rw [hD]; exact mGrow_fr hp j (by omega)
    have hD0 : D 0 = nI W := (hF 0 (by omega)).trans hW
    have H0 := H
    have H : Mo (sU σ (ad 20) D) h ad := H0
    have e1 : (sU σ (ad 20) D).2.1 (ad 20) = D := sU_e
    refine j_iload_n dX9_grows_2 rfl ?_
    first | refine j_aload_n dX9_grows_3 rfl ?_ | refine j_aload_nN dX9_grows_3 rfl ?_
    refine j_getR dX9_grows_4 fl_X9_35 rfl (Mo.h H) (Mo.R H _ _ _ rfl) ?_
    refine j_iconst (v := nI 0) dX9_grows_7 (by decide +kernel) ?_
    refine j_iald dX9_grows_8 (Mo.S H _ _ _ rfl) rfl (by omega) (by decide) (by first | assumption | (simp only [sU_e]; first | assumption | rfl) | rfl) ?_
    first | (with_reducible refine j_gNN ?_; refine j_icmp_geN (tgt := 105) dX9_grows_9 (by decide) (by omega) (by omega) (fun c_9 => ?_) (fun c_9 => ?_)) | refine j_icmp_ge (tgt := 105) dX9_grows_9 (by decide) (fun c_9 => ?_) (fun c_9 => ?_)
    · refine j_vret dX9_grows_105 rfl (by omega) (by omega) ?_
      exact ⟨rfl, by rw [hD, show j = W by omega]; rfl⟩
    · first | refine j_aload_n dX9_grows_12 rfl ?_ | refine j_aload_nN dX9_grows_12 rfl ?_
      refine j_iload_n dX9_grows_13 rfl ?_
      refine j_iload_n dX9_grows_14 rfl ?_
      refine j_dV1 kl_X9_317 (k_mkeeps H hp) dX9_grows_15 rfl rfl (by decide) (Mo.h H) (Nat.le_of_ble_eq_true rfl) (by first | decide | omega) (by omega) (by omega) ?_
      rw [e1]
      first | (with_reducible refine j_gB ?_; refine j_if_neB (tgt := 24) dX9_grows_18 (by decide) (fun c_18 => ?_) (fun c_18 => ?_)) | (with_reducible refine j_gC ?_; refine j_if_neC (tgt := 24) dX9_grows_18 (by decide) (fun c_18 => ?_) (fun c_18 => ?_)) | (with_reducible refine j_gN ?_; refine j_if_neN (tgt := 24) dX9_grows_18 (by decide) (by omega) (fun c_18 => ?_) (fun c_18 => ?_)) | refine j_if_ne (tgt := 24) dX9_grows_18 (by decide) (fun c_18 => ?_) (fun c_18 => ?_)
      · refine j_bipush (v := nI 8) dX9_grows_24 (by decide +kernel) ?_
        refine j_iload_n dX9_grows_26 rfl ?_
        first | (with_reducible refine j_gNN ?_; refine j_imulN dX9_grows_27 ?_) | refine j_imul dX9_grows_27 ?_
        refine j_iload_n dX9_grows_28 rfl ?_
        first | (with_reducible refine j_gNN ?_; refine j_iaddN dX9_grows_29 ?_) | refine j_iadd dX9_grows_29 ?_
        refine j_istore_n dX9_grows_30 (by decide) ?_
        first | refine j_aload_n dX9_grows_31 rfl ?_ | refine j_aload_nN dX9_grows_31 rfl ?_
        refine j_getR dX9_grows_32 fl_X9_35 rfl (Mo.h H) (Mo.R H _ _ _ rfl) ?_
        refine j_bipush (v := nI 97) dX9_grows_35 (by decide +kernel) ?_
        refine j_iload_n dX9_grows_37 rfl ?_
        first | (with_reducible refine j_gNN ?_; refine j_iaddN dX9_grows_38 ?_) | refine j_iadd dX9_grows_38 ?_
        refine j_iald dX9_grows_39 (Mo.S H _ _ _ rfl) rfl (by omega) (by decide) (by first | assumption | (simp only [sU_e]; first | assumption | rfl) | rfl) ?_
        first | refine j_aload_n dX9_grows_40 rfl ?_ | refine j_aload_nN dX9_grows_40 rfl ?_
        refine j_getR dX9_grows_41 fl_X9_35 rfl (Mo.h H) (Mo.R H _ _ _ rfl) ?_
        refine j_bipush (v := nI 17) dX9_grows_44 (by decide +kernel) ?_
        refine j_iload_n dX9_grows_46 rfl ?_
        first | (with_reducible refine j_gNN ?_; refine j_iaddN dX9_grows_47 ?_) | refine j_iadd dX9_grows_47 ?_
        refine j_iald dX9_grows_48 (Mo.S H _ _ _ rfl) rfl (by omega) (by decide) (by first | assumption | (simp only [sU_e]; first | assumption | rfl) | rfl) ?_
        first | (with_reducible refine j_gNN ?_; refine j_icmp_geN (tgt := 73) dX9_grows_49 (by decide) (by omega) (by omega) (fun c_49 => ?_) (fun c_49 => ?_)) | refine j_icmp_ge (tgt := 73) dX9_grows_49 (by decide) (fun c_49 => ?_) (fun c_49 => ?_)
        · first | refine j_aload_n dX9_grows_73 rfl ?_ | refine j_aload_nN dX9_grows_73 rfl ?_
          refine j_getR dX9_grows_74 fl_X9_35 rfl (Mo.h H) (Mo.R H _ _ _ rfl) ?_
          refine j_bipush (v := nI 97) dX9_grows_77 (by decide +kernel) ?_
          refine j_iload_n dX9_grows_79 rfl ?_
          first | (with_reducible refine j_gNN ?_; refine j_iaddN dX9_grows_80 ?_) | refine j_iadd dX9_grows_80 ?_
          refine j_sipush (v := nI 999) dX9_grows_81 (by decide +kernel) ?_
          first | refine j_aload_n dX9_grows_84 rfl ?_ | refine j_aload_nN dX9_grows_84 rfl ?_
          refine j_getR dX9_grows_85 fl_X9_35 rfl (Mo.h H) (Mo.R H _ _ _ rfl) ?_
          refine j_bipush (v := nI 97) dX9_grows_88 (by decide +kernel) ?_
          refine j_iload_n dX9_grows_90 rfl ?_
          first | (with_reducible refine j_gNN ?_; refine j_iaddN dX9_grows_91 ?_) | refine j_iadd dX9_grows_91 ?_
          refine j_iald dX9_grows_92 (Mo.S H _ _ _ rfl) rfl (by omega) (by decide) (by first | assumption | (simp only [sU_e]; first | assumption | rfl) | rfl) ?_
          refine j_iconst (v := nI 1) dX9_grows_93 (by decide +kernel) ?_
          first | (with_reducible refine j_gNN ?_; refine j_iaddN dX9_grows_94 ?_) | refine j_iadd dX9_grows_94 ?_
          refine j_min dX9_grows_95 q2104 q783 q194 q784 (Nat.le_of_ble_eq_true rfl) (by omega) (by omega) ?_
          refine j_iast dX9_grows_98 (Mo.S H _ _ _ rfl) rfl (by omega) (by decide) ?_
          first | refine j_iincN dX9_grows_99 rfl (by decide) ?_ | refine j_iinc dX9_grows_99 rfl rfl (by decide) ?_
          refine j_goto (tgt := 2) dX9_grows_102 (by decide) ?_
          first
          | exact ih (by omega) _ _ (by rw [hD, itr, ← hD, grStep, c_18]; rfl)
          | exact j_eq rfl rfl (sU_I.trans (by rw [itr, ← hD, grStep, c_18, if_pos rfl, if_pos (Int32.not_le.mp c_49)])) (ih (by omega) _ _ rfl)
          | exact j_eq rfl rfl (sU_I.trans (by rw [itr, ← hD, grStep, c_18, if_pos rfl, if_neg (Int32.not_lt.mpr c_49)])) (ih (by omega) _ _ rfl)
          | skip
        · first | refine j_aload_n dX9_grows_52 rfl ?_ | refine j_aload_nN dX9_grows_52 rfl ?_
          refine j_getR dX9_grows_53 fl_X9_35 rfl (Mo.h H) (Mo.R H _ _ _ rfl) ?_
          refine j_bipush (v := nI 49) dX9_grows_56 (by decide +kernel) ?_
          refine j_iload_n dX9_grows_58 rfl ?_
          first | (with_reducible refine j_gNN ?_; refine j_iaddN dX9_grows_59 ?_) | refine j_iadd dX9_grows_59 ?_
          refine j_dup2 dX9_grows_60 rfl rfl ?_
          refine j_iald dX9_grows_61 (Mo.S H _ _ _ rfl) rfl (by omega) (by decide) (by first | assumption | (simp only [sU_e]; first | assumption | rfl) | rfl) ?_
          first | refine j_aload_n dX9_grows_62 rfl ?_ | refine j_aload_nN dX9_grows_62 rfl ?_
          refine j_getR dX9_grows_63 fl_X9_35 rfl (Mo.h H) (Mo.R H _ _ _ rfl) ?_
          refine j_bipush (v := nI 9) dX9_grows_66 (by decide +kernel) ?_
          refine j_iload_n dX9_grows_68 rfl ?_
          first | (with_reducible refine j_gNN ?_; refine j_iaddN dX9_grows_69 ?_) | refine j_iadd dX9_grows_69 ?_
          refine j_iald dX9_grows_70 (Mo.S H _ _ _ rfl) rfl (by omega) (by decide) (by first | assumption | (simp only [sU_e]; first | assumption | rfl) | rfl) ?_
          first | (with_reducible refine j_gNN ?_; refine j_iaddN dX9_grows_71 ?_) | refine j_iadd dX9_grows_71 ?_
          refine j_iast dX9_grows_72 (Mo.S H _ _ _ rfl) rfl (by omega) (by decide) ?_
          rw [sU_I]
          have e2 : (sU σ (ad 20) (up D (49 + (8 * p + j)) (D (49 + (8 * p + j)) + D (9 + j)))).2.1 (ad 20) (97 + (8 * p + j)) = D (97 + (8 * p + j)) := by rw [sU_e, up_ne (by omega)]
          first | refine j_aload_n dX9_grows_73 rfl ?_ | refine j_aload_nN dX9_grows_73 rfl ?_
          refine j_getR dX9_grows_74 fl_X9_35 rfl (Mo.h H) (Mo.R H _ _ _ rfl) ?_
          refine j_bipush (v := nI 97) dX9_grows_77 (by decide +kernel) ?_
          refine j_iload_n dX9_grows_79 rfl ?_
          first | (with_reducible refine j_gNN ?_; refine j_iaddN dX9_grows_80 ?_) | refine j_iadd dX9_grows_80 ?_
          refine j_sipush (v := nI 999) dX9_grows_81 (by decide +kernel) ?_
          first | refine j_aload_n dX9_grows_84 rfl ?_ | refine j_aload_nN dX9_grows_84 rfl ?_
          refine j_getR dX9_grows_85 fl_X9_35 rfl (Mo.h H) (Mo.R H _ _ _ rfl) ?_
          refine j_bipush (v := nI 97) dX9_grows_88 (by decide +kernel) ?_
          refine j_iload_n dX9_grows_90 rfl ?_
          first | (with_reducible refine j_gNN ?_; refine j_iaddN dX9_grows_91 ?_) | refine j_iadd dX9_grows_91 ?_
          refine j_iald dX9_grows_92 (Mo.S H _ _ _ rfl) rfl (by omega) (by decide) (by first | assumption | (simp only [sU_e]; first | assumption | rfl) | rfl) ?_
          refine j_iconst (v := nI 1) dX9_grows_93 (by decide +kernel) ?_
          first | (with_reducible refine j_gNN ?_; refine j_iaddN dX9_grows_94 ?_) | refine j_iadd dX9_grows_94 ?_
          refine j_min dX9_grows_95 q2104 q783 q194 q784 (Nat.le_of_ble_eq_true rfl) (by omega) (by omega) ?_
          refine j_iast dX9_grows_98 (Mo.S H _ _ _ rfl) rfl (by omega) (by decide) ?_
          first | refine j_iincN dX9_grows_99 rfl (by decide) ?_ | refine j_iinc dX9_grows_99 rfl rfl (by decide) ?_
          refine j_goto (tgt := 2) dX9_grows_102 (by decide) ?_
          first
          | exact ih (by omega) _ _ (by rw [hD, itr, ← hD, grStep, c_18]; rfl)
          | exact j_eq rfl rfl (sU_I.trans (by rw [itr, ← hD, grStep, c_18, if_pos rfl, if_pos (Int32.not_le.mp c_49)])) (ih (by omega) _ _ rfl)
          | exact j_eq rfl rfl (sU_I.trans (by rw [itr, ← hD, grStep, c_18, if_pos rfl, if_neg (Int32.not_lt.mpr c_49)])) (ih (by omega) _ _ rfl)
          | skip
      · refine j_goto (tgt := 99) dX9_grows_21 (by decide) ?_
        first | refine j_iincN dX9_grows_99 rfl (by decide) ?_ | refine j_iinc dX9_grows_99 rfl rfl (by decide) ?_
        refine j_goto (tgt := 2) dX9_grows_102 (by decide) ?_
        first
        | exact ih (by omega) _ _ (by rw [hD, itr, ← hD, grStep, c_18]; rfl)
        | exact j_eq rfl rfl (sU_I.trans (by rw [itr, ← hD, grStep, c_18, if_pos rfl, if_pos (Int32.not_le.mp c_49)])) (ih (by omega) _ _ rfl)
        | exact j_eq rfl rfl (sU_I.trans (by rw [itr, ← hD, grStep, c_18, if_pos rfl, if_neg (Int32.not_lt.mpr c_49)])) (ih (by omega) _ _ rfl)
        | skip
  refine j_iconst (v := nI 0) dX9_grows_0 (by decide +kernel) ?_
  refine j_istore_n dX9_grows_1 (by decide) ?_
  exact j_eq rfl rfl sU_self.symm (key 0 (by omega) _ _ rfl)
end M2
