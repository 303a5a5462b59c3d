/-! X: A PROVINCE's METHODS -/
set_option maxRecDepth 100000
def xHaveB (C : Nat → Int32) (Hn : Nat) (set : Int32) (k : Nat) : Bool := !(hs set k && !decide (mHalvesOf C Hn (nI k) &&& set = 0))
def xHave (C : Nat → Int32) (W Hn : Nat) (set : Int32) : Bool := !allB (xHaveB C Hn set) W
section X4
variable {g : Gx} {l : Launch} {σ : Sg} {L : Nat → Nat → Option Nat} {A : Nat → Nat} {C : Nat → Int32} {W P Dn Hn k p q : Nat}
theorem x_allWords (hR : Pv σ L A C W P Dn Hn) (hW : C 0 = nI W) (hW8 : W ≤ 8) : Kd g l 0 MX6_allWords [.ref (A 0)] (put σ L C) (some (.int (nI (2 ^ W - 1)))) (put σ L C) := by
  refine Kt.go (Y := MX6_allWords) (ls := [some (.ref (A 0))]) (by decide) (Nat.le_of_ble_eq_true rfl) rfl ?_
  refine j_iconst (v := nI 1) dX6_allWords_0 (by decide +kernel) ?_
  first | refine j_aload_n dX6_allWords_1 rfl ?_ | refine j_aload_nN dX6_allWords_1 rfl ?_
  refine j_getI dX6_allWords_2 fl_X6_56 rfl (by first | exact Pv.sh hR | assumption) (by first | exact pg (Pv.li hR 4 0 rfl (by decide)) | assumption) ?_
  rw [hW]
  refine j_ishl dX6_allWords_5 ?_
  refine j_iconst (v := nI 1) dX6_allWords_6 (by decide +kernel) ?_
  refine j_isub dX6_allWords_7 ?_
  refine j_iret dX6_allWords_8 ⟨_, rfl, rfl⟩ (by omega) (by omega) ?_
  exact ⟨by rw [aw_eq hW8], rfl⟩
theorem x_peopleK (hR : Pv σ L A C W P Dn Hn) (hP : C 1 = nI P) (hP6 : P ≤ 6) : Kd g l 1 MX6_peopleWith [.ref (A 0), .int (nI k), .int (nI 0)] (put σ L C) (some (.int (mPeopleWith C P 37 k))) (put σ L C) := by
  have hL := hR.inj
  refine Kt.go (Y := MX6_peopleWith) (ls := [some (.ref (A 0)), some (.int (nI k)), some (.int (nI 0)), none, none]) (by decide) (Nat.le_of_ble_eq_true rfl) rfl ?_
  have key : ∀ j, j ≤ P → ∀ a, a = orTo (pwF C 37 k) j → Td g l 1 MX6_peopleWith [.ref (A 0), .int (nI k), .int (nI 0)] (put σ L C) (some (.int (mPeopleWith C P 37 k))) 5 [some (.ref (A 0)), some (.int (nI k)), some (.int (nI 0)), some (.int a), some (.int (nI j))] [] (put σ L C) := by
    refine loop_up fun j hj ih => ?_
    intro a ha
    refine j_iload dX6_peopleWith_5 rfl ?_
    first | refine j_aload_n dX6_peopleWith_7 rfl ?_ | refine j_aload_nN dX6_peopleWith_7 rfl ?_
    refine j_getI dX6_peopleWith_8 fl_X6_49 rfl (by first | exact Pv.sh hR | assumption) (by first | exact pg (Pv.li hR 5 1 rfl (by decide)) | assumption) ?_
    rw [hP]
    first | (with_reducible refine j_gNN ?_; refine j_icmp_geN (tgt := 65) dX6_peopleWith_11 (by decide) (by omega) (by omega) (fun c_11 => ?_) (fun c_11 => ?_)) | refine j_icmp_ge (tgt := 65) dX6_peopleWith_11 (by decide) (fun c_11 => ?_) (fun c_11 => ?_)
    · refine j_iload_n dX6_peopleWith_65 rfl ?_
      refine j_iret dX6_peopleWith_66 ⟨_, rfl, rfl⟩ (by omega) (by omega) ?_
      exact ⟨by rw [ha, show j = P by omega]; rfl, rfl⟩
    · have hp := hR.pe (p := j) (by omega)
      have hq := hp
      refine j_iload_n dX6_peopleWith_14 rfl ?_
      refine j_iload_n dX6_peopleWith_15 rfl ?_
      first | (with_reducible refine j_gB ?_; refine j_if_neB (tgt := 32) dX6_peopleWith_16 (by decide) (fun c_16 => ?_) (fun c_16 => ?_)) | (with_reducible refine j_gC ?_; refine j_if_neC (tgt := 32) dX6_peopleWith_16 (by decide) (fun c_16 => ?_) (fun c_16 => ?_)) | (with_reducible refine j_gN ?_; refine j_if_neN (tgt := 32) dX6_peopleWith_16 (by decide) (by omega) (fun c_16 => ?_) (fun c_16 => ?_)) | refine j_if_ne (tgt := 32) dX6_peopleWith_16 (by decide) (fun c_16 => ?_) (fun c_16 => ?_)
      · exact absurd rfl c_16
      · first | refine j_aload_n dX6_peopleWith_19 rfl ?_ | refine j_aload_nN dX6_peopleWith_19 rfl ?_
        refine j_getR dX6_peopleWith_20 fl_X6_19 rfl (by first | exact Pv.sh hR | assumption) (by first | exact Pv.r1 hR | assumption) ?_
        refine j_iload dX6_peopleWith_23 rfl ?_
        refine j_aald (t := 27) dX6_peopleWith_25 (fun _ => rfl) (by decide) (by first | exact Pe.sl hp | exact Pe.sa hp | exact Pe.sl hq | exact Pe.sa hq | exact Pv.sw hR | exact Pv.sp hR | exact Pv.sd hR | assumption) rfl (by omega) (by decide) (by first | exact Pv.rw hR (by omega) | exact Pv.rp hR (by omega) | exact Pv.rd hR (by omega) | assumption) ?_
        refine j_getI dX6_peopleWith_26 fl_X6_86 rfl (by first | exact Pe.sh hp | exact Pe.sh hq | assumption) (by first | exact pg (Pe.l4 hp) | exact pg (Pe.l4 hq) | assumption) ?_
        refine j_goto (tgt := 42) dX6_peopleWith_29 (by decide) ?_
        refine j_iload_n dX6_peopleWith_42 rfl ?_
        refine j_dSN1 kl_X6_92 (k_isIn _ _ _ _ k) dX6_peopleWith_43 rfl rfl (Nat.le_of_ble_eq_true rfl) (by first | decide | omega) (by omega) (by omega) ?_
        first | (with_reducible refine j_gB ?_; refine j_if_eqB (tgt := 56) dX6_peopleWith_46 (by decide) (fun c_46 => ?_) (fun c_46 => ?_)) | (with_reducible refine j_gC ?_; refine j_if_eqC (tgt := 56) dX6_peopleWith_46 (by decide) (fun c_46 => ?_) (fun c_46 => ?_)) | (with_reducible refine j_gN ?_; refine j_if_eqN (tgt := 56) dX6_peopleWith_46 (by decide) (by omega) (fun c_46 => ?_) (fun c_46 => ?_)) | refine j_if_eq (tgt := 56) dX6_peopleWith_46 (by decide) (fun c_46 => ?_) (fun c_46 => ?_)
        · refine j_iconst (v := nI 0) dX6_peopleWith_56 (by decide +kernel) ?_
          refine j_ior dX6_peopleWith_57 ?_
          refine j_istore_n dX6_peopleWith_58 (by decide) ?_
          first | refine j_iincN dX6_peopleWith_59 rfl (by decide) ?_ | refine j_iinc dX6_peopleWith_59 rfl rfl (by decide) ?_
          refine j_goto (tgt := 5) dX6_peopleWith_62 (by decide) ?_
          exact ih (by omega) _ (by rw [ha, orTo, pwF, c_46]; rfl)
        · refine j_iconst (v := nI 1) dX6_peopleWith_49 (by decide +kernel) ?_
          refine j_iload dX6_peopleWith_50 rfl ?_
          refine j_ishl dX6_peopleWith_52 ?_
          refine j_goto (tgt := 57) dX6_peopleWith_53 (by decide) ?_
          refine j_ior dX6_peopleWith_57 ?_
          refine j_istore_n dX6_peopleWith_58 (by decide) ?_
          first | refine j_iincN dX6_peopleWith_59 rfl (by decide) ?_ | refine j_iinc dX6_peopleWith_59 rfl rfl (by decide) ?_
          refine j_goto (tgt := 5) dX6_peopleWith_62 (by decide) ?_
          exact ih (by omega) _ (by rw [ha, orTo, pwF, c_46]; rfl)
  refine j_iconst (v := nI 0) dX6_peopleWith_0 (by decide +kernel) ?_
  refine j_istore_n dX6_peopleWith_1 (by decide) ?_
  refine j_iconst (v := nI 0) dX6_peopleWith_2 (by decide +kernel) ?_
  refine j_istore dX6_peopleWith_3 (by decide) ?_
  exact key 0 (by omega) _ rfl
theorem x_peopleS (hR : Pv σ L A C W P Dn Hn) (hP : C 1 = nI P) (hP6 : P ≤ 6) : Kd g l 1 MX6_peopleWith [.ref (A 0), .int (nI k), .int (nI 1)] (put σ L C) (some (.int (mPeopleWith C P 43 k))) (put σ L C) := by
  have hL := hR.inj
  refine Kt.go (Y := MX6_peopleWith) (ls := [some (.ref (A 0)), some (.int (nI k)), some (.int (nI 1)), none, none]) (by decide) (Nat.le_of_ble_eq_true rfl) rfl ?_
  have key : ∀ j, j ≤ P → ∀ a, a = orTo (pwF C 43 k) j → Td g l 1 MX6_peopleWith [.ref (A 0), .int (nI k), .int (nI 1)] (put σ L C) (some (.int (mPeopleWith C P 43 k))) 5 [some (.ref (A 0)), some (.int (nI k)), some (.int (nI 1)), some (.int a), some (.int (nI j))] [] (put σ L C) := by
    refine loop_up fun j hj ih => ?_
    intro a ha
    refine j_iload dX6_peopleWith_5 rfl ?_
    first | refine j_aload_n dX6_peopleWith_7 rfl ?_ | refine j_aload_nN dX6_peopleWith_7 rfl ?_
    refine j_getI dX6_peopleWith_8 fl_X6_49 rfl (by first | exact Pv.sh hR | assumption) (by first | exact pg (Pv.li hR 5 1 rfl (by decide)) | assumption) ?_
    rw [hP]
    first | (with_reducible refine j_gNN ?_; refine j_icmp_geN (tgt := 65) dX6_peopleWith_11 (by decide) (by omega) (by omega) (fun c_11 => ?_) (fun c_11 => ?_)) | refine j_icmp_ge (tgt := 65) dX6_peopleWith_11 (by decide) (fun c_11 => ?_) (fun c_11 => ?_)
    · refine j_iload_n dX6_peopleWith_65 rfl ?_
      refine j_iret dX6_peopleWith_66 ⟨_, rfl, rfl⟩ (by omega) (by omega) ?_
      exact ⟨by rw [ha, show j = P by omega]; rfl, rfl⟩
    · have hp := hR.pe (p := j) (by omega)
      have hq := hp
      refine j_iload_n dX6_peopleWith_14 rfl ?_
      refine j_iload_n dX6_peopleWith_15 rfl ?_
      first | (with_reducible refine j_gB ?_; refine j_if_neB (tgt := 32) dX6_peopleWith_16 (by decide) (fun c_16 => ?_) (fun c_16 => ?_)) | (with_reducible refine j_gC ?_; refine j_if_neC (tgt := 32) dX6_peopleWith_16 (by decide) (fun c_16 => ?_) (fun c_16 => ?_)) | (with_reducible refine j_gN ?_; refine j_if_neN (tgt := 32) dX6_peopleWith_16 (by decide) (by omega) (fun c_16 => ?_) (fun c_16 => ?_)) | refine j_if_ne (tgt := 32) dX6_peopleWith_16 (by decide) (fun c_16 => ?_) (fun c_16 => ?_)
      · first | refine j_aload_n dX6_peopleWith_32 rfl ?_ | refine j_aload_nN dX6_peopleWith_32 rfl ?_
        refine j_getR dX6_peopleWith_33 fl_X6_19 rfl (by first | exact Pv.sh hR | assumption) (by first | exact Pv.r1 hR | assumption) ?_
        refine j_iload dX6_peopleWith_36 rfl ?_
        refine j_aald (t := 27) dX6_peopleWith_38 (fun _ => rfl) (by decide) (by first | exact Pe.sl hp | exact Pe.sa hp | exact Pe.sl hq | exact Pe.sa hq | exact Pv.sw hR | exact Pv.sp hR | exact Pv.sd hR | assumption) rfl (by omega) (by decide) (by first | exact Pv.rw hR (by omega) | exact Pv.rp hR (by omega) | exact Pv.rd hR (by omega) | assumption) ?_
        refine j_getI dX6_peopleWith_39 fl_X6_89 rfl (by first | exact Pe.sh hp | exact Pe.sh hq | assumption) (by first | exact pg (Pe.l5 hp) | exact pg (Pe.l5 hq) | assumption) ?_
        refine j_iload_n dX6_peopleWith_42 rfl ?_
        refine j_dSN1 kl_X6_92 (k_isIn _ _ _ _ k) dX6_peopleWith_43 rfl rfl (Nat.le_of_ble_eq_true rfl) (by first | decide | omega) (by omega) (by omega) ?_
        first | (with_reducible refine j_gB ?_; refine j_if_eqB (tgt := 56) dX6_peopleWith_46 (by decide) (fun c_46 => ?_) (fun c_46 => ?_)) | (with_reducible refine j_gC ?_; refine j_if_eqC (tgt := 56) dX6_peopleWith_46 (by decide) (fun c_46 => ?_) (fun c_46 => ?_)) | (with_reducible refine j_gN ?_; refine j_if_eqN (tgt := 56) dX6_peopleWith_46 (by decide) (by omega) (fun c_46 => ?_) (fun c_46 => ?_)) | refine j_if_eq (tgt := 56) dX6_peopleWith_46 (by decide) (fun c_46 => ?_) (fun c_46 => ?_)
        · refine j_iconst (v := nI 0) dX6_peopleWith_56 (by decide +kernel) ?_
          refine j_ior dX6_peopleWith_57 ?_
          refine j_istore_n dX6_peopleWith_58 (by decide) ?_
          first | refine j_iincN dX6_peopleWith_59 rfl (by decide) ?_ | refine j_iinc dX6_peopleWith_59 rfl rfl (by decide) ?_
          refine j_goto (tgt := 5) dX6_peopleWith_62 (by decide) ?_
          exact ih (by omega) _ (by rw [ha, orTo, pwF, c_46]; rfl)
        · refine j_iconst (v := nI 1) dX6_peopleWith_49 (by decide +kernel) ?_
          refine j_iload dX6_peopleWith_50 rfl ?_
          refine j_ishl dX6_peopleWith_52 ?_
          refine j_goto (tgt := 57) dX6_peopleWith_53 (by decide) ?_
          refine j_ior dX6_peopleWith_57 ?_
          refine j_istore_n dX6_peopleWith_58 (by decide) ?_
          first | refine j_iincN dX6_peopleWith_59 rfl (by decide) ?_ | refine j_iinc dX6_peopleWith_59 rfl rfl (by decide) ?_
          refine j_goto (tgt := 5) dX6_peopleWith_62 (by decide) ?_
          exact ih (by omega) _ (by rw [ha, orTo, pwF, c_46]; rfl)
      · exact absurd c_16 (by decide)
  refine j_iconst (v := nI 0) dX6_peopleWith_0 (by decide +kernel) ?_
  refine j_istore_n dX6_peopleWith_1 (by decide) ?_
  refine j_iconst (v := nI 0) dX6_peopleWith_2 (by decide +kernel) ?_
  refine j_istore dX6_peopleWith_3 (by decide) ?_
  exact key 0 (by omega) _ rfl
theorem x_allHair (hR : Pv σ L A C W P Dn Hn) (hw : Wx C W P Dn) : Kd g l 2 MX6_allHair [.ref (A 0)] (put σ L C) (some (.int (mAllHair C W P))) (put σ L C) := by
  have hL := hR.inj
  obtain ⟨⟨⟨hW, hW8⟩, ⟨hP, hP6⟩, -⟩, hWv, hPp⟩ := id hw
  refine Kt.go (Y := MX6_allHair) (ls := [some (.ref (A 0)), none, none]) (by decide) (Nat.le_of_ble_eq_true rfl) rfl ?_
  have key : ∀ j, j ≤ P → ∀ a, a = sumTo (fun p => mHair C W p) j → Td g l 2 MX6_allHair [.ref (A 0)] (put σ L C) (some (.int (mAllHair C W P))) 4 [some (.ref (A 0)), some (.int a), some (.int (nI j))] [] (put σ L C) := by
    refine loop_up fun j hj ih => ?_
    intro a ha
    refine j_iload_n dX6_allHair_4 rfl ?_
    first | refine j_aload_n dX6_allHair_5 rfl ?_ | refine j_aload_nN dX6_allHair_5 rfl ?_
    refine j_getI dX6_allHair_6 fl_X6_49 rfl (by first | exact Pv.sh hR | assumption) (by first | exact pg (Pv.li hR 5 1 rfl (by decide)) | assumption) ?_
    rw [hP]
    first | (with_reducible refine j_gNN ?_; refine j_icmp_geN (tgt := 30) dX6_allHair_9 (by decide) (by omega) (by omega) (fun c_9 => ?_) (fun c_9 => ?_)) | refine j_icmp_ge (tgt := 30) dX6_allHair_9 (by decide) (fun c_9 => ?_) (fun c_9 => ?_)
    · refine j_iload_n dX6_allHair_30 rfl ?_
      refine j_iret dX6_allHair_31 ⟨_, rfl, rfl⟩ (by omega) (by omega) ?_
      exact ⟨by rw [ha, show j = P by omega]; rfl, rfl⟩
    · have hp := hR.pe (p := j) (by omega)
      have hq := hp
      refine j_iload_n dX6_allHair_12 rfl ?_
      first | refine j_aload_n dX6_allHair_13 rfl ?_ | refine j_aload_nN dX6_allHair_13 rfl ?_
      refine j_getR dX6_allHair_14 fl_X6_19 rfl (by first | exact Pv.sh hR | assumption) (by first | exact Pv.r1 hR | assumption) ?_
      refine j_iload_n dX6_allHair_17 rfl ?_
      refine j_aald (t := 27) dX6_allHair_18 (fun _ => rfl) (by decide) (by first | exact Pe.sl hp | exact Pe.sa hp | exact Pe.sl hq | exact Pe.sa hq | exact Pv.sw hR | exact Pv.sp hR | exact Pv.sd hR | assumption) rfl (by omega) (by decide) (by first | exact Pv.rw hR (by omega) | exact Pv.rp hR (by omega) | exact Pv.rd hR (by omega) | assumption) ?_
      refine j_dV1 kl_X6_96 (x_hair hL hp hW8 ((hPp j (by omega)).kw hW8)) dX6_allHair_19 rfl rfl (by decide) (by first | exact Pe.sh hp | exact Pe.sh hq | assumption) (Nat.le_of_ble_eq_true rfl) (by first | decide | omega) (by omega) (by omega) ?_
      first | (with_reducible refine j_gNN ?_; refine j_iaddN dX6_allHair_22 ?_) | refine j_iadd dX6_allHair_22 ?_
      refine j_istore_n dX6_allHair_23 (by decide) ?_
      first | refine j_iincN dX6_allHair_24 rfl (by decide) ?_ | refine j_iinc dX6_allHair_24 rfl rfl (by decide) ?_
      refine j_goto (tgt := 4) dX6_allHair_27 (by decide) ?_
      exact ih (by omega) _ (by rw [ha]; rfl)
  refine j_iconst (v := nI 0) dX6_allHair_0 (by decide +kernel) ?_
  refine j_istore_n dX6_allHair_1 (by decide) ?_
  refine j_iconst (v := nI 0) dX6_allHair_2 (by decide +kernel) ?_
  refine j_istore_n dX6_allHair_3 (by decide) ?_
  exact key 0 (by omega) _ rfl
theorem x_dines (hR : Pv σ L A C W P Dn Hn) (hw : Wx C W P Dn) (hp6 : p < P) (hq6 : q < P) (hpq : p ≠ q) : Kd g l 2 MX6_dines [.ref (A 0), .ref (A (20 + p)), .ref (A (20 + q))] (put σ L C) none (put σ L (xDines C W p q)) := by
  have hL := hR.inj
  obtain ⟨⟨⟨hW, hW8⟩, ⟨hP, hP6⟩, -⟩, hWv, hPp⟩ := id hw
  have hp := hR.pe hp6
  have hq := hR.pe hq6
  have f0 : mDinesK C W p q = none → put σ L (xDines C W p q) = put σ L C := fun e => by unfold xDines; rw [e]
  obtain ⟨s, t, e1, e2, e3, e4, e5, e6, -⟩ := (hPp p hp6).sets hW8
  obtain ⟨s2, t2, y1, y2, y3, y4, y5, y6, -⟩ := (hPp q hq6).sets hW8
  refine Kt.go (Y := MX6_dines) (ls := [some (.ref (A 0)), some (.ref (A (20 + p))), some (.ref (A (20 + q))), none]) (by decide) (Nat.le_of_ble_eq_true rfl) rfl ?_
  first | refine j_aload_n dX6_dines_0 rfl ?_ | refine j_aload_nN dX6_dines_0 rfl ?_
  refine j_dV1 kl_X6_96 (x_hair hL hp hW8 ((hPp p hp6).kw hW8)) dX6_dines_1 rfl rfl (by decide) (by first | exact Pe.sh hp | exact Pe.sh hq | assumption) (Nat.le_of_ble_eq_true rfl) (by first | decide | omega) (by omega) (by omega) ?_
  first | refine j_aload_n dX6_dines_4 rfl ?_ | refine j_aload_nN dX6_dines_4 rfl ?_
  refine j_getI dX6_dines_5 fl_X6_100 rfl (by first | exact Pe.sh hp | exact Pe.sh hq | assumption) (by first | exact pg (Pe.l3 hp) | exact pg (Pe.l3 hq) | assumption) ?_
  first | (with_reducible refine j_gNN ?_; refine j_icmp_leN (tgt := 24) dX6_dines_8 (by decide) (by omega) (by omega) (fun c_8 => ?_) (fun c_8 => ?_)) | refine j_icmp_le (tgt := 24) dX6_dines_8 (by decide) (fun c_8 => ?_) (fun c_8 => ?_)
  · refine j_iconst (v := -1) dX6_dines_24 (by decide +kernel) ?_
    first
    | (have e : mDinesK C W p q = none := by rw [mDinesK, if_neg (Int32.not_lt.mpr c_8)]
       refine j_istore_n dX6_dines_25 (by decide) ?_
       refine j_iload_n dX6_dines_26 rfl ?_
       refine j_iconst (v := -1) dX6_dines_27 (by decide +kernel) ?_
       first | (with_reducible refine j_gNN ?_; refine j_icmp_neN (tgt := 32) dX6_dines_28 (by decide) (by omega) (by omega) (fun c_28 => ?_) (fun c_28 => ?_)) | refine j_icmp_ne (tgt := 32) dX6_dines_28 (by decide) (fun c_28 => ?_) (fun c_28 => ?_)
       · exact absurd rfl c_28
       · refine j_vret dX6_dines_31 rfl (by omega) (by omega) ?_
         exact ⟨rfl, (f0 e).symm⟩
       )
    | (have e0 : mDinesK C W p q = mLongest C W p (C (37 + q) ^^^ (-1)) := by rw [mDinesK, if_pos (Int32.not_le.mp c_8)]
       rw [← e0]
       cases e : mDinesK C W p q with
       | none =>
         refine j_istore_n dX6_dines_25 (by decide) ?_
         refine j_iload_n dX6_dines_26 rfl ?_
         refine j_iconst (v := -1) dX6_dines_27 (by decide +kernel) ?_
         first | (with_reducible refine j_gNN ?_; refine j_icmp_neN (tgt := 32) dX6_dines_28 (by decide) (by omega) (by omega) (fun c_28 => ?_) (fun c_28 => ?_)) | refine j_icmp_ne (tgt := 32) dX6_dines_28 (by decide) (fun c_28 => ?_) (fun c_28 => ?_)
         · exact absurd rfl c_28
         · refine j_vret dX6_dines_31 rfl (by omega) (by omega) ?_
           exact ⟨rfl, (f0 e).symm⟩
       | some k =>
         have hk := mDinesK_sat hW8 hpq (hPp q hq6) e
         refine j_eq (st' := [.int (nI k)]) rfl rfl rfl ?_
         refine j_istore_n dX6_dines_25 (by decide) ?_
         refine j_iload_n dX6_dines_26 rfl ?_
         refine j_iconst (v := -1) dX6_dines_27 (by decide +kernel) ?_
         first | (with_reducible refine j_gNN ?_; refine j_icmp_neN (tgt := 32) dX6_dines_28 (by decide) (by omega) (by omega) (fun c_28 => ?_) (fun c_28 => ?_)) | refine j_icmp_ne (tgt := 32) dX6_dines_28 (by decide) (fun c_28 => ?_) (fun c_28 => ?_)
         · first | refine j_aload_n dX6_dines_32 rfl ?_ | refine j_aload_nN dX6_dines_32 rfl ?_
           refine j_getR dX6_dines_33 fl_X6_36 rfl (by first | exact Pv.sh hR | assumption) (by first | exact Pv.r3 hR | assumption) ?_
           first | refine j_aload_n dX6_dines_36 rfl ?_ | refine j_aload_nN dX6_dines_36 rfl ?_
           refine j_iload_n dX6_dines_37 rfl ?_
           first | refine j_aload_n dX6_dines_38 rfl ?_ | refine j_aload_nN dX6_dines_38 rfl ?_
           refine j_dV0 kl_X6_107 (x_does hL hp hq (by omega) (by omega)) dX6_dines_39 rfl rfl (by decide) (by first | exact Pv.sy hR | assumption) (Nat.le_of_ble_eq_true rfl) (by first | decide | omega) (by omega) (by omega) ?_
           first | refine j_aload_n dX6_dines_42 rfl ?_ | refine j_aload_nN dX6_dines_42 rfl ?_
           refine j_dup dX6_dines_43 rfl ?_
           refine j_getI dX6_dines_44 fl_X6_75 rfl (by first | exact Pv.sh hR | assumption) (by first | exact pg (Pv.li hR 11 7 rfl (by decide)) | assumption) ?_
           refine j_iconst (v := nI 1) dX6_dines_47 (by decide +kernel) ?_
           first | (with_reducible refine j_gNN ?_; refine j_iaddN dX6_dines_48 ?_) | refine j_iadd dX6_dines_48 ?_
           refine j_putI dX6_dines_49 fl_X6_75 rfl (by first | exact Pv.sh hR | assumption) rfl rfl rfl ?_
           first | refine j_sg (put_w hL (Pv.li hR 11 7 rfl (by decide))) ?_ | skip
           refine j_vret dX6_dines_52 rfl (by omega) (by omega) ?_
           exact ⟨rfl, by unfold xDines; rw [e]⟩
         · exact absurd c_28 (nI_m1 (by omega))
       )
  · first | refine j_aload_n dX6_dines_11 rfl ?_ | refine j_aload_nN dX6_dines_11 rfl ?_
    first | refine j_aload_n dX6_dines_12 rfl ?_ | refine j_aload_nN dX6_dines_12 rfl ?_
    refine j_getI dX6_dines_13 fl_X6_86 rfl (by first | exact Pe.sh hp | exact Pe.sh hq | assumption) (by first | exact pg (Pe.l4 hp) | exact pg (Pe.l4 hq) | assumption) ?_
    refine j_iconst (v := -1) dX6_dines_16 (by decide +kernel) ?_
    refine j_ixor dX6_dines_17 ?_
    refine j_dV1 kl_X6_103 (x_longestOf hL hp hW8 ((hPp p hp6).kw hW8) (set := C (37 + q) ^^^ (-1)) (fun j hj => by rw [e1, y2]; exact hs_dif e5 y6 hj)) dX6_dines_18 rfl rfl (by decide) (by first | exact Pe.sh hp | exact Pe.sh hq | assumption) (Nat.le_of_ble_eq_true rfl) (by first | decide | omega) (by omega) (by omega) ?_
    refine j_goto (tgt := 25) dX6_dines_21 (by decide) ?_
    first
    | (have e : mDinesK C W p q = none := by rw [mDinesK, if_neg (Int32.not_lt.mpr c_8)]
       refine j_istore_n dX6_dines_25 (by decide) ?_
       refine j_iload_n dX6_dines_26 rfl ?_
       refine j_iconst (v := -1) dX6_dines_27 (by decide +kernel) ?_
       first | (with_reducible refine j_gNN ?_; refine j_icmp_neN (tgt := 32) dX6_dines_28 (by decide) (by omega) (by omega) (fun c_28 => ?_) (fun c_28 => ?_)) | refine j_icmp_ne (tgt := 32) dX6_dines_28 (by decide) (fun c_28 => ?_) (fun c_28 => ?_)
       · exact absurd rfl c_28
       · refine j_vret dX6_dines_31 rfl (by omega) (by omega) ?_
         exact ⟨rfl, (f0 e).symm⟩
       )
    | (have e0 : mDinesK C W p q = mLongest C W p (C (37 + q) ^^^ (-1)) := by rw [mDinesK, if_pos (Int32.not_le.mp c_8)]
       rw [← e0]
       cases e : mDinesK C W p q with
       | none =>
         refine j_istore_n dX6_dines_25 (by decide) ?_
         refine j_iload_n dX6_dines_26 rfl ?_
         refine j_iconst (v := -1) dX6_dines_27 (by decide +kernel) ?_
         first | (with_reducible refine j_gNN ?_; refine j_icmp_neN (tgt := 32) dX6_dines_28 (by decide) (by omega) (by omega) (fun c_28 => ?_) (fun c_28 => ?_)) | refine j_icmp_ne (tgt := 32) dX6_dines_28 (by decide) (fun c_28 => ?_) (fun c_28 => ?_)
         · exact absurd rfl c_28
         · refine j_vret dX6_dines_31 rfl (by omega) (by omega) ?_
           exact ⟨rfl, (f0 e).symm⟩
       | some k =>
         have hk := mDinesK_sat hW8 hpq (hPp q hq6) e
         refine j_eq (st' := [.int (nI k)]) rfl rfl rfl ?_
         refine j_istore_n dX6_dines_25 (by decide) ?_
         refine j_iload_n dX6_dines_26 rfl ?_
         refine j_iconst (v := -1) dX6_dines_27 (by decide +kernel) ?_
         first | (with_reducible refine j_gNN ?_; refine j_icmp_neN (tgt := 32) dX6_dines_28 (by decide) (by omega) (by omega) (fun c_28 => ?_) (fun c_28 => ?_)) | refine j_icmp_ne (tgt := 32) dX6_dines_28 (by decide) (fun c_28 => ?_) (fun c_28 => ?_)
         · first | refine j_aload_n dX6_dines_32 rfl ?_ | refine j_aload_nN dX6_dines_32 rfl ?_
           refine j_getR dX6_dines_33 fl_X6_36 rfl (by first | exact Pv.sh hR | assumption) (by first | exact Pv.r3 hR | assumption) ?_
           first | refine j_aload_n dX6_dines_36 rfl ?_ | refine j_aload_nN dX6_dines_36 rfl ?_
           refine j_iload_n dX6_dines_37 rfl ?_
           first | refine j_aload_n dX6_dines_38 rfl ?_ | refine j_aload_nN dX6_dines_38 rfl ?_
           refine j_dV0 kl_X6_107 (x_does hL hp hq (by omega) (by omega)) dX6_dines_39 rfl rfl (by decide) (by first | exact Pv.sy hR | assumption) (Nat.le_of_ble_eq_true rfl) (by first | decide | omega) (by omega) (by omega) ?_
           first | refine j_aload_n dX6_dines_42 rfl ?_ | refine j_aload_nN dX6_dines_42 rfl ?_
           refine j_dup dX6_dines_43 rfl ?_
           refine j_getI dX6_dines_44 fl_X6_75 rfl (by first | exact Pv.sh hR | assumption) (by first | exact pg (Pv.li hR 11 7 rfl (by decide)) | assumption) ?_
           refine j_iconst (v := nI 1) dX6_dines_47 (by decide +kernel) ?_
           first | (with_reducible refine j_gNN ?_; refine j_iaddN dX6_dines_48 ?_) | refine j_iadd dX6_dines_48 ?_
           refine j_putI dX6_dines_49 fl_X6_75 rfl (by first | exact Pv.sh hR | assumption) rfl rfl rfl ?_
           first | refine j_sg (put_w hL (Pv.li hR 11 7 rfl (by decide))) ?_ | skip
           refine j_vret dX6_dines_52 rfl (by omega) (by omega) ?_
           exact ⟨rfl, by unfold xDines; rw [e]⟩
         · exact absurd c_28 (nI_m1 (by omega))
       )
theorem x_day (hR0 : Pv σ L A C W P Dn Hn) (hw : Wx C W P Dn) : Kd g l 3 MX6_day [.ref (A 0)] (put σ L C) none (put σ L (mDay C W P Dn)) := by
  have hL := hR0.inj
  obtain ⟨⟨⟨hW, hW8⟩, ⟨hP, hP6⟩, ⟨hD0, hD6⟩, hdn⟩, hWv, hPp⟩ := id hw
  refine Kt.go (Y := MX6_day) (ls := [some (.ref (A 0)), none, none]) (by decide) (Nat.le_of_ble_eq_true rfl) rfl ?_
  have key2 : ∀ j, j ≤ Dn → ∀ n D, (n, D) = itr (dStep W) j (nI 0, mDayG C W P) → ∀ x2, Td g l 3 MX6_day [.ref (A 0)] (put σ L (mDay C W P Dn)) none 41 [some (.ref (A 0)), some (.int (nI j)), x2] [] (put σ L (up D 7 (D 7 + n))) := by
    refine loop_up fun j hj ih => ?_
    intro n D hD x2
    have hF : Fr C D := by have := mDayS_fr hw.1 j hj; rw [← hD] at this; exact this
    have hwD := hw.1.fr hF
    have hPD : ∀ r, r < P → Pp D W r := fun r hr => by have := dayS_pp hw j hj r hr; rw [← hD] at this; exact this
    have hFX : Fr C (up D 7 (D 7 + n)) := hF.up (by omega)
    have hR := hR0.fr hFX hW8
    have x2' : up D 7 (D 7 + n) 2 = nI Dn := hwD.2.2.1.1
    by_cases hjD : j < Dn
    · obtain ⟨a, b, e, q1, q2, q3, q4, q5, q6, q7, q8⟩ := hwD.2.2.2 j hjD
      have he : ¬ nI e = 0 := nI_ne0 (by omega) (by omega)
      have hs : itr (dStep W) (j + 1) (nI 0, mDayG C W P) = dStep W j (n, D) := by rw [itr, ← hD]
      have ea : ixn (nI a) = a := ixn_nI (by omega)
      have eb : ixn (nI b) = b := ixn_nI (by omega)
      have p0 : up D 7 (D 7 + n) (145 + j) = nI a := (up_ne (by omega)).trans q1
      have p1 : up D 7 (D 7 + n) (151 + j) = nI b := (up_ne (by omega)).trans q3
      have p2 : up D 7 (D 7 + n) (157 + j) = nI e := (up_ne (by omega)).trans q6
      have hX : Wx (up D 7 (D 7 + n)) W P Dn := ⟨hw.1.fr hFX, hWv.fr hFX, fun r hr => up_pp (hPD r hr) (nocell (by omega))⟩
      have d1 : xDines (up D 7 (D 7 + n)) W a b = up (mDines D W a b) 7 (D 7 + n + bI (mDinesB D W a b)) := xDines_eq (by omega) (by omega) hW8 q5 (hPD b q4)
      have f1 : Fr D (mDines D W a b) := mDines_fr (by omega) (by omega)
      have hPD1 : ∀ r, r < P → Pp (mDines D W a b) W r := fun r hr => dines_pp hW8 (by omega) (by omega) (by omega) q5 (hPD b q4) (hPD r hr)
      have hF1 : Fr C (up (mDines D W a b) 7 (D 7 + n + bI (mDinesB D W a b))) := (hF.tr f1).up (by omega)
      have hX1 : Wx (up (mDines D W a b) 7 (D 7 + n + bI (mDinesB D W a b))) W P Dn := ⟨hw.1.fr hF1, hWv.fr hF1, fun r hr => up_pp (hPD1 r hr) (nocell (by omega))⟩
      have d2 : xDines (up (mDines D W a b) 7 (D 7 + n + bI (mDinesB D W a b))) W b a = up (mDines (mDines D W a b) W b a) 7 (D 7 + n + bI (mDinesB D W a b) + bI (mDinesB (mDines D W a b) W b a)) := xDines_eq (by omega) (by omega) hW8 (Ne.symm q5) (hPD1 a q2)
      have hR1 := hR0.fr hF1 hW8
      have d7 : (dStep W j (n, D)).2 7 = D 7 := dStep_7 (s := (n, D)) hwD hjD
      refine j_iload_n dX6_day_41 rfl ?_
      first | refine j_aload_n dX6_day_42 rfl ?_ | refine j_aload_nN dX6_day_42 rfl ?_
      refine j_getI dX6_day_43 fl_X6_69 rfl (by first | exact (Pv.d0 hR hjD).trans p0 | exact (Pv.d1 hR hjD).trans p1 | exact (Pv.d2 hR hjD).trans p2 | exact (Pv.d0 hR1 hjD).trans ((up_ne (by omega)).trans ((f1 _ (by omega)).trans q1)) | exact (Pv.d1 hR1 hjD).trans ((up_ne (by omega)).trans ((f1 _ (by omega)).trans q3)) | exact Pv.sh hR | assumption) (by first | exact (Pv.d0 hR hjD).trans p0 | exact (Pv.d1 hR hjD).trans p1 | exact (Pv.d2 hR hjD).trans p2 | exact (Pv.d0 hR1 hjD).trans ((up_ne (by omega)).trans ((f1 _ (by omega)).trans q1)) | exact (Pv.d1 hR1 hjD).trans ((up_ne (by omega)).trans ((f1 _ (by omega)).trans q3)) | exact pg (Pv.li hR 6 2 rfl (by decide)) | assumption) ?_
      rw [x2']
      first | (with_reducible refine j_gNN ?_; refine j_icmp_geN (tgt := 121) dX6_day_46 (by decide) (by omega) (by omega) (fun c_46 => ?_) (fun c_46 => ?_)) | refine j_icmp_ge (tgt := 121) dX6_day_46 (by decide) (fun c_46 => ?_) (fun c_46 => ?_)
      · exact absurd hjD (Nat.not_lt.mpr c_46)
      · first | refine j_aload_n dX6_day_49 rfl ?_ | refine j_aload_nN dX6_day_49 rfl ?_
        refine j_getR dX6_day_50 fl_X6_25 rfl (by first | exact (Pv.d0 hR hjD).trans p0 | exact (Pv.d1 hR hjD).trans p1 | exact (Pv.d2 hR hjD).trans p2 | exact (Pv.d0 hR1 hjD).trans ((up_ne (by omega)).trans ((f1 _ (by omega)).trans q1)) | exact (Pv.d1 hR1 hjD).trans ((up_ne (by omega)).trans ((f1 _ (by omega)).trans q3)) | exact Pv.sh hR | assumption) (by first | exact (Pv.d0 hR hjD).trans p0 | exact (Pv.d1 hR hjD).trans p1 | exact (Pv.d2 hR hjD).trans p2 | exact (Pv.d0 hR1 hjD).trans ((up_ne (by omega)).trans ((f1 _ (by omega)).trans q1)) | exact (Pv.d1 hR1 hjD).trans ((up_ne (by omega)).trans ((f1 _ (by omega)).trans q3)) | exact Pv.r2 hR | assumption) ?_
        refine j_iload_n dX6_day_53 rfl ?_
        refine j_aald (t := 28) dX6_day_54 (fun _ => rfl) (by decide) (by first | exact (Pv.d0 hR hjD).trans p0 | exact (Pv.d1 hR hjD).trans p1 | exact (Pv.d2 hR hjD).trans p2 | exact (Pv.d0 hR1 hjD).trans ((up_ne (by omega)).trans ((f1 _ (by omega)).trans q1)) | exact (Pv.d1 hR1 hjD).trans ((up_ne (by omega)).trans ((f1 _ (by omega)).trans q3)) | exact Pe.sl hp | exact Pe.sa hp | exact Pe.sl hq | exact Pe.sa hq | exact Pv.sw hR | exact Pv.sp hR | exact Pv.sd hR | assumption) rfl (by omega) (by decide) (by first | exact (Pv.d0 hR hjD).trans p0 | exact (Pv.d1 hR hjD).trans p1 | exact (Pv.d2 hR hjD).trans p2 | exact (Pv.d0 hR1 hjD).trans ((up_ne (by omega)).trans ((f1 _ (by omega)).trans q1)) | exact (Pv.d1 hR1 hjD).trans ((up_ne (by omega)).trans ((f1 _ (by omega)).trans q3)) | exact Pv.rw hR (by omega) | exact Pv.rp hR (by omega) | exact Pv.rd hR (by omega) | assumption) ?_
        first | refine j_astore_n dX6_day_55 (by decide) ?_ | refine j_astore_nN dX6_day_55 (by decide) ?_
        first | refine j_aload_n dX6_day_56 rfl ?_ | refine j_aload_nN dX6_day_56 rfl ?_
        refine j_getI dX6_day_57 fl_X6_72 rfl (by first | exact (Pv.d0 hR hjD).trans p0 | exact (Pv.d1 hR hjD).trans p1 | exact (Pv.d2 hR hjD).trans p2 | exact (Pv.d0 hR1 hjD).trans ((up_ne (by omega)).trans ((f1 _ (by omega)).trans q1)) | exact (Pv.d1 hR1 hjD).trans ((up_ne (by omega)).trans ((f1 _ (by omega)).trans q3)) | exact Pv.sh hR | assumption) (by first | exact (Pv.d0 hR hjD).trans p0 | exact (Pv.d1 hR hjD).trans p1 | exact (Pv.d2 hR hjD).trans p2 | exact (Pv.d0 hR1 hjD).trans ((up_ne (by omega)).trans ((f1 _ (by omega)).trans q1)) | exact (Pv.d1 hR1 hjD).trans ((up_ne (by omega)).trans ((f1 _ (by omega)).trans q3)) | exact pg (Pv.li hR 10 6 rfl (by decide)) | assumption) ?_
        first | refine j_aload_n dX6_day_60 rfl ?_ | refine j_aload_nN dX6_day_60 rfl ?_
        refine j_getI dX6_day_61 fl_X6_117 rfl (by first | exact (Pv.d0 hR hjD).trans p0 | exact (Pv.d1 hR hjD).trans p1 | exact (Pv.d2 hR hjD).trans p2 | exact (Pv.d0 hR1 hjD).trans ((up_ne (by omega)).trans ((f1 _ (by omega)).trans q1)) | exact (Pv.d1 hR1 hjD).trans ((up_ne (by omega)).trans ((f1 _ (by omega)).trans q3)) | exact Pv.ds hR (by omega) | assumption) (by first | exact (Pv.d0 hR hjD).trans p0 | exact (Pv.d1 hR hjD).trans p1 | exact (Pv.d2 hR hjD).trans p2 | exact (Pv.d0 hR1 hjD).trans ((up_ne (by omega)).trans ((f1 _ (by omega)).trans q1)) | exact (Pv.d1 hR1 hjD).trans ((up_ne (by omega)).trans ((f1 _ (by omega)).trans q3)) | exact Pv.d2 hR (by omega) | assumption) ?_
        refine j_irem dX6_day_64 he ?_
        first | (with_reducible refine j_gB ?_; refine j_if_eqB (tgt := 71) dX6_day_65 (by decide) (fun c_65 => ?_) (fun c_65 => ?_)) | (with_reducible refine j_gC ?_; refine j_if_eqC (tgt := 71) dX6_day_65 (by decide) (fun c_65 => ?_) (fun c_65 => ?_)) | (with_reducible refine j_gN ?_; refine j_if_eqN (tgt := 71) dX6_day_65 (by decide) (by omega) (fun c_65 => ?_) (fun c_65 => ?_)) | refine j_if_eq (tgt := 71) dX6_day_65 (by decide) (fun c_65 => ?_) (fun c_65 => ?_)
        · first | refine j_aload_n dX6_day_71 rfl ?_ | refine j_aload_nN dX6_day_71 rfl ?_
          first | refine j_aload_n dX6_day_72 rfl ?_ | refine j_aload_nN dX6_day_72 rfl ?_
          refine j_getR dX6_day_73 fl_X6_19 rfl (by first | exact (Pv.d0 hR hjD).trans p0 | exact (Pv.d1 hR hjD).trans p1 | exact (Pv.d2 hR hjD).trans p2 | exact (Pv.d0 hR1 hjD).trans ((up_ne (by omega)).trans ((f1 _ (by omega)).trans q1)) | exact (Pv.d1 hR1 hjD).trans ((up_ne (by omega)).trans ((f1 _ (by omega)).trans q3)) | exact Pv.sh hR | assumption) (by first | exact (Pv.d0 hR hjD).trans p0 | exact (Pv.d1 hR hjD).trans p1 | exact (Pv.d2 hR hjD).trans p2 | exact (Pv.d0 hR1 hjD).trans ((up_ne (by omega)).trans ((f1 _ (by omega)).trans q1)) | exact (Pv.d1 hR1 hjD).trans ((up_ne (by omega)).trans ((f1 _ (by omega)).trans q3)) | exact Pv.r1 hR | assumption) ?_
          first | refine j_aload_n dX6_day_76 rfl ?_ | refine j_aload_nN dX6_day_76 rfl ?_
          refine j_getI dX6_day_77 fl_X6_120 rfl (by first | exact (Pv.d0 hR hjD).trans p0 | exact (Pv.d1 hR hjD).trans p1 | exact (Pv.d2 hR hjD).trans p2 | exact (Pv.d0 hR1 hjD).trans ((up_ne (by omega)).trans ((f1 _ (by omega)).trans q1)) | exact (Pv.d1 hR1 hjD).trans ((up_ne (by omega)).trans ((f1 _ (by omega)).trans q3)) | exact Pv.ds hR (by omega) | assumption) (by first | exact (Pv.d0 hR hjD).trans p0 | exact (Pv.d1 hR hjD).trans p1 | exact (Pv.d2 hR hjD).trans p2 | exact (Pv.d0 hR1 hjD).trans ((up_ne (by omega)).trans ((f1 _ (by omega)).trans q1)) | exact (Pv.d1 hR1 hjD).trans ((up_ne (by omega)).trans ((f1 _ (by omega)).trans q3)) | exact Pv.d0 hR (by omega) | assumption) ?_
          refine j_aald (t := 27) dX6_day_80 (fun _ => rfl) (by decide) (by first | exact (Pv.d0 hR hjD).trans p0 | exact (Pv.d1 hR hjD).trans p1 | exact (Pv.d2 hR hjD).trans p2 | exact (Pv.d0 hR1 hjD).trans ((up_ne (by omega)).trans ((f1 _ (by omega)).trans q1)) | exact (Pv.d1 hR1 hjD).trans ((up_ne (by omega)).trans ((f1 _ (by omega)).trans q3)) | exact Pe.sl hp | exact Pe.sa hp | exact Pe.sl hq | exact Pe.sa hq | exact Pv.sw hR | exact Pv.sp hR | exact Pv.sd hR | assumption) rfl (by omega) (by decide) (by first | exact (Pv.d0 hR hjD).trans p0 | exact (Pv.d1 hR hjD).trans p1 | exact (Pv.d2 hR hjD).trans p2 | exact (Pv.d0 hR1 hjD).trans ((up_ne (by omega)).trans ((f1 _ (by omega)).trans q1)) | exact (Pv.d1 hR1 hjD).trans ((up_ne (by omega)).trans ((f1 _ (by omega)).trans q3)) | exact Pv.rw hR (by omega) | exact Pv.rp hR (by omega) | exact Pv.rd hR (by omega) | assumption) ?_
          first | refine j_aload_n dX6_day_81 rfl ?_ | refine j_aload_nN dX6_day_81 rfl ?_
          refine j_getR dX6_day_82 fl_X6_19 rfl (by first | exact (Pv.d0 hR hjD).trans p0 | exact (Pv.d1 hR hjD).trans p1 | exact (Pv.d2 hR hjD).trans p2 | exact (Pv.d0 hR1 hjD).trans ((up_ne (by omega)).trans ((f1 _ (by omega)).trans q1)) | exact (Pv.d1 hR1 hjD).trans ((up_ne (by omega)).trans ((f1 _ (by omega)).trans q3)) | exact Pv.sh hR | assumption) (by first | exact (Pv.d0 hR hjD).trans p0 | exact (Pv.d1 hR hjD).trans p1 | exact (Pv.d2 hR hjD).trans p2 | exact (Pv.d0 hR1 hjD).trans ((up_ne (by omega)).trans ((f1 _ (by omega)).trans q1)) | exact (Pv.d1 hR1 hjD).trans ((up_ne (by omega)).trans ((f1 _ (by omega)).trans q3)) | exact Pv.r1 hR | assumption) ?_
          first | refine j_aload_n dX6_day_85 rfl ?_ | refine j_aload_nN dX6_day_85 rfl ?_
          refine j_getI dX6_day_86 fl_X6_123 rfl (by first | exact (Pv.d0 hR hjD).trans p0 | exact (Pv.d1 hR hjD).trans p1 | exact (Pv.d2 hR hjD).trans p2 | exact (Pv.d0 hR1 hjD).trans ((up_ne (by omega)).trans ((f1 _ (by omega)).trans q1)) | exact (Pv.d1 hR1 hjD).trans ((up_ne (by omega)).trans ((f1 _ (by omega)).trans q3)) | exact Pv.ds hR (by omega) | assumption) (by first | exact (Pv.d0 hR hjD).trans p0 | exact (Pv.d1 hR hjD).trans p1 | exact (Pv.d2 hR hjD).trans p2 | exact (Pv.d0 hR1 hjD).trans ((up_ne (by omega)).trans ((f1 _ (by omega)).trans q1)) | exact (Pv.d1 hR1 hjD).trans ((up_ne (by omega)).trans ((f1 _ (by omega)).trans q3)) | exact Pv.d1 hR (by omega) | assumption) ?_
          refine j_aald (t := 27) dX6_day_89 (fun _ => rfl) (by decide) (by first | exact (Pv.d0 hR hjD).trans p0 | exact (Pv.d1 hR hjD).trans p1 | exact (Pv.d2 hR hjD).trans p2 | exact (Pv.d0 hR1 hjD).trans ((up_ne (by omega)).trans ((f1 _ (by omega)).trans q1)) | exact (Pv.d1 hR1 hjD).trans ((up_ne (by omega)).trans ((f1 _ (by omega)).trans q3)) | exact Pe.sl hp | exact Pe.sa hp | exact Pe.sl hq | exact Pe.sa hq | exact Pv.sw hR | exact Pv.sp hR | exact Pv.sd hR | assumption) rfl (by omega) (by decide) (by first | exact (Pv.d0 hR hjD).trans p0 | exact (Pv.d1 hR hjD).trans p1 | exact (Pv.d2 hR hjD).trans p2 | exact (Pv.d0 hR1 hjD).trans ((up_ne (by omega)).trans ((f1 _ (by omega)).trans q1)) | exact (Pv.d1 hR1 hjD).trans ((up_ne (by omega)).trans ((f1 _ (by omega)).trans q3)) | exact Pv.rw hR (by omega) | exact Pv.rp hR (by omega) | exact Pv.rd hR (by omega) | assumption) ?_
          refine j_dV0 kl_X6_126 (x_dines hR hX q2 q4 q5) dX6_day_90 rfl rfl (by decide) (by first | exact (Pv.d0 hR hjD).trans p0 | exact (Pv.d1 hR hjD).trans p1 | exact (Pv.d2 hR hjD).trans p2 | exact (Pv.d0 hR1 hjD).trans ((up_ne (by omega)).trans ((f1 _ (by omega)).trans q1)) | exact (Pv.d1 hR1 hjD).trans ((up_ne (by omega)).trans ((f1 _ (by omega)).trans q3)) | exact Pv.sh hR | assumption) (Nat.le_of_ble_eq_true rfl) (by first | decide | omega) (by omega) (by omega) ?_
          refine j_sg (congrArg (put σ L) d1) ?_
          first | refine j_aload_n dX6_day_93 rfl ?_ | refine j_aload_nN dX6_day_93 rfl ?_
          first | refine j_aload_n dX6_day_94 rfl ?_ | refine j_aload_nN dX6_day_94 rfl ?_
          refine j_getR dX6_day_95 fl_X6_19 rfl (by first | exact (Pv.d0 hR hjD).trans p0 | exact (Pv.d1 hR hjD).trans p1 | exact (Pv.d2 hR hjD).trans p2 | exact (Pv.d0 hR1 hjD).trans ((up_ne (by omega)).trans ((f1 _ (by omega)).trans q1)) | exact (Pv.d1 hR1 hjD).trans ((up_ne (by omega)).trans ((f1 _ (by omega)).trans q3)) | exact Pv.sh hR | assumption) (by first | exact (Pv.d0 hR hjD).trans p0 | exact (Pv.d1 hR hjD).trans p1 | exact (Pv.d2 hR hjD).trans p2 | exact (Pv.d0 hR1 hjD).trans ((up_ne (by omega)).trans ((f1 _ (by omega)).trans q1)) | exact (Pv.d1 hR1 hjD).trans ((up_ne (by omega)).trans ((f1 _ (by omega)).trans q3)) | exact Pv.r1 hR | assumption) ?_
          first | refine j_aload_n dX6_day_98 rfl ?_ | refine j_aload_nN dX6_day_98 rfl ?_
          refine j_getI dX6_day_99 fl_X6_123 rfl (by first | exact (Pv.d0 hR hjD).trans p0 | exact (Pv.d1 hR hjD).trans p1 | exact (Pv.d2 hR hjD).trans p2 | exact (Pv.d0 hR1 hjD).trans ((up_ne (by omega)).trans ((f1 _ (by omega)).trans q1)) | exact (Pv.d1 hR1 hjD).trans ((up_ne (by omega)).trans ((f1 _ (by omega)).trans q3)) | exact Pv.ds hR (by omega) | assumption) (by first | exact (Pv.d0 hR hjD).trans p0 | exact (Pv.d1 hR hjD).trans p1 | exact (Pv.d2 hR hjD).trans p2 | exact (Pv.d0 hR1 hjD).trans ((up_ne (by omega)).trans ((f1 _ (by omega)).trans q1)) | exact (Pv.d1 hR1 hjD).trans ((up_ne (by omega)).trans ((f1 _ (by omega)).trans q3)) | exact Pv.d1 hR (by omega) | assumption) ?_
          refine j_aald (t := 27) dX6_day_102 (fun _ => rfl) (by decide) (by first | exact (Pv.d0 hR hjD).trans p0 | exact (Pv.d1 hR hjD).trans p1 | exact (Pv.d2 hR hjD).trans p2 | exact (Pv.d0 hR1 hjD).trans ((up_ne (by omega)).trans ((f1 _ (by omega)).trans q1)) | exact (Pv.d1 hR1 hjD).trans ((up_ne (by omega)).trans ((f1 _ (by omega)).trans q3)) | exact Pe.sl hp | exact Pe.sa hp | exact Pe.sl hq | exact Pe.sa hq | exact Pv.sw hR | exact Pv.sp hR | exact Pv.sd hR | assumption) rfl (by omega) (by decide) (by first | exact (Pv.d0 hR hjD).trans p0 | exact (Pv.d1 hR hjD).trans p1 | exact (Pv.d2 hR hjD).trans p2 | exact (Pv.d0 hR1 hjD).trans ((up_ne (by omega)).trans ((f1 _ (by omega)).trans q1)) | exact (Pv.d1 hR1 hjD).trans ((up_ne (by omega)).trans ((f1 _ (by omega)).trans q3)) | exact Pv.rw hR (by omega) | exact Pv.rp hR (by omega) | exact Pv.rd hR (by omega) | assumption) ?_
          first | refine j_aload_n dX6_day_103 rfl ?_ | refine j_aload_nN dX6_day_103 rfl ?_
          refine j_getR dX6_day_104 fl_X6_19 rfl (by first | exact (Pv.d0 hR hjD).trans p0 | exact (Pv.d1 hR hjD).trans p1 | exact (Pv.d2 hR hjD).trans p2 | exact (Pv.d0 hR1 hjD).trans ((up_ne (by omega)).trans ((f1 _ (by omega)).trans q1)) | exact (Pv.d1 hR1 hjD).trans ((up_ne (by omega)).trans ((f1 _ (by omega)).trans q3)) | exact Pv.sh hR | assumption) (by first | exact (Pv.d0 hR hjD).trans p0 | exact (Pv.d1 hR hjD).trans p1 | exact (Pv.d2 hR hjD).trans p2 | exact (Pv.d0 hR1 hjD).trans ((up_ne (by omega)).trans ((f1 _ (by omega)).trans q1)) | exact (Pv.d1 hR1 hjD).trans ((up_ne (by omega)).trans ((f1 _ (by omega)).trans q3)) | exact Pv.r1 hR | assumption) ?_
          first | refine j_aload_n dX6_day_107 rfl ?_ | refine j_aload_nN dX6_day_107 rfl ?_
          refine j_getI dX6_day_108 fl_X6_120 rfl (by first | exact (Pv.d0 hR hjD).trans p0 | exact (Pv.d1 hR hjD).trans p1 | exact (Pv.d2 hR hjD).trans p2 | exact (Pv.d0 hR1 hjD).trans ((up_ne (by omega)).trans ((f1 _ (by omega)).trans q1)) | exact (Pv.d1 hR1 hjD).trans ((up_ne (by omega)).trans ((f1 _ (by omega)).trans q3)) | exact Pv.ds hR (by omega) | assumption) (by first | exact (Pv.d0 hR hjD).trans p0 | exact (Pv.d1 hR hjD).trans p1 | exact (Pv.d2 hR hjD).trans p2 | exact (Pv.d0 hR1 hjD).trans ((up_ne (by omega)).trans ((f1 _ (by omega)).trans q1)) | exact (Pv.d1 hR1 hjD).trans ((up_ne (by omega)).trans ((f1 _ (by omega)).trans q3)) | exact Pv.d0 hR (by omega) | assumption) ?_
          refine j_aald (t := 27) dX6_day_111 (fun _ => rfl) (by decide) (by first | exact (Pv.d0 hR hjD).trans p0 | exact (Pv.d1 hR hjD).trans p1 | exact (Pv.d2 hR hjD).trans p2 | exact (Pv.d0 hR1 hjD).trans ((up_ne (by omega)).trans ((f1 _ (by omega)).trans q1)) | exact (Pv.d1 hR1 hjD).trans ((up_ne (by omega)).trans ((f1 _ (by omega)).trans q3)) | exact Pe.sl hp | exact Pe.sa hp | exact Pe.sl hq | exact Pe.sa hq | exact Pv.sw hR | exact Pv.sp hR | exact Pv.sd hR | assumption) rfl (by omega) (by decide) (by first | exact (Pv.d0 hR hjD).trans p0 | exact (Pv.d1 hR hjD).trans p1 | exact (Pv.d2 hR hjD).trans p2 | exact (Pv.d0 hR1 hjD).trans ((up_ne (by omega)).trans ((f1 _ (by omega)).trans q1)) | exact (Pv.d1 hR1 hjD).trans ((up_ne (by omega)).trans ((f1 _ (by omega)).trans q3)) | exact Pv.rw hR (by omega) | exact Pv.rp hR (by omega) | exact Pv.rd hR (by omega) | assumption) ?_
          refine j_dV0 kl_X6_126 (x_dines hR1 hX1 q4 q2 (Ne.symm q5)) dX6_day_112 rfl rfl (by decide) (by first | exact (Pv.d0 hR hjD).trans p0 | exact (Pv.d1 hR hjD).trans p1 | exact (Pv.d2 hR hjD).trans p2 | exact (Pv.d0 hR1 hjD).trans ((up_ne (by omega)).trans ((f1 _ (by omega)).trans q1)) | exact (Pv.d1 hR1 hjD).trans ((up_ne (by omega)).trans ((f1 _ (by omega)).trans q3)) | exact Pv.sh hR | assumption) (Nat.le_of_ble_eq_true rfl) (by first | decide | omega) (by omega) (by omega) ?_
          refine j_sg (congrArg (put σ L) d2) ?_
          first
          | (skip
             first | refine j_iincN dX6_day_115 rfl (by decide) ?_ | refine j_iinc dX6_day_115 rfl rfl (by decide) ?_
             refine j_goto (tgt := 41) dX6_day_118 (by decide) ?_
             exact ih hjD n D (by rw [hs, dStep, if_neg (by dsimp only; rw [q6]; exact c_65)]) _
             )
          | (skip
             first | refine j_iincN dX6_day_115 rfl (by decide) ?_ | refine j_iinc dX6_day_115 rfl rfl (by decide) ?_
             refine j_goto (tgt := 41) dX6_day_118 (by decide) ?_
             have z := ih hjD (n + bI (mDinesB D W a b) + bI (mDinesB (mDines D W a b) W b a)) (mDines (mDines D W a b) W b a) (by rw [hs, dStep, if_pos (by dsimp only; rw [q6]; exact c_65)]; dsimp only; rw [q1, q3, ea, eb])
             have d8 : mDines (mDines D W a b) W b a 7 = D 7 := by
               have y := d7
               rw [dStep, if_pos (by dsimp only; rw [q6]; exact c_65)] at y
               dsimp only at y
               rw [q1, q3, ea, eb] at y
               exact y
             rw [d8, ← Int32.add_assoc, ← Int32.add_assoc] at z
             exact z _
             )
        · refine j_goto (tgt := 115) dX6_day_68 (by decide) ?_
          first
          | (skip
             first | refine j_iincN dX6_day_115 rfl (by decide) ?_ | refine j_iinc dX6_day_115 rfl rfl (by decide) ?_
             refine j_goto (tgt := 41) dX6_day_118 (by decide) ?_
             exact ih hjD n D (by rw [hs, dStep, if_neg (by dsimp only; rw [q6]; exact c_65)]) _
             )
          | (skip
             first | refine j_iincN dX6_day_115 rfl (by decide) ?_ | refine j_iinc dX6_day_115 rfl rfl (by decide) ?_
             refine j_goto (tgt := 41) dX6_day_118 (by decide) ?_
             have z := ih hjD (n + bI (mDinesB D W a b) + bI (mDinesB (mDines D W a b) W b a)) (mDines (mDines D W a b) W b a) (by rw [hs, dStep, if_pos (by dsimp only; rw [q6]; exact c_65)]; dsimp only; rw [q1, q3, ea, eb])
             have d8 : mDines (mDines D W a b) W b a 7 = D 7 := by
               have y := d7
               rw [dStep, if_pos (by dsimp only; rw [q6]; exact c_65)] at y
               dsimp only at y
               rw [q1, q3, ea, eb] at y
               exact y
             rw [d8, ← Int32.add_assoc, ← Int32.add_assoc] at z
             exact z _
             )
    · have hje : j = Dn := by omega
      subst hje
      refine j_iload_n dX6_day_41 rfl ?_
      first | refine j_aload_n dX6_day_42 rfl ?_ | refine j_aload_nN dX6_day_42 rfl ?_
      refine j_getI dX6_day_43 fl_X6_69 rfl (by first | exact Pv.sh hR | assumption) (by first | exact pg (Pv.li hR 6 2 rfl (by decide)) | assumption) ?_
      rw [x2']
      first | (with_reducible refine j_gNN ?_; refine j_icmp_geN (tgt := 121) dX6_day_46 (by decide) (by omega) (by omega) (fun c_46 => ?_) (fun c_46 => ?_)) | refine j_icmp_ge (tgt := 121) dX6_day_46 (by decide) (fun c_46 => ?_) (fun c_46 => ?_)
      · refine j_vret dX6_day_121 rfl (by omega) (by omega) ?_
        exact ⟨rfl, by rw [mDay, mDayS, ← hD]⟩
      · exact absurd c_46 hjD
  have key1 : ∀ j, j ≤ P → ∀ D, D = mGrowAll C W j → ∀ x2, Td g l 3 MX6_day [.ref (A 0)] (put σ L (mDay C W P Dn)) none 2 [some (.ref (A 0)), some (.int (nI j)), x2] [] (put σ L D) := by
    refine loop_up fun j hj ih => ?_
    intro D hD x2
    have hF : Fr C D := by rw [hD]; exact mGrowAll_fr hW8 j (by omega)
    have hR := hR0.fr hF hW8
    have hD1 : D 1 = nI P := (hF 1 (by omega)).trans hP
    have hPD : ∀ r, r < P → Pp D W r := fun r hr => by rw [hD]; exact growAll_pp hWv (by omega) (hPp r hr) j (by omega)
    refine j_iload_n dX6_day_2 rfl ?_
    first | refine j_aload_n dX6_day_3 rfl ?_ | refine j_aload_nN dX6_day_3 rfl ?_
    refine j_getI dX6_day_4 fl_X6_49 rfl (by first | exact Pv.sh hR | assumption) (by first | exact pg (Pv.li hR 5 1 rfl (by decide)) | assumption) ?_
    rw [hD1]
    first | (with_reducible refine j_gNN ?_; refine j_icmp_geN (tgt := 29) dX6_day_7 (by decide) (by omega) (by omega) (fun c_7 => ?_) (fun c_7 => ?_)) | refine j_icmp_ge (tgt := 29) dX6_day_7 (by decide) (fun c_7 => ?_) (fun c_7 => ?_)
    · first | refine j_aload_n dX6_day_29 rfl ?_ | refine j_aload_nN dX6_day_29 rfl ?_
      refine j_dup dX6_day_30 rfl ?_
      refine j_getI dX6_day_31 fl_X6_72 rfl (by first | exact Pv.sh hR | assumption) (by first | exact pg (Pv.li hR 10 6 rfl (by decide)) | assumption) ?_
      refine j_iconst (v := nI 1) dX6_day_34 (by decide +kernel) ?_
      first | (with_reducible refine j_gNN ?_; refine j_iaddN dX6_day_35 ?_) | refine j_iadd dX6_day_35 ?_
      refine j_putI dX6_day_36 fl_X6_72 rfl (by first | exact Pv.sh hR | assumption) rfl rfl rfl ?_
      first | refine j_sg (put_w hL (Pv.li hR 10 6 rfl (by decide))) ?_ | skip
      refine j_iconst (v := nI 0) dX6_day_39 (by decide +kernel) ?_
      refine j_istore_n dX6_day_40 (by decide) ?_
      have e : j = P := by omega
      subst e
      have z := key2 0 (by omega) _ _ rfl x2
      rw [nI_0, Int32.add_zero, up_self] at z
      refine j_sg (congrArg (put σ L) ?_) z
      rw [mDayG, ← hD]
    · have hp := hR.pe (p := j) (by omega)
      have hq := hp
      first | refine j_aload_n dX6_day_10 rfl ?_ | refine j_aload_nN dX6_day_10 rfl ?_
      refine j_getR dX6_day_11 fl_X6_19 rfl (by first | exact Pv.sh hR | assumption) (by first | exact Pv.r1 hR | assumption) ?_
      refine j_iload_n dX6_day_14 rfl ?_
      refine j_aald (t := 27) dX6_day_15 (fun _ => rfl) (by decide) (by first | exact Pe.sl hp | exact Pe.sa hp | exact Pe.sl hq | exact Pe.sa hq | exact Pv.sw hR | exact Pv.sp hR | exact Pv.sd hR | assumption) rfl (by omega) (by decide) (by first | exact Pv.rw hR (by omega) | exact Pv.rp hR (by omega) | exact Pv.rd hR (by omega) | assumption) ?_
      first | refine j_aload_n dX6_day_16 rfl ?_ | refine j_aload_nN dX6_day_16 rfl ?_
      refine j_getR dX6_day_17 fl_X6_11 rfl (by first | exact Pv.sh hR | assumption) (by first | exact Pv.r0 hR | assumption) ?_
      refine j_dV0 kl_X6_113 (x_grows hL hp hR.wo (hWv.fr hF) (by omega) (hPD j (by omega))) dX6_day_20 rfl rfl (by decide) (by first | exact Pe.sh hp | exact Pe.sh hq | assumption) (Nat.le_of_ble_eq_true rfl) (by first | decide | omega) (by omega) (by omega) ?_
      first | refine j_iincN dX6_day_23 rfl (by decide) ?_ | refine j_iinc dX6_day_23 rfl rfl (by decide) ?_
      refine j_goto (tgt := 2) dX6_day_26 (by decide) ?_
      exact ih (by omega) _ (by rw [hD]; rfl) _
  refine j_iconst (v := nI 0) dX6_day_0 (by decide +kernel) ?_
  refine j_istore_n dX6_day_1 (by decide) ?_
  exact key1 0 (by omega) _ rfl _
theorem x_days (hR0 : Pv σ L A C W P Dn Hn) (hw : Wx C W P Dn) {n : Nat} (hn : n < 1000) : Kd g l 4 MX6_days [.ref (A 0), .int (nI n)] (put σ L C) (some (.int (mDaysS W P Dn C n).1)) (put σ L (mDaysS W P Dn C n).2) := by
  refine Kt.go (Y := MX6_days) (ls := [some (.ref (A 0)), some (.int (nI n)), none, none]) (by decide) (Nat.le_of_ble_eq_true rfl) rfl ?_
  have key : ∀ j, j ≤ n → ∀ D, D = (mDaysS W P Dn C j).2 → D 7 = C 7 + (mDaysS W P Dn C j).1 → Td g l 4 MX6_days [.ref (A 0), .int (nI n)] (put σ L (mDaysS W P Dn C n).2) (some (.int (mDaysS W P Dn C n).1)) 7 [some (.ref (A 0)), some (.int (nI n)), some (.int (C 7)), some (.int (nI j))] [] (put σ L D) := by
    refine loop_up fun j hj ih => ?_
    intro D hD h7
    have hwD : Wx D W P Dn := by rw [hD]; exact days_wx hw j
    have hR := hR0.fr (by rw [hD]; exact mDays_fr hw.1 j : Fr C D) hw.2.1.1
    refine j_iload_n dX6_days_7 rfl ?_
    refine j_iload_n dX6_days_8 rfl ?_
    first | (with_reducible refine j_gNN ?_; refine j_icmp_geN (tgt := 22) dX6_days_9 (by decide) (by omega) (by omega) (fun c_9 => ?_) (fun c_9 => ?_)) | refine j_icmp_ge (tgt := 22) dX6_days_9 (by decide) (fun c_9 => ?_) (fun c_9 => ?_)
    · first | refine j_aload_n dX6_days_22 rfl ?_ | refine j_aload_nN dX6_days_22 rfl ?_
      refine j_getI dX6_days_23 fl_X6_75 rfl (by first | exact Pv.sh hR | assumption) (by first | exact pg (Pv.li hR 11 7 rfl (by decide)) | assumption) ?_
      refine j_iload_n dX6_days_26 rfl ?_
      refine j_isub dX6_days_27 ?_
      refine j_iret dX6_days_28 ⟨_, rfl, rfl⟩ (by omega) (by omega) ?_
      have e : j = n := by omega
      subst e
      exact ⟨by rw [h7, Int32.add_comm, Int32.add_sub_cancel], by rw [hD]⟩
    · first | refine j_aload_n dX6_days_12 rfl ?_ | refine j_aload_nN dX6_days_12 rfl ?_
      refine j_dV0 kl_X6_130 (x_day hR hwD) dX6_days_13 rfl rfl (by decide) (by first | exact Pv.sh hR | assumption) (Nat.le_of_ble_eq_true rfl) (by first | decide | omega) (by omega) (by omega) ?_
      first | refine j_iincN dX6_days_16 rfl (by decide) ?_ | refine j_iinc dX6_days_16 rfl rfl (by decide) ?_
      refine j_goto (tgt := 7) dX6_days_19 (by decide) ?_
      refine ih (by omega) _ (by rw [hD]; rfl) ?_
      have e1 : mDay D W P Dn 7 = D 7 + mDayN D W P Dn := by
        have e2 : (mDayS D W P Dn).2 7 = D 7 := by
          have : ∀ m, m ≤ Dn → (itr (dStep W) m (nI 0, mDayG D W P)).2 7 = D 7 := by
            intro m
            induction m with
            | zero =>
              intro _
              show mDayG D W P 7 = D 7
              unfold mDayG
              rw [up_ne (by omega)]
              have : ∀ r, r ≤ 6 → mGrowAll D W r 7 = D 7 := by
                intro r
                induction r with
                | zero => intro _; rfl
                | succ r ihr => intro hr; exact (grow_ot hw.2.1.1 (nocell (by omega))).trans (ihr (by omega))
              exact this P hw.1.2.1.2
            | succ m ihm => intro hm; exact (dStep_7 (hwD.1.fr (mDayS_fr hwD.1 m (by omega))) (by omega)).trans (ihm (by omega))
          exact this Dn (Nat.le_refl _)
        unfold mDay mDayN
        rw [up_eq, e2]
      rw [e1, h7, Int32.add_assoc]
      rw [hD]
      rfl
  have hR := hR0
  first | refine j_aload_n dX6_days_0 rfl ?_ | refine j_aload_nN dX6_days_0 rfl ?_
  refine j_getI dX6_days_1 fl_X6_75 rfl (by first | exact Pv.sh hR | assumption) (by first | exact pg (Pv.li hR 11 7 rfl (by decide)) | assumption) ?_
  refine j_istore_n dX6_days_4 (by decide) ?_
  refine j_iconst (v := nI 0) dX6_days_5 (by decide +kernel) ?_
  refine j_istore_n dX6_days_6 (by decide) ?_
  exact key 0 (by omega) _ rfl (by show C 7 = C 7 + nI 0; rw [nI_0, Int32.add_zero])
theorem x_says (hR : Pv σ L A C W P Dn Hn) (hP6 : P ≤ 6) (hp6 : p < P) (hq6 : q < P) : Kd g l 2 MX6_says [.ref (A 0), .int (nI p), .int (nI k), .int (nI q)] (put σ L C) (some (.int (bI (mSaysB C p k q)))) (put σ L (mSays C p k q)) := by
  have hL := hR.inj
  have hp := hR.pe hp6
  have hq := hR.pe hq6
  refine Kt.go (Y := MX6_says) (ls := [some (.ref (A 0)), some (.int (nI p)), some (.int (nI k)), some (.int (nI q))]) (by decide) (Nat.le_of_ble_eq_true rfl) rfl ?_
  first | refine j_aload_n dX6_says_0 rfl ?_ | refine j_aload_nN dX6_says_0 rfl ?_
  refine j_getR dX6_says_1 fl_X6_36 rfl (by first | exact Pv.sh hR | assumption) (by first | exact Pv.r3 hR | assumption) ?_
  first | refine j_aload_n dX6_says_4 rfl ?_ | refine j_aload_nN dX6_says_4 rfl ?_
  refine j_getR dX6_says_5 fl_X6_19 rfl (by first | exact Pv.sh hR | assumption) (by first | exact Pv.r1 hR | assumption) ?_
  refine j_iload_n dX6_says_8 rfl ?_
  refine j_aald (t := 27) dX6_says_9 (fun _ => rfl) (by decide) (by first | exact Pe.sl hp | exact Pe.sa hp | exact Pe.sl hq | exact Pe.sa hq | exact Pv.sw hR | exact Pv.sp hR | exact Pv.sd hR | assumption) rfl (by omega) (by decide) (by first | exact Pv.rw hR (by omega) | exact Pv.rp hR (by omega) | exact Pv.rd hR (by omega) | assumption) ?_
  refine j_iload_n dX6_says_10 rfl ?_
  first | refine j_aload_n dX6_says_11 rfl ?_ | refine j_aload_nN dX6_says_11 rfl ?_
  refine j_getR dX6_says_12 fl_X6_19 rfl (by first | exact Pv.sh hR | assumption) (by first | exact Pv.r1 hR | assumption) ?_
  refine j_iload_n dX6_says_15 rfl ?_
  refine j_aald (t := 27) dX6_says_16 (fun _ => rfl) (by decide) (by first | exact Pe.sl hp | exact Pe.sa hp | exact Pe.sl hq | exact Pe.sa hq | exact Pv.sw hR | exact Pv.sp hR | exact Pv.sd hR | assumption) rfl (by omega) (by decide) (by first | exact Pv.rw hR (by omega) | exact Pv.rp hR (by omega) | exact Pv.rd hR (by omega) | assumption) ?_
  refine j_dV1 kl_X6_132 (x_can hL hp hq) dX6_says_17 rfl rfl (by decide) (by first | exact Pv.sy hR | assumption) (Nat.le_of_ble_eq_true rfl) (by first | decide | omega) (by omega) (by omega) ?_
  first | (with_reducible refine j_gB ?_; refine j_if_neB (tgt := 25) dX6_says_20 (by decide) (fun c_20 => ?_) (fun c_20 => ?_)) | (with_reducible refine j_gC ?_; refine j_if_neC (tgt := 25) dX6_says_20 (by decide) (fun c_20 => ?_) (fun c_20 => ?_)) | (with_reducible refine j_gN ?_; refine j_if_neN (tgt := 25) dX6_says_20 (by decide) (by omega) (fun c_20 => ?_) (fun c_20 => ?_)) | refine j_if_ne (tgt := 25) dX6_says_20 (by decide) (fun c_20 => ?_) (fun c_20 => ?_)
  · first | refine j_aload_n dX6_says_25 rfl ?_ | refine j_aload_nN dX6_says_25 rfl ?_
    refine j_getR dX6_says_26 fl_X6_36 rfl (by first | exact Pv.sh hR | assumption) (by first | exact Pv.r3 hR | assumption) ?_
    first | refine j_aload_n dX6_says_29 rfl ?_ | refine j_aload_nN dX6_says_29 rfl ?_
    refine j_getR dX6_says_30 fl_X6_19 rfl (by first | exact Pv.sh hR | assumption) (by first | exact Pv.r1 hR | assumption) ?_
    refine j_iload_n dX6_says_33 rfl ?_
    refine j_aald (t := 27) dX6_says_34 (fun _ => rfl) (by decide) (by first | exact Pe.sl hp | exact Pe.sa hp | exact Pe.sl hq | exact Pe.sa hq | exact Pv.sw hR | exact Pv.sp hR | exact Pv.sd hR | assumption) rfl (by omega) (by decide) (by first | exact Pv.rw hR (by omega) | exact Pv.rp hR (by omega) | exact Pv.rd hR (by omega) | assumption) ?_
    refine j_iload_n dX6_says_35 rfl ?_
    first | refine j_aload_n dX6_says_36 rfl ?_ | refine j_aload_nN dX6_says_36 rfl ?_
    refine j_getR dX6_says_37 fl_X6_19 rfl (by first | exact Pv.sh hR | assumption) (by first | exact Pv.r1 hR | assumption) ?_
    refine j_iload_n dX6_says_40 rfl ?_
    refine j_aald (t := 27) dX6_says_41 (fun _ => rfl) (by decide) (by first | exact Pe.sl hp | exact Pe.sa hp | exact Pe.sl hq | exact Pe.sa hq | exact Pv.sw hR | exact Pv.sp hR | exact Pv.sd hR | assumption) rfl (by omega) (by decide) (by first | exact Pv.rw hR (by omega) | exact Pv.rp hR (by omega) | exact Pv.rd hR (by omega) | assumption) ?_
    refine j_dV0 kl_X6_107 (x_does hL hp hq (by omega) (by omega)) dX6_says_42 rfl rfl (by decide) (by first | exact Pv.sy hR | assumption) (Nat.le_of_ble_eq_true rfl) (by first | decide | omega) (by omega) (by omega) ?_
    refine j_iconst (v := nI 1) dX6_says_45 (by decide +kernel) ?_
    refine j_iret dX6_says_46 ⟨_, rfl, rfl⟩ (by omega) (by omega) ?_
    exact ⟨by rw [c_20]; rfl, by rw [mSays, c_20]; rfl⟩
  · refine j_iconst (v := nI 0) dX6_says_23 (by decide +kernel) ?_
    refine j_iret dX6_says_24 ⟨_, rfl, rfl⟩ (by omega) (by omega) ?_
    exact ⟨by rw [c_20]; rfl, by rw [mSays, c_20]; rfl⟩
theorem x_haveHalves (hR : Pv σ L A C W P Dn Hn) (hW : C 0 = nI W) (hW8 : W ≤ 8) (set : Int32) : Kd g l 1 MX6_haveHalves [.ref (A 0), .int set] (put σ L C) (some (.int (bI (xHave C W Hn set)))) (put σ L C) := by
  have hL := hR.inj
  refine Kt.go (Y := MX6_haveHalves) (ls := [some (.ref (A 0)), some (.int set), none]) (by decide) (Nat.le_of_ble_eq_true rfl) rfl ?_
  have key : ∀ j, j ≤ W → allB (xHaveB C Hn set) j = true → Td g l 1 MX6_haveHalves [.ref (A 0), .int set] (put σ L C) (some (.int (bI (xHave C W Hn set)))) 2 [some (.ref (A 0)), some (.int set), some (.int (nI j))] [] (put σ L C) := by
    refine loop_up fun j hj ih => ?_
    intro hb
    refine j_iload_n dX6_haveHalves_2 rfl ?_
    first | refine j_aload_n dX6_haveHalves_3 rfl ?_ | refine j_aload_nN dX6_haveHalves_3 rfl ?_
    refine j_getI dX6_haveHalves_4 fl_X6_56 rfl (by first | exact Pv.sh hR | assumption) (by first | exact pg (Pv.li hR 4 0 rfl (by decide)) | assumption) ?_
    rw [hW]
    first | (with_reducible refine j_gNN ?_; refine j_icmp_geN (tgt := 40) dX6_haveHalves_7 (by decide) (by omega) (by omega) (fun c_7 => ?_) (fun c_7 => ?_)) | refine j_icmp_ge (tgt := 40) dX6_haveHalves_7 (by decide) (fun c_7 => ?_) (fun c_7 => ?_)
    · refine j_iconst (v := nI 0) dX6_haveHalves_40 (by decide +kernel) ?_
      refine j_iret dX6_haveHalves_41 ⟨_, rfl, rfl⟩ (by omega) (by omega) ?_
      have e : j = W := by omega
      subst e
      exact ⟨by rw [xHave, hb]; rfl, rfl⟩
    · refine j_iload_n dX6_haveHalves_10 rfl ?_
      refine j_iload_n dX6_haveHalves_11 rfl ?_
      refine j_dSN1 kl_X6_92 (k_isIn _ _ _ _ j) dX6_haveHalves_12 rfl rfl (Nat.le_of_ble_eq_true rfl) (by first | decide | omega) (by omega) (by omega) ?_
      first | (with_reducible refine j_gB ?_; refine j_if_eqB (tgt := 34) dX6_haveHalves_15 (by decide) (fun c_15 => ?_) (fun c_15 => ?_)) | (with_reducible refine j_gC ?_; refine j_if_eqC (tgt := 34) dX6_haveHalves_15 (by decide) (fun c_15 => ?_) (fun c_15 => ?_)) | (with_reducible refine j_gN ?_; refine j_if_eqN (tgt := 34) dX6_haveHalves_15 (by decide) (by omega) (fun c_15 => ?_) (fun c_15 => ?_)) | refine j_if_eq (tgt := 34) dX6_haveHalves_15 (by decide) (fun c_15 => ?_) (fun c_15 => ?_)
      · first | refine j_iincN dX6_haveHalves_34 rfl (by decide) ?_ | refine j_iinc dX6_haveHalves_34 rfl rfl (by decide) ?_
        refine j_goto (tgt := 2) dX6_haveHalves_37 (by decide) ?_
        first
        | exact ih (by omega) (by rw [allB, hb, xHaveB, c_15]; rfl)
        | exact ih (by omega) (by rw [allB, hb, xHaveB, c_15, decide_eq_true c_29]; rfl)
      · first | refine j_aload_n dX6_haveHalves_18 rfl ?_ | refine j_aload_nN dX6_haveHalves_18 rfl ?_
        refine j_getR dX6_haveHalves_19 fl_X6_11 rfl (by first | exact Pv.sh hR | assumption) (by first | exact Pv.r0 hR | assumption) ?_
        refine j_iload_n dX6_haveHalves_22 rfl ?_
        refine j_aald (t := 26) dX6_haveHalves_23 (fun _ => rfl) (by decide) (by first | exact Pe.sl hp | exact Pe.sa hp | exact Pe.sl hq | exact Pe.sa hq | exact Pv.sw hR | exact Pv.sp hR | exact Pv.sd hR | assumption) rfl (by omega) (by decide) (by first | exact Pv.rw hR (by omega) | exact Pv.rp hR (by omega) | exact Pv.rd hR (by omega) | assumption) ?_
        refine j_getI dX6_haveHalves_24 fl_X6_147 rfl (by first | exact Pv.ws hR (by omega) | assumption) (by first | exact Pv.w3 hR (by omega) | assumption) ?_
        refine j_iload_n dX6_haveHalves_27 rfl ?_
        refine j_iand dX6_haveHalves_28 ?_
        first | (with_reducible refine j_gB ?_; refine j_if_eqB (tgt := 34) dX6_haveHalves_29 (by decide) (fun c_29 => ?_) (fun c_29 => ?_)) | (with_reducible refine j_gC ?_; refine j_if_eqC (tgt := 34) dX6_haveHalves_29 (by decide) (fun c_29 => ?_) (fun c_29 => ?_)) | (with_reducible refine j_gN ?_; refine j_if_eqN (tgt := 34) dX6_haveHalves_29 (by decide) (by omega) (fun c_29 => ?_) (fun c_29 => ?_)) | refine j_if_eq (tgt := 34) dX6_haveHalves_29 (by decide) (fun c_29 => ?_) (fun c_29 => ?_)
        · first | refine j_iincN dX6_haveHalves_34 rfl (by decide) ?_ | refine j_iinc dX6_haveHalves_34 rfl rfl (by decide) ?_
          refine j_goto (tgt := 2) dX6_haveHalves_37 (by decide) ?_
          first
          | exact ih (by omega) (by rw [allB, hb, xHaveB, c_15]; rfl)
          | exact ih (by omega) (by rw [allB, hb, xHaveB, c_15, decide_eq_true c_29]; rfl)
        · refine j_iconst (v := nI 1) dX6_haveHalves_32 (by decide +kernel) ?_
          refine j_iret dX6_haveHalves_33 ⟨_, rfl, rfl⟩ (by omega) (by omega) ?_
          exact ⟨by
            have z : allB (xHaveB C Hn set) (j + 1) = false := by rw [allB, hb, xHaveB, c_15, decide_eq_false c_29]; rfl
            rw [xHave, allB_le z (by omega)]; rfl, rfl⟩
  refine j_iconst (v := nI 0) dX6_haveHalves_0 (by decide +kernel) ?_
  refine j_istore_n dX6_haveHalves_1 (by decide) ?_
  exact key 0 (by omega) rfl
end X4
