/-! X: WORDS, PERSONS, SAYINGS -/
set_option maxRecDepth 100000
section ACM
variable {g : Gx} {l : Launch} {d : Nat} {Y : Mi} {av : List Value} {mc ms : Nat} {Qr : Option Value → Sg → Prop} {Qx : Nat → String → Sg → Prop} {c0 n0 pc : Nat} {ls : List (Option Value)} {st : List Value} {σ : Sg}
theorem j_acmpR {x y : Nat} {off : Int} {tgt : Nat} (hd : decode Y.2.1 pc = .ok (.if_acmp .eq off, 3)) (ht : (pc : Int) + off = (tgt : Int)) (kt : x = y → Tj g l d Y av mc ms Qr Qx c0 n0 tgt ls st σ) (kf : ¬ x = y → Tj g l d Y av mc ms Qr Qx c0 n0 (pc + 3) ls st σ) : Tj g l d Y av mc ms Qr Qx c0 n0 pc ls (.ref y :: .ref x :: st) σ :=
  j_acmpeq (rx := some x) (ry := some y) hd ht (fun q => kt (Option.some.inj q)) (fun q => kf (fun e => q (by rw [e])))
end ACM
def moreI (r y age days : Int32) : Int32 := r * mx (nI 0) (mn days (y - age))
section X2
variable {g : Gx} {l : Launch} {σ τ : Sg} {L : Nat → Nat → Option Nat} {b la aa p b2 la2 aa2 q aw W k : Nat} {wA : Nat → Nat} {C : Nat → Int32}
theorem x_moreIn {w : Nat} {r y : Int32} (hs : τ.1 w = some (10, 0)) (h1 : τ.2.1 w 1 = r) (h2 : τ.2.1 w 2 = y) (age days : Int32) : Kd g l 1 MX10_moreIn [.ref w, .int age, .int days] τ (some (.int (moreI r y age days))) τ := by
  refine Kt.go (Y := MX10_moreIn) (ls := [some (.ref w), some (.int age), some (.int days)]) (by decide) (Nat.le_of_ble_eq_true rfl) rfl ?_
  first | refine j_aload_n dX10_moreIn_0 rfl ?_ | refine j_aload_nN dX10_moreIn_0 rfl ?_
  refine j_getI dX10_moreIn_1 fl_X10_7 rfl (by first | assumption) (by first | assumption) ?_
  refine j_iconst (v := nI 0) dX10_moreIn_4 (by decide +kernel) ?_
  refine j_iload_n dX10_moreIn_5 rfl ?_
  first | refine j_aload_n dX10_moreIn_6 rfl ?_ | refine j_aload_nN dX10_moreIn_6 rfl ?_
  refine j_getI dX10_moreIn_7 fl_X10_13 rfl (by first | assumption) (by first | assumption) ?_
  refine j_iload_n dX10_moreIn_10 rfl ?_
  refine j_isub dX10_moreIn_11 ?_
  refine j_min dX10_moreIn_12 q1190 q783 q194 q784 (Nat.le_of_ble_eq_true rfl) (by omega) (by omega) ?_
  refine j_max dX10_moreIn_15 q1191 q1192 q194 q1193 (Nat.le_of_ble_eq_true rfl) (by omega) (by omega) ?_
  first | (with_reducible refine j_gNN ?_; refine j_imulN dX10_moreIn_18 ?_) | refine j_imul dX10_moreIn_18 ?_
  refine j_iret dX10_moreIn_19 ⟨_, rfl, rfl⟩ (by omega) (by omega) ?_
  exact ⟨rfl, rfl⟩
theorem x_lengthIn {w : Nat} {r y : Int32} (hs : τ.1 w = some (10, 0)) (h1 : τ.2.1 w 1 = r) (h2 : τ.2.1 w 2 = y) (days : Int32) : Kd g l 1 MX10_lengthIn [.ref w, .int days] τ (some (.int (r * mn days y))) τ := by
  refine Kt.go (Y := MX10_lengthIn) (ls := [some (.ref w), some (.int days)]) (by decide) (Nat.le_of_ble_eq_true rfl) rfl ?_
  first | refine j_aload_n dX10_lengthIn_0 rfl ?_ | refine j_aload_nN dX10_lengthIn_0 rfl ?_
  refine j_getI dX10_lengthIn_1 fl_X10_7 rfl (by first | assumption) (by first | assumption) ?_
  refine j_iload_n dX10_lengthIn_4 rfl ?_
  first | refine j_aload_n dX10_lengthIn_5 rfl ?_ | refine j_aload_nN dX10_lengthIn_5 rfl ?_
  refine j_getI dX10_lengthIn_6 fl_X10_13 rfl (by first | assumption) (by first | assumption) ?_
  refine j_min dX10_lengthIn_9 q1190 q783 q194 q784 (Nat.le_of_ble_eq_true rfl) (by omega) (by omega) ?_
  first | (with_reducible refine j_gNN ?_; refine j_imulN dX10_lengthIn_12 ?_) | refine j_imul dX10_lengthIn_12 ?_
  refine j_iret dX10_lengthIn_13 ⟨_, rfl, rfl⟩ (by omega) (by omega) ?_
  exact ⟨rfl, rfl⟩
theorem x_hair (hL : Linj L) (hp : Pe L σ b la aa p) (hW8 : W ≤ 8) (hK : KW C W p) : Kd g l 1 MX8_hair [.ref b] (put σ L C) (some (.int (mHair C W p))) (put σ L C) := by
  refine Kt.go (Y := MX8_hair) (ls := [some (.ref b), none, none]) (by decide) (Nat.le_of_ble_eq_true rfl) rfl ?_
  have key : ∀ j, j ≤ 8 → ∀ a, a = sumTo (hairF C p) j → Td g l 1 MX8_hair [.ref b] (put σ L C) (some (.int (mHair C W p))) 4 [some (.ref b), some (.int a), some (.int (nI j))] [] (put σ L C) := by
    refine loop_up fun j hj ih => ?_
    intro a ha
    refine j_iload_n dX8_hair_4 rfl ?_
    refine j_bipush (v := nI 8) dX8_hair_5 (by decide +kernel) ?_
    first | (with_reducible refine j_gNN ?_; refine j_icmp_geN (tgt := 40) dX8_hair_7 (by decide) (by omega) (by omega) (fun c_7 => ?_) (fun c_7 => ?_)) | refine j_icmp_ge (tgt := 40) dX8_hair_7 (by decide) (fun c_7 => ?_) (fun c_7 => ?_)
    · refine j_iload_n dX8_hair_40 rfl ?_
      refine j_iret dX8_hair_41 ⟨_, rfl, rfl⟩ (by omega) (by omega) ?_
      exact ⟨by rw [ha, show j = 8 by omega, mHair8 hW8 hK], rfl⟩
    · refine j_iload_n dX8_hair_10 rfl ?_
      first | refine j_aload_n dX8_hair_11 rfl ?_ | refine j_aload_nN dX8_hair_11 rfl ?_
      refine j_getI dX8_hair_12 fl_X8_42 rfl (by first | exact Pe.sh hp | assumption) (by first | exact pg (Pe.l5 hp) | assumption) ?_
      refine j_iload_n dX8_hair_15 rfl ?_
      refine j_dSN1 kl_X8_49 (k_isIn _ _ _ _ j) dX8_hair_16 rfl rfl (Nat.le_of_ble_eq_true rfl) (by first | decide | omega) (by omega) (by omega) ?_
      first | (with_reducible refine j_gB ?_; refine j_if_eqB (tgt := 31) dX8_hair_19 (by decide) (fun c_19 => ?_) (fun c_19 => ?_)) | (with_reducible refine j_gC ?_; refine j_if_eqC (tgt := 31) dX8_hair_19 (by decide) (fun c_19 => ?_) (fun c_19 => ?_)) | (with_reducible refine j_gN ?_; refine j_if_eqN (tgt := 31) dX8_hair_19 (by decide) (by omega) (fun c_19 => ?_) (fun c_19 => ?_)) | refine j_if_eq (tgt := 31) dX8_hair_19 (by decide) (fun c_19 => ?_) (fun c_19 => ?_)
      · refine j_iconst (v := nI 0) dX8_hair_31 (by decide +kernel) ?_
        first | (with_reducible refine j_gNN ?_; refine j_iaddN dX8_hair_32 ?_) | refine j_iadd dX8_hair_32 ?_
        refine j_istore_n dX8_hair_33 (by decide) ?_
        first | refine j_iincN dX8_hair_34 rfl (by decide) ?_ | refine j_iinc dX8_hair_34 rfl rfl (by decide) ?_
        refine j_goto (tgt := 4) dX8_hair_37 (by decide) ?_
        exact ih (by omega) _ (by rw [ha, sumTo, hairF, c_19]; rfl)
      · first | refine j_aload_n dX8_hair_22 rfl ?_ | refine j_aload_nN dX8_hair_22 rfl ?_
        refine j_getR dX8_hair_23 fl_X8_9 rfl (by first | exact Pe.sh hp | assumption) (by first | exact Pe.r1 hp | assumption) ?_
        refine j_iload_n dX8_hair_26 rfl ?_
        refine j_iald dX8_hair_27 (by first | exact Pe.sl hp | exact Pe.sa hp | assumption) rfl (by omega) (by decide) (by first | exact pg (Pe.ll hp (by omega)) | exact pg (Pe.lg hp (by omega)) | assumption) ?_
        refine j_goto (tgt := 32) dX8_hair_28 (by decide) ?_
        first | (with_reducible refine j_gNN ?_; refine j_iaddN dX8_hair_32 ?_) | refine j_iadd dX8_hair_32 ?_
        refine j_istore_n dX8_hair_33 (by decide) ?_
        first | refine j_iincN dX8_hair_34 rfl (by decide) ?_ | refine j_iinc dX8_hair_34 rfl rfl (by decide) ?_
        refine j_goto (tgt := 4) dX8_hair_37 (by decide) ?_
        exact ih (by omega) _ (by rw [ha, sumTo, hairF, c_19]; rfl)
  refine j_iconst (v := nI 0) dX8_hair_0 (by decide +kernel) ?_
  refine j_istore_n dX8_hair_1 (by decide) ?_
  refine j_iconst (v := nI 0) dX8_hair_2 (by decide +kernel) ?_
  refine j_istore_n dX8_hair_3 (by decide) ?_
  exact key 0 (by omega) _ rfl
theorem x_longestOf (hL : Linj L) (hp : Pe L σ b la aa p) (hW8 : W ≤ 8) (hK : KW C W p) {w set : Int32} (hset : ∀ j, j < 8 → hs (C (43 + p) &&& w) j = (hs (C (43 + p)) j && hs set j)) : Kd g l 1 MX8_longestOf [.ref b, .int w] (put σ L C) (some (.int (oI (mLongest C W p set)))) (put σ L C) := by
  refine Kt.go (Y := MX8_longestOf) (ls := [some (.ref b), some (.int w), none, none]) (by decide) (Nat.le_of_ble_eq_true rfl) rfl ?_
  have key : ∀ j, j ≤ 8 → ∀ a o, o = lgo C p set j → a = oI o → Td g l 1 MX8_longestOf [.ref b, .int w] (put σ L C) (some (.int (oI (mLongest C W p set)))) 4 [some (.ref b), some (.int w), some (.int a), some (.int (nI j))] [] (put σ L C) := by
    refine loop_up fun j hj ih => ?_
    intro a o ho ha
    refine j_iload_n dX8_longestOf_4 rfl ?_
    refine j_bipush (v := nI 8) dX8_longestOf_5 (by decide +kernel) ?_
    first | (with_reducible refine j_gNN ?_; refine j_icmp_geN (tgt := 51) dX8_longestOf_7 (by decide) (by omega) (by omega) (fun c_7 => ?_) (fun c_7 => ?_)) | refine j_icmp_ge (tgt := 51) dX8_longestOf_7 (by decide) (fun c_7 => ?_) (fun c_7 => ?_)
    · refine j_iload_n dX8_longestOf_51 rfl ?_
      refine j_iret dX8_longestOf_52 ⟨_, rfl, rfl⟩ (by omega) (by omega) ?_
      exact ⟨by rw [ha, ho, show j = 8 by omega, lgo8 hK 8 hW8 (by omega)]; rfl, rfl⟩
    · first | refine j_aload_n dX8_longestOf_10 rfl ?_ | refine j_aload_nN dX8_longestOf_10 rfl ?_
      refine j_getI dX8_longestOf_11 fl_X8_42 rfl (by first | exact Pe.sh hp | assumption) (by first | exact pg (Pe.l5 hp) | assumption) ?_
      refine j_iload_n dX8_longestOf_14 rfl ?_
      refine j_iand dX8_longestOf_15 ?_
      refine j_iload_n dX8_longestOf_16 rfl ?_
      refine j_dSN1 kl_X8_49 (k_isIn _ _ _ _ j) dX8_longestOf_17 rfl rfl (Nat.le_of_ble_eq_true rfl) (by first | decide | omega) (by omega) (by omega) ?_
      rw [hset j (by omega)]
      first | (with_reducible refine j_gB ?_; refine j_if_eqB (tgt := 45) dX8_longestOf_20 (by decide) (fun c_20 => ?_) (fun c_20 => ?_)) | (with_reducible refine j_gC ?_; refine j_if_eqC (tgt := 45) dX8_longestOf_20 (by decide) (fun c_20 => ?_) (fun c_20 => ?_)) | (with_reducible refine j_gN ?_; refine j_if_eqN (tgt := 45) dX8_longestOf_20 (by decide) (by omega) (fun c_20 => ?_) (fun c_20 => ?_)) | refine j_if_eq (tgt := 45) dX8_longestOf_20 (by decide) (fun c_20 => ?_) (fun c_20 => ?_)
      · first | refine j_iincN dX8_longestOf_45 rfl (by decide) ?_ | refine j_iinc dX8_longestOf_45 rfl rfl (by decide) ?_
        refine j_goto (tgt := 4) dX8_longestOf_48 (by decide) ?_
        exact ih (by omega) _ _ (by rw [lgo, if_neg (fun q => by rw [q.1, q.2.1] at c_20; cases c_20)]; exact ho) ha
      · have c2 := Bool.and_eq_true_iff.mp c_20
        rcases o with _ | i
        · refine j_iload_n dX8_longestOf_23 rfl ?_
          refine j_iconst (v := -1) dX8_longestOf_24 (by decide +kernel) ?_
          first | (with_reducible refine j_gNN ?_; refine j_icmp_eqN (tgt := 43) dX8_longestOf_25 (by decide) (by omega) (by omega) (fun c_25 => ?_) (fun c_25 => ?_)) | refine j_icmp_eq (tgt := 43) dX8_longestOf_25 (by decide) (fun c_25 => ?_) (fun c_25 => ?_)
          · refine j_iload_n dX8_longestOf_43 rfl ?_
            refine j_istore_n dX8_longestOf_44 (by decide) ?_
            first | refine j_iincN dX8_longestOf_45 rfl (by decide) ?_ | refine j_iinc dX8_longestOf_45 rfl rfl (by decide) ?_
            refine j_goto (tgt := 4) dX8_longestOf_48 (by decide) ?_
            exact ih (by omega) _ (some j) (by rw [lgo, if_pos ⟨c2.1, c2.2, fun i hi => by rw [← ho] at hi; cases hi⟩]) rfl
          · exact absurd ha c_25
        · have hi : i < j := lgo_lt j i ho.symm
          have ha : a = nI i := ha
          subst ha
          refine j_iload_n dX8_longestOf_23 rfl ?_
          refine j_iconst (v := -1) dX8_longestOf_24 (by decide +kernel) ?_
          first | (with_reducible refine j_gNN ?_; refine j_icmp_eqN (tgt := 43) dX8_longestOf_25 (by decide) (by omega) (by omega) (fun c_25 => ?_) (fun c_25 => ?_)) | refine j_icmp_eq (tgt := 43) dX8_longestOf_25 (by decide) (fun c_25 => ?_) (fun c_25 => ?_)
          · exact absurd c_25 (nI_m1 (by omega))
          · first | refine j_aload_n dX8_longestOf_28 rfl ?_ | refine j_aload_nN dX8_longestOf_28 rfl ?_
            refine j_getR dX8_longestOf_29 fl_X8_9 rfl (by first | exact Pe.sh hp | assumption) (by first | exact Pe.r1 hp | assumption) ?_
            refine j_iload_n dX8_longestOf_32 rfl ?_
            refine j_iald dX8_longestOf_33 (by first | exact Pe.sl hp | exact Pe.sa hp | assumption) rfl (by omega) (by decide) (by first | exact pg (Pe.ll hp (by omega)) | exact pg (Pe.lg hp (by omega)) | assumption) ?_
            first | refine j_aload_n dX8_longestOf_34 rfl ?_ | refine j_aload_nN dX8_longestOf_34 rfl ?_
            refine j_getR dX8_longestOf_35 fl_X8_9 rfl (by first | exact Pe.sh hp | assumption) (by first | exact Pe.r1 hp | assumption) ?_
            refine j_iload_n dX8_longestOf_38 rfl ?_
            refine j_iald dX8_longestOf_39 (by first | exact Pe.sl hp | exact Pe.sa hp | assumption) rfl (by omega) (by decide) (by first | exact pg (Pe.ll hp (by omega)) | exact pg (Pe.lg hp (by omega)) | assumption) ?_
            first | (with_reducible refine j_gNN ?_; refine j_icmp_leN (tgt := 45) dX8_longestOf_40 (by decide) (by omega) (by omega) (fun c_40 => ?_) (fun c_40 => ?_)) | refine j_icmp_le (tgt := 45) dX8_longestOf_40 (by decide) (fun c_40 => ?_) (fun c_40 => ?_)
            · first | refine j_iincN dX8_longestOf_45 rfl (by decide) ?_ | refine j_iinc dX8_longestOf_45 rfl rfl (by decide) ?_
              refine j_goto (tgt := 4) dX8_longestOf_48 (by decide) ?_
              exact ih (by omega) _ (some i) (by rw [lgo, if_neg (fun q => absurd (q.2.2 i ho.symm) (Int32.not_lt.mpr c_40))]; exact ho) rfl
            · refine j_iload_n dX8_longestOf_43 rfl ?_
              refine j_istore_n dX8_longestOf_44 (by decide) ?_
              first | refine j_iincN dX8_longestOf_45 rfl (by decide) ?_ | refine j_iinc dX8_longestOf_45 rfl rfl (by decide) ?_
              refine j_goto (tgt := 4) dX8_longestOf_48 (by decide) ?_
              exact ih (by omega) _ (some j) (by rw [lgo, if_pos ⟨c2.1, c2.2, fun i2 hi2 => by rw [← ho] at hi2; cases hi2; exact Int32.not_le.mp c_40⟩]) rfl
  refine j_iconst (v := -1) dX8_longestOf_0 (by decide +kernel) ?_
  refine j_istore_n dX8_longestOf_1 (by decide) ?_
  refine j_iconst (v := nI 0) dX8_longestOf_2 (by decide +kernel) ?_
  refine j_istore_n dX8_longestOf_3 (by decide) ?_
  exact key 0 (by omega) _ none rfl rfl
theorem x_keeps (hL : Linj L) (hp : Pe L σ b la aa p) (hk : k < 8) : Kd g l 1 MX8_keeps [.ref b, .int (nI k)] (put σ L C) (some (.int (bI (mKeepB C p k)))) (put σ L (mKeep C p k)) := by
  refine Kt.go (Y := MX8_keeps) (ls := [some (.ref b), some (.int (nI k))]) (by decide) (Nat.le_of_ble_eq_true rfl) rfl ?_
  first | refine j_aload_n dX8_keeps_0 rfl ?_ | refine j_aload_nN dX8_keeps_0 rfl ?_
  refine j_getI dX8_keeps_1 fl_X8_39 rfl (by first | exact Pe.sh hp | assumption) (by first | exact pg (Pe.l4 hp) | assumption) ?_
  refine j_iload_n dX8_keeps_4 rfl ?_
  refine j_dSN1 kl_X8_49 (k_isIn _ _ _ _ k) dX8_keeps_5 rfl rfl (Nat.le_of_ble_eq_true rfl) (by first | decide | omega) (by omega) (by omega) ?_
  first | (with_reducible refine j_gB ?_; refine j_if_eqB (tgt := 22) dX8_keeps_8 (by decide) (fun c_8 => ?_) (fun c_8 => ?_)) | (with_reducible refine j_gC ?_; refine j_if_eqC (tgt := 22) dX8_keeps_8 (by decide) (fun c_8 => ?_) (fun c_8 => ?_)) | (with_reducible refine j_gN ?_; refine j_if_eqN (tgt := 22) dX8_keeps_8 (by decide) (by omega) (fun c_8 => ?_) (fun c_8 => ?_)) | refine j_if_eq (tgt := 22) dX8_keeps_8 (by decide) (fun c_8 => ?_) (fun c_8 => ?_)
  · refine j_iconst (v := nI 0) dX8_keeps_22 (by decide +kernel) ?_
    refine j_iret dX8_keeps_23 ⟨_, rfl, rfl⟩ (by omega) (by omega) ?_
    have e : mKeepB C p k = false := by simp [mKeepB, *]
    exact ⟨by rw [e]; rfl, by rw [mKeep, e]; rfl⟩
  · first | refine j_aload_n dX8_keeps_11 rfl ?_ | refine j_aload_nN dX8_keeps_11 rfl ?_
    refine j_getI dX8_keeps_12 fl_X8_42 rfl (by first | exact Pe.sh hp | assumption) (by first | exact pg (Pe.l5 hp) | assumption) ?_
    refine j_iload_n dX8_keeps_15 rfl ?_
    refine j_dSN1 kl_X8_49 (k_isIn _ _ _ _ k) dX8_keeps_16 rfl rfl (Nat.le_of_ble_eq_true rfl) (by first | decide | omega) (by omega) (by omega) ?_
    first | (with_reducible refine j_gB ?_; refine j_if_eqB (tgt := 24) dX8_keeps_19 (by decide) (fun c_19 => ?_) (fun c_19 => ?_)) | (with_reducible refine j_gC ?_; refine j_if_eqC (tgt := 24) dX8_keeps_19 (by decide) (fun c_19 => ?_) (fun c_19 => ?_)) | (with_reducible refine j_gN ?_; refine j_if_eqN (tgt := 24) dX8_keeps_19 (by decide) (by omega) (fun c_19 => ?_) (fun c_19 => ?_)) | refine j_if_eq (tgt := 24) dX8_keeps_19 (by decide) (fun c_19 => ?_) (fun c_19 => ?_)
    · first | refine j_aload_n dX8_keeps_24 rfl ?_ | refine j_aload_nN dX8_keeps_24 rfl ?_
      refine j_dup dX8_keeps_25 rfl ?_
      refine j_getI dX8_keeps_26 fl_X8_42 rfl (by first | exact Pe.sh hp | assumption) (by first | exact pg (Pe.l5 hp) | assumption) ?_
      refine j_iconst (v := nI 1) dX8_keeps_29 (by decide +kernel) ?_
      refine j_iload_n dX8_keeps_30 rfl ?_
      refine j_ishl dX8_keeps_31 ?_
      refine j_ior dX8_keeps_32 ?_
      refine j_putI dX8_keeps_33 fl_X8_42 rfl (by first | exact Pe.sh hp | assumption) rfl rfl rfl ?_
      first | refine j_sg (put_w hL (Pe.l5 hp)) ?_ | skip
      first | refine j_aload_n dX8_keeps_36 rfl ?_ | refine j_aload_nN dX8_keeps_36 rfl ?_
      refine j_getR dX8_keeps_37 fl_X8_9 rfl (by first | exact Pe.sh hp | assumption) (by first | exact Pe.r1 hp | assumption) ?_
      refine j_iload_n dX8_keeps_40 rfl ?_
      refine j_iconst (v := nI 0) dX8_keeps_41 (by decide +kernel) ?_
      refine j_iast dX8_keeps_42 (by first | exact Pe.sl hp | exact Pe.sa hp | assumption) rfl (by omega) (by decide) ?_
      first | refine j_sg (put_w hL (Pe.ll hp (by omega))) ?_ | refine j_sg (put_w hL (Pe.lg hp (by omega))) ?_ | skip
      first | refine j_aload_n dX8_keeps_43 rfl ?_ | refine j_aload_nN dX8_keeps_43 rfl ?_
      refine j_getR dX8_keeps_44 fl_X8_15 rfl (by first | exact Pe.sh hp | assumption) (by first | exact Pe.r2 hp | assumption) ?_
      refine j_iload_n dX8_keeps_47 rfl ?_
      refine j_iconst (v := nI 0) dX8_keeps_48 (by decide +kernel) ?_
      refine j_iast dX8_keeps_49 (by first | exact Pe.sl hp | exact Pe.sa hp | assumption) rfl (by omega) (by decide) ?_
      first | refine j_sg (put_w hL (Pe.ll hp (by omega))) ?_ | refine j_sg (put_w hL (Pe.lg hp (by omega))) ?_ | skip
      refine j_iconst (v := nI 1) dX8_keeps_50 (by decide +kernel) ?_
      refine j_iret dX8_keeps_51 ⟨_, rfl, rfl⟩ (by omega) (by omega) ?_
      have e : mKeepB C p k = true := by simp [mKeepB, *]
      exact ⟨by rw [e]; rfl, by rw [mKeep, e]; rfl⟩
    · refine j_iconst (v := nI 0) dX8_keeps_22 (by decide +kernel) ?_
      refine j_iret dX8_keeps_23 ⟨_, rfl, rfl⟩ (by omega) (by omega) ?_
      have e : mKeepB C p k = false := by simp [mKeepB, *]
      exact ⟨by rw [e]; rfl, by rw [mKeep, e]; rfl⟩
theorem x_can {s0 : Nat} (hL : Linj L) (hp : Pe L σ b la aa p) (hq : Pe L σ b2 la2 aa2 q) : Kd g l 1 MX4_can [.ref s0, .ref b, .int (nI k), .ref b2] (put σ L C) (some (.int (bI (mSaysB C p k q)))) (put σ L C) := by
  have ebp : b = b2 → p = q := fun e => by
    have h1 := hp.l3
    rw [e, hq.l3] at h1
    have := Option.some.inj h1
    omega
  have epb : p = q → b = b2 := fun e => by
    subst e
    exact (hL _ _ _ _ _ hp.l3 hq.l3).1
  refine Kt.go (Y := MX4_can) (ls := [some (.ref s0), some (.ref b), some (.int (nI k)), some (.ref b2)]) (by decide) (Nat.le_of_ble_eq_true rfl) rfl ?_
  first | refine j_aload_n dX4_can_0 rfl ?_ | refine j_aload_nN dX4_can_0 rfl ?_
  first | refine j_aload_n dX4_can_1 rfl ?_ | refine j_aload_nN dX4_can_1 rfl ?_
  refine j_acmpR (tgt := 31) dX4_can_2 (by decide) (fun c_2 => ?_) (fun c_2 => ?_)
  · refine j_iconst (v := nI 0) dX4_can_31 (by decide +kernel) ?_
    refine j_iret dX4_can_32 ⟨_, rfl, rfl⟩ (by omega) (by omega) ?_
    first
    | (have e : mSaysB C p k q = true := by simp [mSaysB, *]; done
       exact ⟨by rw [e]; rfl, rfl⟩)
    | (have e : mSaysB C p k q = true := by
         have : ¬ p = q := fun z => c_2 (epb z)
         simp [mSaysB, *]
       exact ⟨by rw [e]; rfl, rfl⟩)
    | (have e : mSaysB C p k q = false := by
         first
         | (have := ebp c_2; simp [mSaysB, *]; done)
         | (simp [mSaysB, *]; done)
       exact ⟨by rw [e]; rfl, rfl⟩)
  · first | refine j_aload_n dX4_can_5 rfl ?_ | refine j_aload_nN dX4_can_5 rfl ?_
    refine j_getI dX4_can_6 fl_X4_7 rfl (by first | exact Pe.sh hp | exact Pe.sh hq | assumption) (by first | exact pg (Pe.l5 hp) | exact pg (Pe.l5 hq) | assumption) ?_
    refine j_iload_n dX4_can_9 rfl ?_
    refine j_dSN1 kl_X4_13 (k_isIn _ _ _ _ k) dX4_can_10 rfl rfl (Nat.le_of_ble_eq_true rfl) (by first | decide | omega) (by omega) (by omega) ?_
    first | (with_reducible refine j_gB ?_; refine j_if_eqB (tgt := 31) dX4_can_13 (by decide) (fun c_13 => ?_) (fun c_13 => ?_)) | (with_reducible refine j_gC ?_; refine j_if_eqC (tgt := 31) dX4_can_13 (by decide) (fun c_13 => ?_) (fun c_13 => ?_)) | (with_reducible refine j_gN ?_; refine j_if_eqN (tgt := 31) dX4_can_13 (by decide) (by omega) (fun c_13 => ?_) (fun c_13 => ?_)) | refine j_if_eq (tgt := 31) dX4_can_13 (by decide) (fun c_13 => ?_) (fun c_13 => ?_)
    · refine j_iconst (v := nI 0) dX4_can_31 (by decide +kernel) ?_
      refine j_iret dX4_can_32 ⟨_, rfl, rfl⟩ (by omega) (by omega) ?_
      first
      | (have e : mSaysB C p k q = true := by simp [mSaysB, *]; done
         exact ⟨by rw [e]; rfl, rfl⟩)
      | (have e : mSaysB C p k q = true := by
           have : ¬ p = q := fun z => c_2 (epb z)
           simp [mSaysB, *]
         exact ⟨by rw [e]; rfl, rfl⟩)
      | (have e : mSaysB C p k q = false := by
           first
           | (have := ebp c_2; simp [mSaysB, *]; done)
           | (simp [mSaysB, *]; done)
         exact ⟨by rw [e]; rfl, rfl⟩)
    · first | refine j_aload_n dX4_can_16 rfl ?_ | refine j_aload_nN dX4_can_16 rfl ?_
      refine j_getI dX4_can_17 fl_X4_19 rfl (by first | exact Pe.sh hp | exact Pe.sh hq | assumption) (by first | exact pg (Pe.l4 hp) | exact pg (Pe.l4 hq) | assumption) ?_
      refine j_iload_n dX4_can_20 rfl ?_
      refine j_dSN1 kl_X4_13 (k_isIn _ _ _ _ k) dX4_can_21 rfl rfl (Nat.le_of_ble_eq_true rfl) (by first | decide | omega) (by omega) (by omega) ?_
      first | (with_reducible refine j_gB ?_; refine j_if_neB (tgt := 31) dX4_can_24 (by decide) (fun c_24 => ?_) (fun c_24 => ?_)) | (with_reducible refine j_gC ?_; refine j_if_neC (tgt := 31) dX4_can_24 (by decide) (fun c_24 => ?_) (fun c_24 => ?_)) | (with_reducible refine j_gN ?_; refine j_if_neN (tgt := 31) dX4_can_24 (by decide) (by omega) (fun c_24 => ?_) (fun c_24 => ?_)) | refine j_if_ne (tgt := 31) dX4_can_24 (by decide) (fun c_24 => ?_) (fun c_24 => ?_)
      · refine j_iconst (v := nI 0) dX4_can_31 (by decide +kernel) ?_
        refine j_iret dX4_can_32 ⟨_, rfl, rfl⟩ (by omega) (by omega) ?_
        first
        | (have e : mSaysB C p k q = true := by simp [mSaysB, *]; done
           exact ⟨by rw [e]; rfl, rfl⟩)
        | (have e : mSaysB C p k q = true := by
             have : ¬ p = q := fun z => c_2 (epb z)
             simp [mSaysB, *]
           exact ⟨by rw [e]; rfl, rfl⟩)
        | (have e : mSaysB C p k q = false := by
             first
             | (have := ebp c_2; simp [mSaysB, *]; done)
             | (simp [mSaysB, *]; done)
           exact ⟨by rw [e]; rfl, rfl⟩)
      · refine j_iconst (v := nI 1) dX4_can_27 (by decide +kernel) ?_
        refine j_goto (tgt := 32) dX4_can_28 (by decide) ?_
        refine j_iret dX4_can_32 ⟨_, rfl, rfl⟩ (by omega) (by omega) ?_
        first
        | (have e : mSaysB C p k q = true := by simp [mSaysB, *]; done
           exact ⟨by rw [e]; rfl, rfl⟩)
        | (have e : mSaysB C p k q = true := by
             have : ¬ p = q := fun z => c_2 (epb z)
             simp [mSaysB, *]
           exact ⟨by rw [e]; rfl, rfl⟩)
        | (have e : mSaysB C p k q = false := by
             first
             | (have := ebp c_2; simp [mSaysB, *]; done)
             | (simp [mSaysB, *]; done)
           exact ⟨by rw [e]; rfl, rfl⟩)
theorem x_does {s0 : Nat} (hL : Linj L) (hp : Pe L σ b la aa p) (hq : Pe L σ b2 la2 aa2 q) (hp6 : p < 6) (hq6 : q < 6) : Kd g l 0 MX4_does [.ref s0, .ref b, .int (nI k), .ref b2] (put σ L C) none (put σ L (mSaysC C p k q)) := by
  have e1 : up C (37 + q) (C (37 + q) ||| bt k) (43 + p) = C (43 + p) := up_ne (by omega)
  refine Kt.go (Y := MX4_does) (ls := [some (.ref s0), some (.ref b), some (.int (nI k)), some (.ref b2)]) (by decide) (Nat.le_of_ble_eq_true rfl) rfl ?_
  first | refine j_aload_n dX4_does_0 rfl ?_ | refine j_aload_nN dX4_does_0 rfl ?_
  refine j_dup dX4_does_1 rfl ?_
  refine j_getI dX4_does_2 fl_X4_19 rfl (by first | exact Pe.sh hp | exact Pe.sh hq | assumption) (by first | exact pg (Pe.l4 hp) | exact pg (Pe.l4 hq) | assumption) ?_
  refine j_iconst (v := nI 1) dX4_does_5 (by decide +kernel) ?_
  refine j_iload_n dX4_does_6 rfl ?_
  refine j_ishl dX4_does_7 ?_
  refine j_ior dX4_does_8 ?_
  refine j_putI dX4_does_9 fl_X4_19 rfl (by first | exact Pe.sh hp | exact Pe.sh hq | assumption) rfl rfl rfl ?_
  first | refine j_sg (put_w hL (Pe.l4 hp)) ?_ | refine j_sg (put_w hL (Pe.l4 hq)) ?_ | skip
  first | refine j_aload_n dX4_does_12 rfl ?_ | refine j_aload_nN dX4_does_12 rfl ?_
  refine j_dup dX4_does_13 rfl ?_
  refine j_getI dX4_does_14 fl_X4_7 rfl (by first | exact Pe.sh hp | exact Pe.sh hq | assumption) (by first | exact pg (Pe.l5 hp) | exact pg (Pe.l5 hq) | assumption) ?_
  refine j_iconst (v := nI 1) dX4_does_17 (by decide +kernel) ?_
  refine j_iload_n dX4_does_18 rfl ?_
  refine j_ishl dX4_does_19 ?_
  refine j_iconst (v := -1) dX4_does_20 (by decide +kernel) ?_
  refine j_ixor dX4_does_21 ?_
  refine j_iand dX4_does_22 ?_
  refine j_putI dX4_does_23 fl_X4_7 rfl (by first | exact Pe.sh hp | exact Pe.sh hq | assumption) rfl rfl rfl ?_
  first | refine j_sg (put_w hL (Pe.l5 hp)) ?_ | refine j_sg (put_w hL (Pe.l5 hq)) ?_ | skip
  refine j_vret dX4_does_26 rfl (by omega) (by omega) ?_
  exact ⟨rfl, by unfold mSaysC; rw [← e1]; rfl⟩
theorem x_tdoes {s0 : Nat} (hs5 : σ.1 s0 = some (5, 0)) (hL : Linj L) (hp : Pe L σ b la aa p) (hq : Pe L σ b2 la2 aa2 q) (hp6 : p < 6) (hq6 : q < 6) (hpq : p ≠ q) (hk : k < 8) {t : Nat} (ht : C (37 + q) = nI t) (ht8 : t < 256) (hn : hs (C (43 + q)) k = false) : Kd g l 2 MX5_does [.ref s0, .ref b, .int (nI k), .ref b2] (put σ L C) none (put σ L (mStrand (mSaysC C p k q) q k)) := by
  have e1 : mKeep (mSaysC C p k q) q k = mStrand (mSaysC C p k q) q k := by
    have a1 : mSaysC C p k q (37 + q) = nI t ||| bt k := by unfold mSaysC; rw [up_ne (by omega), up_eq, ht]
    have a2 : mSaysC C p k q (43 + q) = C (43 + q) := by unfold mSaysC; rw [up_ne (by omega), up_ne (by omega)]
    unfold mKeep mKeepB
    rw [a1, a2, hn, hs_orbt ht8 hk]
    rfl
  have hs' : (put σ L C).1 s0 = some (5, 0) := hs5
  refine Kt.go (Y := MX5_does) (ls := [some (.ref s0), some (.ref b), some (.int (nI k)), some (.ref b2)]) (by decide) (Nat.le_of_ble_eq_true rfl) rfl ?_
  first | refine j_aload_n dX5_does_0 rfl ?_ | refine j_aload_nN dX5_does_0 rfl ?_
  first | refine j_aload_n dX5_does_1 rfl ?_ | refine j_aload_nN dX5_does_1 rfl ?_
  refine j_iload_n dX5_does_2 rfl ?_
  first | refine j_aload_n dX5_does_3 rfl ?_ | refine j_aload_nN dX5_does_3 rfl ?_
  refine j_dSU0 (ci := 5) kl_X5_7 (x_does hL hp hq hp6 hq6) dX5_does_4 rfl rfl (by decide) (by first | assumption) (Nat.le_of_ble_eq_true rfl) (by first | decide | omega) (by omega) (by omega) ?_
  first | refine j_aload_n dX5_does_7 rfl ?_ | refine j_aload_nN dX5_does_7 rfl ?_
  refine j_iload_n dX5_does_8 rfl ?_
  refine j_dV1 kl_X5_11 (x_keeps hL hq hk) dX5_does_9 rfl rfl (by decide) (by first | exact Pe.sh hp | exact Pe.sh hq | assumption) (Nat.le_of_ble_eq_true rfl) (by first | decide | omega) (by omega) (by omega) ?_
  refine j_pop dX5_does_12 rfl ?_
  refine j_vret dX5_does_13 rfl (by omega) (by omega) ?_
  exact ⟨rfl, by rw [e1]⟩
theorem x_grows (hL : Linj L) (hp : Pe L σ b la aa p) (hw : Wo L σ aw wA C W) (hW : Wv C W) (hp6 : p < 6) (hP : Pp C W p) : Kd g l 2 MX8_grows [.ref b, .ref aw] (put σ L C) none (put σ L (mGrow C W p)) := by
  have hW8 := hW.1
  have hK := hP.kw hW8
  refine Kt.go (Y := MX8_grows) (ls := [some (.ref b), some (.ref aw), none]) (by decide) (Nat.le_of_ble_eq_true rfl) rfl ?_
  have key : ∀ j, j ≤ 8 → ∀ D, D = itr (grStep p) j C → Td g l 2 MX8_grows [.ref b, .ref aw] (put σ L (mGrow C W p)) none 2 [some (.ref b), some (.ref aw), some (.int (nI j))] [] (put σ L D) := by
    refine loop_up fun j hj ih => ?_
    intro D hD
    have hF : Fr C D := by rw [hD]; exact mGrow_fr hp6 j (by omega)
    have hkp : D (43 + p) = C (43 + p) := by rw [hD]; exact grItr_ne j fun k hk => by omega
    have hD8 : j = 8 → D = mGrow C W p := fun e => by rw [hD, e]; exact grItr8 hK hp6 8 hW8 (by omega)
    refine j_iload_n dX8_grows_2 rfl ?_
    refine j_bipush (v := nI 8) dX8_grows_3 (by decide +kernel) ?_
    first | (with_reducible refine j_gNN ?_; refine j_icmp_geN (tgt := 70) dX8_grows_5 (by decide) (by omega) (by omega) (fun c_5 => ?_) (fun c_5 => ?_)) | refine j_icmp_ge (tgt := 70) dX8_grows_5 (by decide) (fun c_5 => ?_) (fun c_5 => ?_)
    · refine j_vret dX8_grows_70 rfl (by omega) (by omega) ?_
      exact ⟨rfl, by rw [hD8 (by omega)]⟩
    · first | refine j_aload_n dX8_grows_8 rfl ?_ | refine j_aload_nN dX8_grows_8 rfl ?_
      refine j_getI dX8_grows_9 fl_X8_42 rfl (by first | exact Pe.sh hp | assumption) (by first | exact pg (Pe.l5 hp) | assumption) ?_
      refine j_iload_n dX8_grows_12 rfl ?_
      refine j_dSN1 kl_X8_49 (k_isIn _ _ _ _ j) dX8_grows_13 rfl rfl (Nat.le_of_ble_eq_true rfl) (by first | decide | omega) (by omega) (by omega) ?_
      first | (with_reducible refine j_gB ?_; refine j_if_neB (tgt := 22) dX8_grows_16 (by decide) (fun c_16 => ?_) (fun c_16 => ?_)) | (with_reducible refine j_gC ?_; refine j_if_neC (tgt := 22) dX8_grows_16 (by decide) (fun c_16 => ?_) (fun c_16 => ?_)) | (with_reducible refine j_gN ?_; refine j_if_neN (tgt := 22) dX8_grows_16 (by decide) (by omega) (fun c_16 => ?_) (fun c_16 => ?_)) | refine j_if_ne (tgt := 22) dX8_grows_16 (by decide) (fun c_16 => ?_) (fun c_16 => ?_)
      · have hjW : j < W := hK j (by omega) (by rw [← hkp]; exact c_16)
        have hPD : Pp D W p := by rw [hD]; exact grItr_pp hW hp6 hP j (by omega)
        obtain ⟨a, n, q1, q2, q3, q4⟩ := hPD.2 j (by omega)
        obtain ⟨r, y, w1, w2, w3, w4⟩ := hW.2 j hjW
        have hm : moreI (C (9 + j)) (C (17 + j)) (D (97 + 8 * p + j)) (nI 1) = if a < y then nI r else nI 0 := by rw [w1, w3, q1]; exact more1 w2 w4 q2
        have hst : up (up D (49 + 8 * p + j) (D (49 + 8 * p + j) + moreI (C (9 + j)) (C (17 + j)) (D (97 + 8 * p + j)) (nI 1))) (97 + 8 * p + j) (mn (nI 999) (up D (49 + 8 * p + j) (D (49 + 8 * p + j) + moreI (C (9 + j)) (C (17 + j)) (D (97 + 8 * p + j)) (nI 1)) (97 + 8 * p + j) + nI 1)) = grStep p j D := by
          rw [up_ne (show 97 + 8 * p + j ≠ 49 + 8 * p + j by omega), hm]
          have f1 := hF (9 + j) (by omega)
          have f2 := hF (17 + j) (by omega)
          unfold grStep
          rw [if_pos c_16, ← Nat.add_assoc, ← Nat.add_assoc, f1, f2, w1, w3, q1]
          by_cases e : a < y
          · rw [if_pos e, if_pos ((nI_ltI (by omega) (by omega)).mpr e)]
          · rw [if_neg e, if_neg (fun q => e ((nI_ltI (by omega) (by omega)).mp q)), nI_0, Int32.add_zero, up_self]
        first | refine j_aload_n dX8_grows_22 rfl ?_ | refine j_aload_nN dX8_grows_22 rfl ?_
        refine j_getR dX8_grows_23 fl_X8_9 rfl (by first | exact Pe.sh hp | assumption) (by first | exact Pe.r1 hp | assumption) ?_
        refine j_iload_n dX8_grows_26 rfl ?_
        refine j_dup2 dX8_grows_27 rfl rfl ?_
        refine j_iald dX8_grows_28 (by first | exact Pe.sl hp | exact Pe.sa hp | exact Wo.a hw | assumption) rfl (by omega) (by decide) (by first | exact pg (Pe.ll hp (by omega)) | exact pg (Pe.lg hp (by omega)) | assumption) ?_
        first | refine j_aload_n dX8_grows_29 rfl ?_ | refine j_aload_nN dX8_grows_29 rfl ?_
        refine j_iload_n dX8_grows_30 rfl ?_
        refine j_aald (t := 26) dX8_grows_31 (fun _ => rfl) (by decide) (by first | exact Pe.sl hp | exact Pe.sa hp | exact Wo.a hw | assumption) rfl (by omega) (by decide) (by first | exact Wo.r hw (by omega) | assumption) ?_
        first | refine j_aload_n dX8_grows_32 rfl ?_ | refine j_aload_nN dX8_grows_32 rfl ?_
        refine j_getR dX8_grows_33 fl_X8_15 rfl (by first | exact Pe.sh hp | assumption) (by first | exact Pe.r2 hp | assumption) ?_
        refine j_iload_n dX8_grows_36 rfl ?_
        refine j_iald dX8_grows_37 (by first | exact Pe.sl hp | exact Pe.sa hp | exact Wo.a hw | assumption) rfl (by omega) (by decide) (by first | exact pg (Pe.ll hp (by omega)) | exact pg (Pe.lg hp (by omega)) | assumption) ?_
        refine j_iconst (v := nI 1) dX8_grows_38 (by decide +kernel) ?_
        refine j_dV1 kl_X8_53 (x_moreIn (Wo.s hw hjW) (Wo.w1 hw hjW) (Wo.w2 hw hjW) _ _) dX8_grows_39 rfl rfl (by decide) (by first | exact Wo.s hw (by omega) | assumption) (Nat.le_of_ble_eq_true rfl) (by first | decide | omega) (by omega) (by omega) ?_
        first | (with_reducible refine j_gNN ?_; refine j_iaddN dX8_grows_42 ?_) | refine j_iadd dX8_grows_42 ?_
        refine j_iast dX8_grows_43 (by first | exact Pe.sl hp | exact Pe.sa hp | exact Wo.a hw | assumption) rfl (by omega) (by decide) ?_
        first | refine j_sg (put_w hL (Pe.ll hp (by omega))) ?_ | refine j_sg (put_w hL (Pe.lg hp (by omega))) ?_ | skip
        first | refine j_aload_n dX8_grows_44 rfl ?_ | refine j_aload_nN dX8_grows_44 rfl ?_
        refine j_getR dX8_grows_45 fl_X8_15 rfl (by first | exact Pe.sh hp | assumption) (by first | exact Pe.r2 hp | assumption) ?_
        refine j_iload_n dX8_grows_48 rfl ?_
        refine j_sipush (v := nI 999) dX8_grows_49 (by decide +kernel) ?_
        first | refine j_aload_n dX8_grows_52 rfl ?_ | refine j_aload_nN dX8_grows_52 rfl ?_
        refine j_getR dX8_grows_53 fl_X8_15 rfl (by first | exact Pe.sh hp | assumption) (by first | exact Pe.r2 hp | assumption) ?_
        refine j_iload_n dX8_grows_56 rfl ?_
        refine j_iald dX8_grows_57 (by first | exact Pe.sl hp | exact Pe.sa hp | exact Wo.a hw | assumption) rfl (by omega) (by decide) (by first | exact pg (Pe.ll hp (by omega)) | exact pg (Pe.lg hp (by omega)) | assumption) ?_
        refine j_iconst (v := nI 1) dX8_grows_58 (by decide +kernel) ?_
        first | (with_reducible refine j_gNN ?_; refine j_iaddN dX8_grows_59 ?_) | refine j_iadd dX8_grows_59 ?_
        refine j_min dX8_grows_60 q1194 q783 q194 q784 (Nat.le_of_ble_eq_true rfl) (by omega) (by omega) ?_
        refine j_iast dX8_grows_63 (by first | exact Pe.sl hp | exact Pe.sa hp | exact Wo.a hw | assumption) rfl (by omega) (by decide) ?_
        first | refine j_sg (put_w hL (Pe.ll hp (by omega))) ?_ | refine j_sg (put_w hL (Pe.lg hp (by omega))) ?_ | skip
        refine j_sg (congrArg (put σ L) hst) ?_
        first | refine j_iincN dX8_grows_64 rfl (by decide) ?_ | refine j_iinc dX8_grows_64 rfl rfl (by decide) ?_
        refine j_goto (tgt := 2) dX8_grows_67 (by decide) ?_
        exact ih (by omega) _ (by rw [hD, itr])
      · refine j_goto (tgt := 64) dX8_grows_19 (by decide) ?_
        first | refine j_iincN dX8_grows_64 rfl (by decide) ?_ | refine j_iinc dX8_grows_64 rfl rfl (by decide) ?_
        refine j_goto (tgt := 2) dX8_grows_67 (by decide) ?_
        exact ih (by omega) _ (by rw [hD, itr, ← hD, grStep, c_16]; rfl)
  refine j_iconst (v := nI 0) dX8_grows_0 (by decide +kernel) ?_
  refine j_istore_n dX8_grows_1 (by decide) ?_
  exact key 0 (by omega) _ rfl
end X2
