/-! X: YEARS: cutsBy; a step's test -/
set_option maxRecDepth 100000
theorem mCutV_ge {C : Nat → Int32} {W p b : Nat} (hW8 : W ≤ 8) : (mCutV C W p b = -1 ∧ ¬ 0 ≤ mCutV C W p b) ∨ (¬ mCutV C W p b = -1 ∧ 0 ≤ mCutV C W p b) := by
  obtain ⟨m, m1, m2, -⟩ := cutS_T (C := C) (p := p) (b := b) W hW8
  have hm := pw8 hW8
  unfold mCutV
  split
  · rw [mCutS, m2]
    have z : 0 ≤ nI m := Int32.not_lt.mp (nI_pos (by omega))
    exact Or.inr ⟨fun e => by rw [e] at z; exact absurd z (by decide), z⟩
  · exact Or.inl ⟨rfl, by decide⟩
section X29s
variable {g : Gx} {l : Launch} {σ τ : Sg} {L : Nat → Nat → Option Nat} {A B : Nat → Nat} {C V : Nat → Int32} {W P Dn Hn p k q hx : Nat} {sx : Nat → Option Nat}
theorem x_cutsBy (hf : Fa σ hx B) (hg : Fq σ hx A) (hR0 : Pv σ L A C W P Dn Hn) (hw : Wx C W P Dn) (hy : Yf σ hx B sx) (hp6 : p < P) (hq6 : q < P) : Kd g l 3 MX0_cutsBy [.ref hx, .int (nI p), .int (nI q)] (put (yx σ hx B sx V) L C) (some (.int (bI (yCut W p q C V).1))) (put (yx σ hx B sx (yCut W p q C V).2.2) L (yCut W p q C V).2.1) := by
  have hD6 := hw.1.2.2.1.2
  have hR := hR0.yx (V := V) hD6 hf hy
  have zs : ∀ U D, (put (yx σ hx B sx U) L D).1 hx = some (0, 0) := fun _ _ => hf.1
  have zg : ∀ U D, (put (yx σ hx B sx U) L D).2.2.2 hx 3 = some (A 0) := fun _ _ => hg
  have zb : ∀ U D, (put (yx σ hx B sx U) L D).1 (B 20) = some (20, 5) := fun _ _ => (hf.2.1 20 _ _ rfl).2
  have zr : ∀ U D, (put (yx σ hx B sx U) L D).2.2.2 hx 20 = some (B 20) := fun _ _ => (hf.2.1 20 _ _ rfl).1
  have b3 : ∀ U D, (put (yx σ hx B sx U) L D).2.1 (B 20) 3 = U 42 := fun U D => (pgn (hR0.noL (hf.2.1 20 _ _ rfl).2 (by decide) (by decide) (by decide) 3)).trans (pg (yX_b hf (show 3 < 5 by decide)))
  have hwb : ∀ U D (x : Int32), sI (put (yx σ hx B sx U) L D) (B 20) 3 x = put (yx σ hx B sx (up U 42 x)) L D := fun U D x => by
    rw [put_n (hR0.noL (hf.2.1 20 _ _ rfl).2 (by decide) (by decide) (by decide) 3)]
    unfold yx
    rw [put_w (yX_inj hf.n20 hy.1) (yX_b hf (show 3 < 5 by decide))]
  have hge := mCutV_ge (C := C) (p := p) (b := q) hw.1.1.2
  refine Kt.go (Y := MX0_cutsBy) (ls := [some (.ref hx), some (.int (nI p)), some (.int (nI q))]) (by decide) (Nat.le_of_ble_eq_true rfl) rfl ?_
  first | refine j_aload_n dX0_cutsBy_0 rfl ?_ | refine j_aload_nN dX0_cutsBy_0 rfl ?_
  refine j_getR dX0_cutsBy_1 fl_X0_38 rfl (by first | exact zs _ _ | exact zg _ _ | exact zb _ _ | exact zr _ _ | exact b3 _ _ | exact Fa.sh hf | assumption) (by first | exact zs _ _ | exact zg _ _ | exact zb _ _ | exact zr _ _ | exact b3 _ _ | exact Fq.f3 hg | assumption) ?_
  refine j_iload_n dX0_cutsBy_4 rfl ?_
  refine j_iload_n dX0_cutsBy_5 rfl ?_
  refine j_dV1 kl_X0_329 (x_cuts hR hw hp6 hq6) dX0_cutsBy_6 rfl rfl (by decide) (by first | exact zs _ _ | exact zg _ _ | exact zb _ _ | exact zr _ _ | exact b3 _ _ | exact Pv.sh hR | assumption) (Nat.le_of_ble_eq_true rfl) (by first | decide | omega) (by omega) (by omega) ?_
  refine j_iconst (v := -1) dX0_cutsBy_9 (by decide +kernel) ?_
  first | (with_reducible refine j_gNN ?_; refine j_icmp_neN (tgt := 15) dX0_cutsBy_10 (by decide) (by omega) (by omega) (fun c_10 => ?_) (fun c_10 => ?_)) | refine j_icmp_ne (tgt := 15) dX0_cutsBy_10 (by decide) (fun c_10 => ?_) (fun c_10 => ?_)
  · first | refine j_aload_n dX0_cutsBy_15 rfl ?_ | refine j_aload_nN dX0_cutsBy_15 rfl ?_
    refine j_getR dX0_cutsBy_16 fl_X0_76 rfl (by first | exact zs _ _ | exact zg _ _ | exact zb _ _ | exact zr _ _ | exact b3 _ _ | exact Fa.sh hf | assumption) (by first | exact zs _ _ | exact zg _ _ | exact zb _ _ | exact zr _ _ | exact b3 _ _ | exact Fa.f20 hf | assumption) ?_
    refine j_iconst (v := nI 3) dX0_cutsBy_19 (by decide +kernel) ?_
    refine j_dup2 dX0_cutsBy_20 rfl rfl ?_
    refine j_iald dX0_cutsBy_21 (by first | exact zs _ _ | exact zg _ _ | exact zb _ _ | exact zr _ _ | exact b3 _ _ | exact Pe.sl hp | exact Pe.sa hp | exact Pe.sl hq | exact Pe.sa hq | exact Pv.sw hR | exact Pv.sp hR | exact Pv.sd hR | exact Fa.s0 hf | exact Fa.s12 hf | exact Fa.s13 hf | exact Fa.s14 hf | exact Fa.s15 hf | exact Fa.s16 hf | exact Fa.s20 hf | exact Fa.s21 hf | exact Fa.s23 hf | assumption) rfl (by omega) (by decide) (by first | exact zs _ _ | exact zg _ _ | exact zb _ _ | exact zr _ _ | exact b3 _ _ | exact pg (Pe.ll hp (by omega)) | exact pg (Pe.lg hp (by omega)) | exact pg (Pe.ll hq (by omega)) | exact pg (Pe.lg hq (by omega)) | assumption) ?_
    refine j_iconst (v := nI 1) dX0_cutsBy_22 (by decide +kernel) ?_
    first | (with_reducible refine j_gNN ?_; refine j_iaddN dX0_cutsBy_23 ?_) | refine j_iadd dX0_cutsBy_23 ?_
    refine j_iast dX0_cutsBy_24 (by first | exact zs _ _ | exact zg _ _ | exact zb _ _ | exact zr _ _ | exact b3 _ _ | exact Pe.sl hp | exact Pe.sa hp | exact Pe.sl hq | exact Pe.sa hq | exact Pv.sw hR | exact Pv.sp hR | exact Pv.sd hR | exact Fa.s0 hf | exact Fa.s12 hf | exact Fa.s13 hf | exact Fa.s14 hf | exact Fa.s15 hf | exact Fa.s16 hf | exact Fa.s20 hf | exact Fa.s21 hf | exact Fa.s23 hf | assumption) rfl (by omega) (by decide) ?_
    first | refine j_sg (put_w hL (Pe.ll hp (by omega))) ?_ | refine j_sg (put_w hL (Pe.ll hq (by omega))) ?_ | refine j_sg (put_w hL (Pe.lg hp (by omega))) ?_ | refine j_sg (put_w hL (Pe.lg hq (by omega))) ?_ | skip
    rw [hwb]
    refine j_iconst (v := nI 1) dX0_cutsBy_25 (by decide +kernel) ?_
    refine j_iret dX0_cutsBy_26 ⟨_, rfl, rfl⟩ (by omega) (by omega) ?_
    have z : 0 ≤ mCutV C W p q := by
      rcases hge with z | z
      · exact absurd z.1 c_10
      · exact z.2
    unfold yCut; rw [if_pos z, decide_eq_true z]; exact ⟨rfl, rfl⟩
  · refine j_iconst (v := nI 0) dX0_cutsBy_13 (by decide +kernel) ?_
    refine j_iret dX0_cutsBy_14 ⟨_, rfl, rfl⟩ (by omega) (by omega) ?_
    have z : ¬ 0 ≤ mCutV C W p q := by
      rcases hge with z | z
      · exact z.2
      · exact absurd c_10 z.1
    unfold yCut; rw [if_neg z, decide_eq_false z]; exact ⟨rfl, rfl⟩
/-- step object a stands as the Model's step at cell w -/
def Sx (σ : Sg) (a : Nat) (C : Nat → Int32) (w kd : Nat) : Prop := σ.1 a = some (12, 0) ∧ C w = nI kd ∧ σ.2.1 a 0 = nI (12 + kd) ∧ (kd ≤ 6 → kd ≠ 4 → σ.2.1 a 1 = C (w + 1)) ∧ (kd = 1 ∨ kd = 2 ∨ kd = 5 → σ.2.1 a 2 = C (w + 2)) ∧ (kd = 2 → σ.2.1 a 3 = C (w + 3)) ∧ (kd = 3 → σ.2.1 a 2 = C (w + 3)) ∧ (kd = 5 → σ.2.1 a 4 = nI 23 ∧ C (w + 6) = 0 ∨ σ.2.1 a 4 = nI 24 ∧ ¬ C (w + 6) = 0 ∧ σ.2.1 a 5 = C (w + 7))
theorem yX_s (hf : Fa σ hx B) {a : Nat} (ha : σ.1 a = some (12, 0)) {k : Nat} (hk : k ≠ 7) : yX hx (B 20) sx a k = none := by
  unfold yX
  rw [if_neg (fun e => by rw [e, hf.1] at ha; cases ha), if_neg (fun e => by rw [e, (hf.2.1 20 _ _ rfl).2] at ha; cases ha), if_neg hk]
theorem x_holds (hf : Fa σ hx B) (hg : Fq σ hx A) (hR0 : Pv σ L A C W P Dn Hn) (hw : Wx C W P Dn) (hy : Yf σ hx B sx) {a w : Nat} (hS : Sw C W P w) (hX : Sx σ a C w 5) : Kd g l 2 MX0_holds [.ref hx, .ref a] (put (yx σ hx B sx V) L C) (some (.int (bI (yHolds W w C)))) (put (yx σ hx B sx V) L C) := by
  obtain ⟨⟨⟨hW, hW8⟩, ⟨hP, hP6⟩, ⟨hD, hD6⟩, hdn⟩, hWv, hPp⟩ := id hw
  have hR := hR0.yx (V := V) hD6 hf hy
  have hL := hR.inj
  obtain ⟨s12, e0, i0, i1, i2, i3, i4, i5⟩ := hX
  obtain ⟨p, hp6, ep, ek⟩ := hS.2.2.2.2.1 e0
  have hp := hR.pe hp6
  have hq := hp
  have epx : ixn (C (w + 1)) = p := by rw [ep, ixn_nI (by omega)]
  have rd : ∀ k, k ≠ 7 → (put (yx σ hx B sx V) L C).2.1 a k = σ.2.1 a k := fun k hk => (pgn (hR0.noL s12 (by decide) (by decide) (by decide) k)).trans (pgn (yX_s hf s12 hk))
  have r1 : (put (yx σ hx B sx V) L C).2.1 a 1 = nI p := (rd 1 (by decide)).trans ((i1 (by decide) (by decide)).trans ep)
  have r2 : (put (yx σ hx B sx V) L C).2.1 a 2 = C (w + 2) := (rd 2 (by decide)).trans (i2 (by decide))
  have zs : ∀ U D, (put (yx σ hx B sx U) L D).1 hx = some (0, 0) := fun _ _ => hf.1
  have zg : ∀ U D, (put (yx σ hx B sx U) L D).2.2.2 hx 3 = some (A 0) := fun _ _ => hg
  have za : ∀ U D, (put (yx σ hx B sx U) L D).1 a = some (12, 0) := fun _ _ => s12
  rcases i5 rfl with ⟨t1, t2⟩ | ⟨t1, t2, t3⟩
  · obtain ⟨k, hk, ek⟩ := ek t2
    have r4 : (put (yx σ hx B sx V) L C).2.1 a 4 = nI 23 := (rd 4 (by decide)).trans t1
    have r2' : (put (yx σ hx B sx V) L C).2.1 a 2 = nI k := r2.trans ek
    have e : yHolds W w C = hs (C (37 + p)) k := by unfold yHolds; rw [if_pos t2, epx, ek, ixn_nI (by omega)]
    rw [e]
    skip
    refine Kt.go (Y := MX0_holds) (ls := [some (.ref hx), some (.ref a), none, none]) (by decide) (Nat.le_of_ble_eq_true rfl) rfl ?_
    first | refine j_aload_n dX0_holds_0 rfl ?_ | refine j_aload_nN dX0_holds_0 rfl ?_
    refine j_getR dX0_holds_1 fl_X0_38 rfl (by first | exact zs _ _ | exact zg _ _ | exact za _ _ | exact r1 | exact r4 | exact r2' | exact Fa.sh hf | assumption) (by first | exact zs _ _ | exact zg _ _ | exact za _ _ | exact r1 | exact r4 | exact r2' | exact Fq.f3 hg | assumption) ?_
    refine j_getR dX0_holds_4 fl_X0_211 rfl (by first | exact zs _ _ | exact zg _ _ | exact za _ _ | exact r1 | exact r4 | exact r2' | exact Pv.sh hR | assumption) (by first | exact zs _ _ | exact zg _ _ | exact za _ _ | exact r1 | exact r4 | exact r2' | exact Pv.r1 hR | assumption) ?_
    first | refine j_aload_n dX0_holds_7 rfl ?_ | refine j_aload_nN dX0_holds_7 rfl ?_
    refine j_getI dX0_holds_8 fl_X0_488 rfl (by first | exact zs _ _ | exact zg _ _ | exact za _ _ | exact r1 | exact r4 | exact r2' | assumption) (by first | exact zs _ _ | exact zg _ _ | exact za _ _ | exact r1 | exact r4 | exact r2' | assumption) ?_
    refine j_aald (t := 27) dX0_holds_11 (fun _ => rfl) (by decide) (by first | exact zs _ _ | exact zg _ _ | exact za _ _ | exact r1 | exact r4 | exact r2' | exact Pe.sl hp | exact Pe.sa hp | exact Pe.sl hq | exact Pe.sa hq | exact Pv.sw hR | exact Pv.sp hR | exact Pv.sd hR | exact Fa.s0 hf | exact Fa.s12 hf | exact Fa.s13 hf | exact Fa.s14 hf | exact Fa.s15 hf | exact Fa.s16 hf | exact Fa.s20 hf | exact Fa.s21 hf | exact Fa.s23 hf | assumption) rfl (by omega) (by decide) (by first | exact zs _ _ | exact zg _ _ | exact za _ _ | exact r1 | exact r4 | exact r2' | exact Pv.rw hR (by omega) | exact Pv.rp hR (by omega) | exact Pv.rd hR (by omega) | exact Fa.tr hf (by omega) | assumption) ?_
    first | refine j_astore_n dX0_holds_12 (by decide) ?_ | refine j_astore_nN dX0_holds_12 (by decide) ?_
    first | refine j_aload_n dX0_holds_13 rfl ?_ | refine j_aload_nN dX0_holds_13 rfl ?_
    refine j_getI dX0_holds_14 fl_X0_510 rfl (by first | exact zs _ _ | exact zg _ _ | exact za _ _ | exact r1 | exact r4 | exact r2' | assumption) (by first | exact zs _ _ | exact zg _ _ | exact za _ _ | exact r1 | exact r4 | exact r2' | assumption) ?_
    refine j_bipush (v := nI 23) dX0_holds_17 (by decide +kernel) ?_
    first | (with_reducible refine j_gNN ?_; refine j_icmp_neN (tgt := 34) dX0_holds_19 (by decide) (by omega) (by omega) (fun c_19 => ?_) (fun c_19 => ?_)) | refine j_icmp_ne (tgt := 34) dX0_holds_19 (by decide) (fun c_19 => ?_) (fun c_19 => ?_)
    · exact absurd rfl c_19
    · first | refine j_aload_n dX0_holds_22 rfl ?_ | refine j_aload_nN dX0_holds_22 rfl ?_
      refine j_getI dX0_holds_23 fl_X0_270 rfl (by first | exact zs _ _ | exact zg _ _ | exact za _ _ | exact r1 | exact r4 | exact r2' | exact Pe.sh hp | exact Pe.sh hq | assumption) (by first | exact zs _ _ | exact zg _ _ | exact za _ _ | exact r1 | exact r4 | exact r2' | exact pg (Pe.l4 hp) | exact pg (Pe.l4 hq) | assumption) ?_
      first | refine j_aload_n dX0_holds_26 rfl ?_ | refine j_aload_nN dX0_holds_26 rfl ?_
      refine j_getI dX0_holds_27 fl_X0_494 rfl (by first | exact zs _ _ | exact zg _ _ | exact za _ _ | exact r1 | exact r4 | exact r2' | assumption) (by first | exact zs _ _ | exact zg _ _ | exact za _ _ | exact r1 | exact r4 | exact r2' | assumption) ?_
      refine j_dS1 kl_X0_279 (k_isIn _ _ _ _ k) dX0_holds_30 rfl rfl (Nat.le_of_ble_eq_true rfl) (by first | decide | omega) (by omega) (by omega) ?_
      refine j_iret dX0_holds_33 ⟨_, rfl, bI_nar _⟩ (by omega) (by omega) ?_
      exact ⟨rfl, rfl⟩
  · have r4 : (put (yx σ hx B sx V) L C).2.1 a 4 = nI 24 := (rd 4 (by decide)).trans t1
    have r5 : (put (yx σ hx B sx V) L C).2.1 a 5 = C (w + 7) := (rd 5 (by decide)).trans t3
    skip
    refine Kt.go (Y := MX0_holds) (ls := [some (.ref hx), some (.ref a), none, none]) (by decide) (Nat.le_of_ble_eq_true rfl) rfl ?_
    first | refine j_aload_n dX0_holds_0 rfl ?_ | refine j_aload_nN dX0_holds_0 rfl ?_
    refine j_getR dX0_holds_1 fl_X0_38 rfl (by first | exact zs _ _ | exact zg _ _ | exact za _ _ | exact r1 | exact r4 | exact r2 | exact r5 | exact Fa.sh hf | assumption) (by first | exact zs _ _ | exact zg _ _ | exact za _ _ | exact r1 | exact r4 | exact r2 | exact r5 | exact Fq.f3 hg | assumption) ?_
    refine j_getR dX0_holds_4 fl_X0_211 rfl (by first | exact zs _ _ | exact zg _ _ | exact za _ _ | exact r1 | exact r4 | exact r2 | exact r5 | exact Pv.sh hR | assumption) (by first | exact zs _ _ | exact zg _ _ | exact za _ _ | exact r1 | exact r4 | exact r2 | exact r5 | exact Pv.r1 hR | assumption) ?_
    first | refine j_aload_n dX0_holds_7 rfl ?_ | refine j_aload_nN dX0_holds_7 rfl ?_
    refine j_getI dX0_holds_8 fl_X0_488 rfl (by first | exact zs _ _ | exact zg _ _ | exact za _ _ | exact r1 | exact r4 | exact r2 | exact r5 | assumption) (by first | exact zs _ _ | exact zg _ _ | exact za _ _ | exact r1 | exact r4 | exact r2 | exact r5 | assumption) ?_
    refine j_aald (t := 27) dX0_holds_11 (fun _ => rfl) (by decide) (by first | exact zs _ _ | exact zg _ _ | exact za _ _ | exact r1 | exact r4 | exact r2 | exact r5 | exact Pe.sl hp | exact Pe.sa hp | exact Pe.sl hq | exact Pe.sa hq | exact Pv.sw hR | exact Pv.sp hR | exact Pv.sd hR | exact Fa.s0 hf | exact Fa.s12 hf | exact Fa.s13 hf | exact Fa.s14 hf | exact Fa.s15 hf | exact Fa.s16 hf | exact Fa.s20 hf | exact Fa.s21 hf | exact Fa.s23 hf | assumption) rfl (by omega) (by decide) (by first | exact zs _ _ | exact zg _ _ | exact za _ _ | exact r1 | exact r4 | exact r2 | exact r5 | exact Pv.rw hR (by omega) | exact Pv.rp hR (by omega) | exact Pv.rd hR (by omega) | exact Fa.tr hf (by omega) | assumption) ?_
    first | refine j_astore_n dX0_holds_12 (by decide) ?_ | refine j_astore_nN dX0_holds_12 (by decide) ?_
    first | refine j_aload_n dX0_holds_13 rfl ?_ | refine j_aload_nN dX0_holds_13 rfl ?_
    refine j_getI dX0_holds_14 fl_X0_510 rfl (by first | exact zs _ _ | exact zg _ _ | exact za _ _ | exact r1 | exact r4 | exact r2 | exact r5 | assumption) (by first | exact zs _ _ | exact zg _ _ | exact za _ _ | exact r1 | exact r4 | exact r2 | exact r5 | assumption) ?_
    refine j_bipush (v := nI 23) dX0_holds_17 (by decide +kernel) ?_
    first | (with_reducible refine j_gNN ?_; refine j_icmp_neN (tgt := 34) dX0_holds_19 (by decide) (by omega) (by omega) (fun c_19 => ?_) (fun c_19 => ?_)) | refine j_icmp_ne (tgt := 34) dX0_holds_19 (by decide) (fun c_19 => ?_) (fun c_19 => ?_)
    · first | refine j_aload_n dX0_holds_34 rfl ?_ | refine j_aload_nN dX0_holds_34 rfl ?_
      refine j_dV1 kl_X0_276 (x_hair hL hp hW8 ((hPp p hp6).kw hW8)) dX0_holds_35 rfl rfl (by decide) (by first | exact zs _ _ | exact zg _ _ | exact za _ _ | exact r1 | exact r4 | exact r2 | exact r5 | exact Pe.sh hp | exact Pe.sh hq | assumption) (Nat.le_of_ble_eq_true rfl) (by first | decide | omega) (by omega) (by omega) ?_
      refine j_istore_n dX0_holds_38 (by decide) ?_
      first | refine j_aload_n dX0_holds_39 rfl ?_ | refine j_aload_nN dX0_holds_39 rfl ?_
      refine j_getI dX0_holds_40 fl_X0_513 rfl (by first | exact zs _ _ | exact zg _ _ | exact za _ _ | exact r1 | exact r4 | exact r2 | exact r5 | assumption) (by first | exact zs _ _ | exact zg _ _ | exact za _ _ | exact r1 | exact r4 | exact r2 | exact r5 | assumption) ?_
      refine j_bipush (v := nI 60) dX0_holds_43 (by decide +kernel) ?_
      first | (with_reducible refine j_gNN ?_; refine j_icmp_neN (tgt := 64) dX0_holds_45 (by decide) (by omega) (by omega) (fun c_45 => ?_) (fun c_45 => ?_)) | refine j_icmp_ne (tgt := 64) dX0_holds_45 (by decide) (fun c_45 => ?_) (fun c_45 => ?_)
      · first | refine j_aload_n dX0_holds_64 rfl ?_ | refine j_aload_nN dX0_holds_64 rfl ?_
        refine j_getI dX0_holds_65 fl_X0_513 rfl (by first | exact zs _ _ | exact zg _ _ | exact za _ _ | exact r1 | exact r4 | exact r2 | exact r5 | assumption) (by first | exact zs _ _ | exact zg _ _ | exact za _ _ | exact r1 | exact r4 | exact r2 | exact r5 | assumption) ?_
        refine j_bipush (v := nI 62) dX0_holds_68 (by decide +kernel) ?_
        first | (with_reducible refine j_gNN ?_; refine j_icmp_neN (tgt := 89) dX0_holds_70 (by decide) (by omega) (by omega) (fun c_70 => ?_) (fun c_70 => ?_)) | refine j_icmp_ne (tgt := 89) dX0_holds_70 (by decide) (fun c_70 => ?_) (fun c_70 => ?_)
        · refine j_iload_n dX0_holds_89 rfl ?_
          first | refine j_aload_n dX0_holds_90 rfl ?_ | refine j_aload_nN dX0_holds_90 rfl ?_
          refine j_getI dX0_holds_91 fl_X0_494 rfl (by first | exact zs _ _ | exact zg _ _ | exact za _ _ | exact r1 | exact r4 | exact r2 | exact r5 | assumption) (by first | exact zs _ _ | exact zg _ _ | exact za _ _ | exact r1 | exact r4 | exact r2 | exact r5 | assumption) ?_
          first | (with_reducible refine j_gNN ?_; refine j_icmp_neN (tgt := 101) dX0_holds_94 (by decide) (by omega) (by omega) (fun c_94 => ?_) (fun c_94 => ?_)) | refine j_icmp_ne (tgt := 101) dX0_holds_94 (by decide) (fun c_94 => ?_) (fun c_94 => ?_)
          · refine j_iconst (v := nI 0) dX0_holds_101 (by decide +kernel) ?_
            refine j_iret dX0_holds_102 ⟨_, rfl, rfl⟩ (by omega) (by omega) ?_
            refine ⟨?_, rfl⟩
            unfold yHolds
            rw [if_neg t2, epx]
            first
            | (rw [if_pos c_45, decide_eq_true (Int32.not_le.mp c_53)]; rfl)
            | (rw [if_pos c_45, decide_eq_false (Int32.not_lt.mpr c_53)]; rfl)
            | (rw [if_neg c_45, if_pos c_70, decide_eq_true (Int32.not_le.mp c_78)]; rfl)
            | (rw [if_neg c_45, if_pos c_70, decide_eq_false (Int32.not_lt.mpr c_78)]; rfl)
            | (rw [if_neg c_45, if_neg c_70, decide_eq_true c_94]; rfl)
            | (rw [if_neg c_45, if_neg c_70, decide_eq_false c_94]; rfl)
          · refine j_iconst (v := nI 1) dX0_holds_97 (by decide +kernel) ?_
            refine j_goto (tgt := 102) dX0_holds_98 (by decide) ?_
            refine j_iret dX0_holds_102 ⟨_, rfl, rfl⟩ (by omega) (by omega) ?_
            refine ⟨?_, rfl⟩
            unfold yHolds
            rw [if_neg t2, epx]
            first
            | (rw [if_pos c_45, decide_eq_true (Int32.not_le.mp c_53)]; rfl)
            | (rw [if_pos c_45, decide_eq_false (Int32.not_lt.mpr c_53)]; rfl)
            | (rw [if_neg c_45, if_pos c_70, decide_eq_true (Int32.not_le.mp c_78)]; rfl)
            | (rw [if_neg c_45, if_pos c_70, decide_eq_false (Int32.not_lt.mpr c_78)]; rfl)
            | (rw [if_neg c_45, if_neg c_70, decide_eq_true c_94]; rfl)
            | (rw [if_neg c_45, if_neg c_70, decide_eq_false c_94]; rfl)
        · refine j_iload_n dX0_holds_73 rfl ?_
          first | refine j_aload_n dX0_holds_74 rfl ?_ | refine j_aload_nN dX0_holds_74 rfl ?_
          refine j_getI dX0_holds_75 fl_X0_494 rfl (by first | exact zs _ _ | exact zg _ _ | exact za _ _ | exact r1 | exact r4 | exact r2 | exact r5 | assumption) (by first | exact zs _ _ | exact zg _ _ | exact za _ _ | exact r1 | exact r4 | exact r2 | exact r5 | assumption) ?_
          first | (with_reducible refine j_gNN ?_; refine j_icmp_leN (tgt := 85) dX0_holds_78 (by decide) (by omega) (by omega) (fun c_78 => ?_) (fun c_78 => ?_)) | refine j_icmp_le (tgt := 85) dX0_holds_78 (by decide) (fun c_78 => ?_) (fun c_78 => ?_)
          · refine j_iconst (v := nI 0) dX0_holds_85 (by decide +kernel) ?_
            refine j_goto (tgt := 102) dX0_holds_86 (by decide) ?_
            refine j_iret dX0_holds_102 ⟨_, rfl, rfl⟩ (by omega) (by omega) ?_
            refine ⟨?_, rfl⟩
            unfold yHolds
            rw [if_neg t2, epx]
            first
            | (rw [if_pos c_45, decide_eq_true (Int32.not_le.mp c_53)]; rfl)
            | (rw [if_pos c_45, decide_eq_false (Int32.not_lt.mpr c_53)]; rfl)
            | (rw [if_neg c_45, if_pos c_70, decide_eq_true (Int32.not_le.mp c_78)]; rfl)
            | (rw [if_neg c_45, if_pos c_70, decide_eq_false (Int32.not_lt.mpr c_78)]; rfl)
            | (rw [if_neg c_45, if_neg c_70, decide_eq_true c_94]; rfl)
            | (rw [if_neg c_45, if_neg c_70, decide_eq_false c_94]; rfl)
          · refine j_iconst (v := nI 1) dX0_holds_81 (by decide +kernel) ?_
            refine j_goto (tgt := 102) dX0_holds_82 (by decide) ?_
            refine j_iret dX0_holds_102 ⟨_, rfl, rfl⟩ (by omega) (by omega) ?_
            refine ⟨?_, rfl⟩
            unfold yHolds
            rw [if_neg t2, epx]
            first
            | (rw [if_pos c_45, decide_eq_true (Int32.not_le.mp c_53)]; rfl)
            | (rw [if_pos c_45, decide_eq_false (Int32.not_lt.mpr c_53)]; rfl)
            | (rw [if_neg c_45, if_pos c_70, decide_eq_true (Int32.not_le.mp c_78)]; rfl)
            | (rw [if_neg c_45, if_pos c_70, decide_eq_false (Int32.not_lt.mpr c_78)]; rfl)
            | (rw [if_neg c_45, if_neg c_70, decide_eq_true c_94]; rfl)
            | (rw [if_neg c_45, if_neg c_70, decide_eq_false c_94]; rfl)
      · refine j_iload_n dX0_holds_48 rfl ?_
        first | refine j_aload_n dX0_holds_49 rfl ?_ | refine j_aload_nN dX0_holds_49 rfl ?_
        refine j_getI dX0_holds_50 fl_X0_494 rfl (by first | exact zs _ _ | exact zg _ _ | exact za _ _ | exact r1 | exact r4 | exact r2 | exact r5 | assumption) (by first | exact zs _ _ | exact zg _ _ | exact za _ _ | exact r1 | exact r4 | exact r2 | exact r5 | assumption) ?_
        first | (with_reducible refine j_gNN ?_; refine j_icmp_geN (tgt := 60) dX0_holds_53 (by decide) (by omega) (by omega) (fun c_53 => ?_) (fun c_53 => ?_)) | refine j_icmp_ge (tgt := 60) dX0_holds_53 (by decide) (fun c_53 => ?_) (fun c_53 => ?_)
        · refine j_iconst (v := nI 0) dX0_holds_60 (by decide +kernel) ?_
          refine j_goto (tgt := 102) dX0_holds_61 (by decide) ?_
          refine j_iret dX0_holds_102 ⟨_, rfl, rfl⟩ (by omega) (by omega) ?_
          refine ⟨?_, rfl⟩
          unfold yHolds
          rw [if_neg t2, epx]
          first
          | (rw [if_pos c_45, decide_eq_true (Int32.not_le.mp c_53)]; rfl)
          | (rw [if_pos c_45, decide_eq_false (Int32.not_lt.mpr c_53)]; rfl)
          | (rw [if_neg c_45, if_pos c_70, decide_eq_true (Int32.not_le.mp c_78)]; rfl)
          | (rw [if_neg c_45, if_pos c_70, decide_eq_false (Int32.not_lt.mpr c_78)]; rfl)
          | (rw [if_neg c_45, if_neg c_70, decide_eq_true c_94]; rfl)
          | (rw [if_neg c_45, if_neg c_70, decide_eq_false c_94]; rfl)
        · refine j_iconst (v := nI 1) dX0_holds_56 (by decide +kernel) ?_
          refine j_goto (tgt := 102) dX0_holds_57 (by decide) ?_
          refine j_iret dX0_holds_102 ⟨_, rfl, rfl⟩ (by omega) (by omega) ?_
          refine ⟨?_, rfl⟩
          unfold yHolds
          rw [if_neg t2, epx]
          first
          | (rw [if_pos c_45, decide_eq_true (Int32.not_le.mp c_53)]; rfl)
          | (rw [if_pos c_45, decide_eq_false (Int32.not_lt.mpr c_53)]; rfl)
          | (rw [if_neg c_45, if_pos c_70, decide_eq_true (Int32.not_le.mp c_78)]; rfl)
          | (rw [if_neg c_45, if_pos c_70, decide_eq_false (Int32.not_lt.mpr c_78)]; rfl)
          | (rw [if_neg c_45, if_neg c_70, decide_eq_true c_94]; rfl)
          | (rw [if_neg c_45, if_neg c_70, decide_eq_false c_94]; rfl)
    · exact absurd c_19 (by decide)
end X29s
