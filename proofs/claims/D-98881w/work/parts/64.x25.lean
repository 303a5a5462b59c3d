/-! X: DAYS AHEAD -/
set_option maxRecDepth 100000
section X25s
variable {g : Gx} {l : Launch} {σ σ2 τ : Sg} {L : Nat → Nat → Option Nat} {A A2 B : Nat → Nat} {C D S : Nat → Int32} {W P Dn Hn p hx : Nat} {nw np : Nat → Int64}
theorem TwF.sx (hf : Fa σ hx B) (hT : TwF (put σ L C) C W P Dn Hn nw np A2 σ2) : σ2.1 hx = some (0, 0) := (hT.2.2.2.2 hx (by rw [show (put σ L C).1 hx = some (0, 0) from hf.1]; simp) id).1.trans hf.1
theorem TwF.prov (hf : Fa σ hx B) (hT : TwF (put σ L C) C W P Dn Hn nw np A2 σ2) (x : Option Nat) : Pv (sR σ2 hx 11 x) (pL A2 P) A2 C W P Dn Hn := hT.1.sr (hT.sx hf)
theorem TwF.eq (hf : Fa σ hx B) (hP6 : P ≤ 6) (hT : TwF (put σ L C) C W P Dn Hn nw np A2 σ2) (x : Option Nat) (D : Nat → Int32) : Eqx hx B (put (sR σ2 hx 11 x) (pL A2 P) D) (put σ L C) := by
  obtain ⟨h1, h2, h3, h4, h5⟩ := hT
  have hl : ∀ b, (put σ L C).1 b ≠ none → ∀ k, pL A2 P b k = none := fun b hb k => by
    cases e : pL A2 P b k with
    | none => rfl
    | some i =>
      obtain ⟨⟨y, y1, y2⟩, -⟩ := pL_u hP6 e
      exact absurd (by rw [y2]; exact h4 y (by unfold ui at y1; unfold uj; omega)) hb
  refine ⟨fun b hb => (h5 b hb id).1, fun b k hb _ => ?_, fun b hb => (h5 b hb id).2.2.1, fun b k hb hn => ?_⟩
  · have z := congrFun (h5 b hb id).2.1 k
    rw [pgn (hl b hb k)] at z
    rw [pgn (hl b hb k)]
    exact z
  · refine Eq.trans ?_ (congrFun (h5 b hb id).2.2.2 k)
    show (sR σ2 hx 11 x).2.2.2 b k = σ2.2.2.2 b k
    by_cases e : b = hx
    · subst e
      have hk : k ≠ 11 := fun q => hn ⟨rfl, q⟩
      show up σ2.2.2.2 b (up (σ2.2.2.2 b) 11 x) b k = _
      rw [up_eq, up_ne hk]
    · rw [sR_n e]
theorem TwF.face (hf : Fa σ hx B) (hP6 : P ≤ 6) (hT : TwF (put σ L C) C W P Dn Hn nw np A2 σ2) (x : Option Nat) : Fa (sR σ2 hx 11 x) hx B := Fa.eqx (σ := put σ L C) (τ := put (sR σ2 hx 11 x) (pL A2 P) C) hf (hT.eq hf hP6 x C)
def thenQ (ρ : Sg) (C : Nat → Int32) (W P Dn Hn : Nat) (nw np : Nat → Int64) (hx n : Nat) (r : Option Value) (τ : Sg) : Prop := ∃ A2 σ2, r = some (.ref (A2 0)) ∧ TwF ρ C W P Dn Hn nw np A2 σ2 ∧ τ = put (sR σ2 hx 11 (some (A2 0))) (pL A2 P) (mDays C W P Dn n)
theorem x_in (hf : Fa σ hx B) (hg : Fq σ hx A) (hR : Pv σ L A C W P Dn Hn) (hw : Wx C W P Dn) (hH : C 3 = nI Hn) (hb : Bb C P) (hN : Nm σ A W P nw np) {n : Nat} (hn : n < 1000) : Kt g l 5 MX0_in [.ref hx, .int (nI n)] (put σ L C) 22 171 (thenQ (put σ L C) C W P Dn Hn nw np hx n) (fun _ _ _ => False) := by
  have f11 : ∀ (σ2 : Sg) (L2 : Nat → Nat → Option Nat) (D : Nat → Int32) (y : Option Nat), (put (sR σ2 hx 11 y) L2 D).2.2.2 hx 11 = y := fun σ2 L2 D y => by
    show up σ2.2.2.2 hx (up (σ2.2.2.2 hx) 11 y) hx 11 = y
    rw [up_eq, up_eq]
  have g3 : (put σ L C).2.2.2 hx 3 = some (A 0) := hg
  refine Kt.go (Y := MX0_in) (ls := [some (.ref hx), some (.int (nI n))]) (by decide) (Nat.le_of_ble_eq_true rfl) rfl ?_
  first | refine j_aload_n dX0_in_0 rfl ?_ | refine j_aload_nN dX0_in_0 rfl ?_
  first | refine j_aload_n dX0_in_1 rfl ?_ | refine j_aload_nN dX0_in_1 rfl ?_
  refine j_getR dX0_in_2 fl_X0_38 rfl (by first | exact g3 | exact Fa.sh hf | assumption) (by first | exact g3 | exact Fq.f3 hg | assumption) ?_
  refine j_callV kl_X0_340 (x_vtwin hR hw hH hb hN) dX0_in_5 rfl rfl (by decide) (by first | exact g3 | exact Pv.sh hR | assumption) (Nat.le_of_ble_eq_true rfl) (by first | decide | omega) (by omega) (by omega) (fun v τ hq => ?_) (fun _ _ _ hq => hq.elim)
  obtain ⟨A2, σ2, e1, rfl, hT⟩ := hq
  cases e1
  have hs2 := hT.sx hf
  have hs3 : ∀ y D, (put (sR σ2 hx 11 y) (pL A2 P) D).1 hx = some (0, 0) := fun y D => hs2
  have hR2 := hT.prov hf (some (A2 0))
  have hR := hR2
  refine j_putR (ci := 0) (k := 11) dX0_in_8 fl_X0_53 rfl (show (put σ2 (pL A2 P) C).1 hx = some (0, 0) from hs2) (by decide) rfl rfl ?_
  refine j_eq (σ' := put (sR σ2 hx 11 (some (A2 0))) (pL A2 P) C) rfl rfl rfl ?_
  first | refine j_aload_n dX0_in_11 rfl ?_ | refine j_aload_nN dX0_in_11 rfl ?_
  refine j_getR dX0_in_12 fl_X0_53 rfl (by first | exact hs2 | exact hs3 _ _ | exact f11 _ _ _ _ | exact Fa.sh hf | assumption) (by first | exact hs2 | exact hs3 _ _ | exact f11 _ _ _ _ | assumption) ?_
  refine j_iload_n dX0_in_15 rfl ?_
  refine j_dV1 kl_X0_317 (x_days hR2 hw hn) dX0_in_16 rfl rfl (by decide) (by first | exact hs2 | exact hs3 _ _ | exact f11 _ _ _ _ | exact Pv.sh hR | assumption) (Nat.le_of_ble_eq_true rfl) (by first | decide | omega) (by omega) (by omega) ?_
  refine j_pop dX0_in_19 rfl ?_
  first | refine j_aload_n dX0_in_20 rfl ?_ | refine j_aload_nN dX0_in_20 rfl ?_
  refine j_getR dX0_in_21 fl_X0_53 rfl (by first | exact hs2 | exact hs3 _ _ | exact f11 _ _ _ _ | exact Fa.sh hf | assumption) (by first | exact hs2 | exact hs3 _ _ | exact f11 _ _ _ _ | assumption) ?_
  refine j_aret (v := some (A2 0)) dX0_in_24 ⟨_, rfl, Or.inl ⟨_, rfl⟩⟩ (by omega) (by omega) ?_
  exact ⟨A2, σ2, rfl, hT, rfl⟩
theorem q_hairIn (hf : Fa σ hx B) (hg : Fq σ hx A) (hR : Pv σ L A C W P Dn Hn) (hw : Wx C W P Dn) (hH : C 3 = nI Hn) (hb : Bb C P) (hN : Nm σ A W P nw np) (p n : Int32) : Kx g l hx B 6 MX0_hairIn [.ref hx, .int p, .int n] (put σ L C) 22 171 (some (.int (oHairIn C W P Dn p n).1)) (put (xS σ hx (oHairIn C W P Dn p n).2) L C) := by
  obtain ⟨⟨⟨hW, hW8⟩, ⟨hP, hP6⟩, ⟨hD, hD6⟩, hdn⟩, hWv, hPp⟩ := id hw
  have hn := hR.nf hf
  refine Kt.go (Y := MX0_hairIn) (ls := [some (.ref hx), some (.int p), some (.int n)]) (by decide) (Nat.le_of_ble_eq_true rfl) rfl ?_
  first | refine j_aload_n dX0_hairIn_0 rfl ?_ | refine j_aload_nN dX0_hairIn_0 rfl ?_
  refine j_iload_n dX0_hairIn_1 rfl ?_
  refine j_dV1 kl_X0_264 (x_isPerson hf hg hR hP hP6 _) dX0_hairIn_2 rfl rfl (by decide) (by first | exact Fa.sh hf | assumption) (Nat.le_of_ble_eq_true rfl) (by first | decide | omega) (by omega) (by omega) ?_
  first | (with_reducible refine j_gB ?_; refine j_if_neB (tgt := 16) dX0_hairIn_5 (by decide) (fun c_5 => ?_) (fun c_5 => ?_)) | (with_reducible refine j_gC ?_; refine j_if_neC (tgt := 16) dX0_hairIn_5 (by decide) (fun c_5 => ?_) (fun c_5 => ?_)) | (with_reducible refine j_gN ?_; refine j_if_neN (tgt := 16) dX0_hairIn_5 (by decide) (by omega) (fun c_5 => ?_) (fun c_5 => ?_)) | refine j_if_ne (tgt := 16) dX0_hairIn_5 (by decide) (fun c_5 => ?_) (fun c_5 => ?_)
  · refine j_iload_n dX0_hairIn_16 rfl ?_
    refine j_dS1 kl_X0_343 (x_isSpan _) dX0_hairIn_17 rfl rfl (Nat.le_of_ble_eq_true rfl) (by first | decide | omega) (by omega) (by omega) ?_
    rw [inL_ok (n := 201) (by decide +kernel)]
    first | (with_reducible refine j_gB ?_; refine j_if_eqB (tgt := 43) dX0_hairIn_20 (by decide) (fun c_20 => ?_) (fun c_20 => ?_)) | (with_reducible refine j_gC ?_; refine j_if_eqC (tgt := 43) dX0_hairIn_20 (by decide) (fun c_20 => ?_) (fun c_20 => ?_)) | (with_reducible refine j_gN ?_; refine j_if_eqN (tgt := 43) dX0_hairIn_20 (by decide) (by omega) (fun c_20 => ?_) (fun c_20 => ?_)) | refine j_if_eq (tgt := 43) dX0_hairIn_20 (by decide) (fun c_20 => ?_) (fun c_20 => ?_)
    · first | refine j_aload_n dX0_hairIn_43 rfl ?_ | refine j_aload_nN dX0_hairIn_43 rfl ?_
      refine j_iconst (v := nI 5) dX0_hairIn_44 (by decide +kernel) ?_
      refine j_dV1 kl_X0_98 (x_none (Fa.sh hf) _) dX0_hairIn_45 rfl rfl (by decide) (by first | exact Fa.sh hf | assumption) (Nat.le_of_ble_eq_true rfl) (by first | decide | omega) (by omega) (by omega) ?_
      refine j_iret dX0_hairIn_48 ⟨_, rfl, rfl⟩ (by omega) (by omega) ?_
      exact pyR hn (by simp [oHairIn, *]) Eqx.rf
    · obtain ⟨p, hp6, rfl⟩ := okN_nI c_5
      obtain ⟨n, hn2, rfl⟩ := okN_nI c_20
      have ep : ixn (nI p) = p := ixn_nI (by omega)
      have en : ixn (nI n) = n := ixn_nI (by omega)
      first | refine j_aload_n dX0_hairIn_23 rfl ?_ | refine j_aload_nN dX0_hairIn_23 rfl ?_
      first | refine j_aload_n dX0_hairIn_24 rfl ?_ | refine j_aload_nN dX0_hairIn_24 rfl ?_
      refine j_iload_n dX0_hairIn_25 rfl ?_
      refine j_callV kl_X0_346 (x_in hf hg hR hw hH hb hN (by omega)) dX0_hairIn_26 rfl rfl (by decide) (by first | exact Fa.sh hf | assumption) (Nat.le_of_ble_eq_true rfl) (by first | decide | omega) (by omega) (by omega) (fun v τ hq => ?_) (fun _ _ _ hq => hq.elim)
      obtain ⟨A2, σ2, rfl, hT, rfl⟩ := hq
      have he := hT.eq hf hP6 (some (A2 0)) (mDays C W P Dn n)
      have hf2 := hT.face hf hP6 (some (A2 0))
      have hw2 := days_wx hw n
      have hR2 := (hT.prov hf (some (A2 0))).fr (mDays_fr hw.1 n) hw.2.1.1
      have hf := hf2
      have hR := hR2
      have hL := hR.inj
      have hp := hR.pe hp6
      have hq := hp
      refine j_eq (st' := [.ref (A2 0), .ref hx]) rfl rfl rfl ?_
      refine j_getR dX0_hairIn_29 fl_X0_211 rfl (by first | exact Pv.sh hR | assumption) (by first | exact Pv.r1 hR | assumption) ?_
      refine j_iload_n dX0_hairIn_32 rfl ?_
      refine j_aald (t := 27) dX0_hairIn_33 (fun _ => rfl) (by decide) (by first | exact Pe.sl hp | exact Pe.sa hp | exact Pe.sl hq | exact Pe.sa hq | exact Pv.sw hR | exact Pv.sp hR | exact Pv.sd hR | exact Fa.s0 hf | exact Fa.s12 hf | exact Fa.s13 hf | exact Fa.s14 hf | exact Fa.s15 hf | exact Fa.s16 hf | exact Fa.s20 hf | exact Fa.s21 hf | exact Fa.s23 hf | assumption) rfl (by omega) (by decide) (by first | exact Pv.rw hR (by omega) | exact Pv.rp hR (by omega) | exact Pv.rd hR (by omega) | exact Fa.tr hf (by omega) | assumption) ?_
      refine j_dV1 kl_X0_276 (x_hair hL hp hW8 ((hw2.2.2 p hp6).kw hW8)) dX0_hairIn_34 rfl rfl (by decide) (by first | exact Pe.sh hp | exact Pe.sh hq | assumption) (Nat.le_of_ble_eq_true rfl) (by first | decide | omega) (by omega) (by omega) ?_
      refine j_dV1 kl_X0_102 (x_gives (Fa.sh hf) _) dX0_hairIn_37 rfl rfl (by decide) (by first | exact Fa.sh hf | assumption) (Nat.le_of_ble_eq_true rfl) (by first | decide | omega) (by omega) (by omega) ?_
      refine j_goto (tgt := 48) dX0_hairIn_40 (by decide) ?_
      refine j_iret dX0_hairIn_48 ⟨_, rfl, rfl⟩ (by omega) (by omega) ?_
      exact pyR hn (by rw [oHairIn, if_pos c_5, if_pos c_20, ep, en]) he
  · first | refine j_aload_n dX0_hairIn_8 rfl ?_ | refine j_aload_nN dX0_hairIn_8 rfl ?_
    refine j_iconst (v := nI 2) dX0_hairIn_9 (by decide +kernel) ?_
    refine j_dV1 kl_X0_98 (x_none (Fa.sh hf) _) dX0_hairIn_10 rfl rfl (by decide) (by first | exact Fa.sh hf | assumption) (Nat.le_of_ble_eq_true rfl) (by first | decide | omega) (by omega) (by omega) ?_
    refine j_goto (tgt := 48) dX0_hairIn_13 (by decide) ?_
    refine j_iret dX0_hairIn_48 ⟨_, rfl, rfl⟩ (by omega) (by omega) ?_
    exact pyR hn (by simp [oHairIn, *]) Eqx.rf
theorem q_knownIn (hf : Fa σ hx B) (hg : Fq σ hx A) (hR : Pv σ L A C W P Dn Hn) (hw : Wx C W P Dn) (hH : C 3 = nI Hn) (hb : Bb C P) (hN : Nm σ A W P nw np) (p n : Int32) : Kx g l hx B 6 MX0_knownIn [.ref hx, .int p, .int n] (put σ L C) 22 171 (some (.int (oKnownIn C W P Dn p n).1)) (put (xS σ hx (oKnownIn C W P Dn p n).2) L C) := by
  obtain ⟨⟨⟨hW, hW8⟩, ⟨hP, hP6⟩, ⟨hD, hD6⟩, hdn⟩, hWv, hPp⟩ := id hw
  have hn := hR.nf hf
  refine Kt.go (Y := MX0_knownIn) (ls := [some (.ref hx), some (.int p), some (.int n)]) (by decide) (Nat.le_of_ble_eq_true rfl) rfl ?_
  first | refine j_aload_n dX0_knownIn_0 rfl ?_ | refine j_aload_nN dX0_knownIn_0 rfl ?_
  refine j_iload_n dX0_knownIn_1 rfl ?_
  refine j_dV1 kl_X0_264 (x_isPerson hf hg hR hP hP6 _) dX0_knownIn_2 rfl rfl (by decide) (by first | exact Fa.sh hf | assumption) (Nat.le_of_ble_eq_true rfl) (by first | decide | omega) (by omega) (by omega) ?_
  first | (with_reducible refine j_gB ?_; refine j_if_neB (tgt := 16) dX0_knownIn_5 (by decide) (fun c_5 => ?_) (fun c_5 => ?_)) | (with_reducible refine j_gC ?_; refine j_if_neC (tgt := 16) dX0_knownIn_5 (by decide) (fun c_5 => ?_) (fun c_5 => ?_)) | (with_reducible refine j_gN ?_; refine j_if_neN (tgt := 16) dX0_knownIn_5 (by decide) (by omega) (fun c_5 => ?_) (fun c_5 => ?_)) | refine j_if_ne (tgt := 16) dX0_knownIn_5 (by decide) (fun c_5 => ?_) (fun c_5 => ?_)
  · refine j_iload_n dX0_knownIn_16 rfl ?_
    refine j_dS1 kl_X0_343 (x_isSpan _) dX0_knownIn_17 rfl rfl (Nat.le_of_ble_eq_true rfl) (by first | decide | omega) (by omega) (by omega) ?_
    rw [inL_ok (n := 201) (by decide +kernel)]
    first | (with_reducible refine j_gB ?_; refine j_if_eqB (tgt := 43) dX0_knownIn_20 (by decide) (fun c_20 => ?_) (fun c_20 => ?_)) | (with_reducible refine j_gC ?_; refine j_if_eqC (tgt := 43) dX0_knownIn_20 (by decide) (fun c_20 => ?_) (fun c_20 => ?_)) | (with_reducible refine j_gN ?_; refine j_if_eqN (tgt := 43) dX0_knownIn_20 (by decide) (by omega) (fun c_20 => ?_) (fun c_20 => ?_)) | refine j_if_eq (tgt := 43) dX0_knownIn_20 (by decide) (fun c_20 => ?_) (fun c_20 => ?_)
    · first | refine j_aload_n dX0_knownIn_43 rfl ?_ | refine j_aload_nN dX0_knownIn_43 rfl ?_
      refine j_iconst (v := nI 5) dX0_knownIn_44 (by decide +kernel) ?_
      refine j_dV1 kl_X0_98 (x_none (Fa.sh hf) _) dX0_knownIn_45 rfl rfl (by decide) (by first | exact Fa.sh hf | assumption) (Nat.le_of_ble_eq_true rfl) (by first | decide | omega) (by omega) (by omega) ?_
      refine j_iret dX0_knownIn_48 ⟨_, rfl, rfl⟩ (by omega) (by omega) ?_
      exact pyR hn (by simp [oKnownIn, *]) Eqx.rf
    · obtain ⟨p, hp6, rfl⟩ := okN_nI c_5
      obtain ⟨n, hn2, rfl⟩ := okN_nI c_20
      have ep : ixn (nI p) = p := ixn_nI (by omega)
      have en : ixn (nI n) = n := ixn_nI (by omega)
      first | refine j_aload_n dX0_knownIn_23 rfl ?_ | refine j_aload_nN dX0_knownIn_23 rfl ?_
      first | refine j_aload_n dX0_knownIn_24 rfl ?_ | refine j_aload_nN dX0_knownIn_24 rfl ?_
      refine j_iload_n dX0_knownIn_25 rfl ?_
      refine j_callV kl_X0_346 (x_in hf hg hR hw hH hb hN (by omega)) dX0_knownIn_26 rfl rfl (by decide) (by first | exact Fa.sh hf | assumption) (Nat.le_of_ble_eq_true rfl) (by first | decide | omega) (by omega) (by omega) (fun v τ hq => ?_) (fun _ _ _ hq => hq.elim)
      obtain ⟨A2, σ2, rfl, hT, rfl⟩ := hq
      have he := hT.eq hf hP6 (some (A2 0)) (mDays C W P Dn n)
      have hf2 := hT.face hf hP6 (some (A2 0))
      have hw2 := days_wx hw n
      have hR2 := (hT.prov hf (some (A2 0))).fr (mDays_fr hw.1 n) hw.2.1.1
      have hf := hf2
      have hR := hR2
      have hL := hR.inj
      have hp := hR.pe hp6
      have hq := hp
      refine j_eq (st' := [.ref (A2 0), .ref hx]) rfl rfl rfl ?_
      refine j_getR dX0_knownIn_29 fl_X0_211 rfl (by first | exact Pv.sh hR | assumption) (by first | exact Pv.r1 hR | assumption) ?_
      refine j_iload_n dX0_knownIn_32 rfl ?_
      refine j_aald (t := 27) dX0_knownIn_33 (fun _ => rfl) (by decide) (by first | exact Pe.sl hp | exact Pe.sa hp | exact Pe.sl hq | exact Pe.sa hq | exact Pv.sw hR | exact Pv.sp hR | exact Pv.sd hR | exact Fa.s0 hf | exact Fa.s12 hf | exact Fa.s13 hf | exact Fa.s14 hf | exact Fa.s15 hf | exact Fa.s16 hf | exact Fa.s20 hf | exact Fa.s21 hf | exact Fa.s23 hf | assumption) rfl (by omega) (by decide) (by first | exact Pv.rw hR (by omega) | exact Pv.rp hR (by omega) | exact Pv.rd hR (by omega) | exact Fa.tr hf (by omega) | assumption) ?_
      refine j_getI dX0_knownIn_34 fl_X0_270 rfl (by first | exact Pe.sh hp | exact Pe.sh hq | assumption) (by first | exact pg (Pe.l4 hp) | exact pg (Pe.l4 hq) | assumption) ?_
      refine j_dV1 kl_X0_102 (x_gives (Fa.sh hf) _) dX0_knownIn_37 rfl rfl (by decide) (by first | exact Fa.sh hf | assumption) (Nat.le_of_ble_eq_true rfl) (by first | decide | omega) (by omega) (by omega) ?_
      refine j_goto (tgt := 48) dX0_knownIn_40 (by decide) ?_
      refine j_iret dX0_knownIn_48 ⟨_, rfl, rfl⟩ (by omega) (by omega) ?_
      exact pyR hn (by rw [oKnownIn, if_pos c_5, if_pos c_20, ep, en]) he
  · first | refine j_aload_n dX0_knownIn_8 rfl ?_ | refine j_aload_nN dX0_knownIn_8 rfl ?_
    refine j_iconst (v := nI 2) dX0_knownIn_9 (by decide +kernel) ?_
    refine j_dV1 kl_X0_98 (x_none (Fa.sh hf) _) dX0_knownIn_10 rfl rfl (by decide) (by first | exact Fa.sh hf | assumption) (Nat.le_of_ble_eq_true rfl) (by first | decide | omega) (by omega) (by omega) ?_
    refine j_goto (tgt := 48) dX0_knownIn_13 (by decide) ?_
    refine j_iret dX0_knownIn_48 ⟨_, rfl, rfl⟩ (by omega) (by omega) ?_
    exact pyR hn (by simp [oKnownIn, *]) Eqx.rf
theorem q_out (hf : Fa σ hx B) (hg : Fq σ hx A) (hR : Pv σ L A C W P Dn Hn) (hw : Wx C W P Dn) (hH : C 3 = nI Hn) (hb : Bb C P) (hN : Nm σ A W P nw np) (hl14 : ∀ k, L (B 14) k = none) (hGL : ∀ x, gi x → ∀ k, L (B x) k = none) (k : Int32) : Kx g l hx B 6 MX0_out [.ref hx, .int k] (put σ L C) 22 171 (some (.int (oOut C W P Dn k).1)) (put (xS σ hx (oOut C W P Dn k).2) L C) := by
  obtain ⟨⟨⟨hW, hW8⟩, ⟨hP, hP6⟩, ⟨hD, hD6⟩, hdn⟩, hWv, hPp⟩ := id hw
  have hn := hR.nf hf
  refine Kt.go (Y := MX0_out) (ls := [some (.ref hx), some (.int k), none, none]) (by decide) (Nat.le_of_ble_eq_true rfl) rfl ?_
  first | refine j_aload_n dX0_out_0 rfl ?_ | refine j_aload_nN dX0_out_0 rfl ?_
  refine j_iload_n dX0_out_1 rfl ?_
  refine j_dV1 kl_X0_242 (x_isWord hf hg hR hW hW8 _) dX0_out_2 rfl rfl (by decide) (by first | exact Fa.sh hf | assumption) (Nat.le_of_ble_eq_true rfl) (by first | decide | omega) (by omega) (by omega) ?_
  first | (with_reducible refine j_gB ?_; refine j_if_neB (tgt := 14) dX0_out_5 (by decide) (fun c_5 => ?_) (fun c_5 => ?_)) | (with_reducible refine j_gC ?_; refine j_if_neC (tgt := 14) dX0_out_5 (by decide) (fun c_5 => ?_) (fun c_5 => ?_)) | (with_reducible refine j_gN ?_; refine j_if_neN (tgt := 14) dX0_out_5 (by decide) (by omega) (fun c_5 => ?_) (fun c_5 => ?_)) | refine j_if_ne (tgt := 14) dX0_out_5 (by decide) (fun c_5 => ?_) (fun c_5 => ?_)
  · obtain ⟨k, hk, rfl⟩ := okN_nI c_5
    have ek : ixn (nI k) = k := ixn_nI (by omega)
    have eo : oOut C W P Dn (nI k) = oFound 1 (fUp (outF C W P Dn k) 200) := by rw [oOut, if_pos c_5, ek]
    rw [eo]
    first | refine j_aload_n dX0_out_14 rfl ?_ | refine j_aload_nN dX0_out_14 rfl ?_
    refine j_iconst (v := nI 0) dX0_out_15 (by decide +kernel) ?_
    refine j_callV kl_X0_346 (x_in hf hg hR hw hH hb hN (n := 0) (by omega)) dX0_out_16 rfl rfl (by decide) (by first | exact Fa.sh hf | assumption) (Nat.le_of_ble_eq_true rfl) (by first | decide | omega) (by omega) (by omega) (fun v τ hq => ?_) (fun _ _ _ hq => hq.elim)
    obtain ⟨A2, σ2, rfl, hT, rfl⟩ := hq
    refine j_eq (st' := [.ref (A2 0)]) rfl rfl rfl ?_
    have key : ∀ j, j ≤ 200 → ∀ D, D = mDays C W P Dn j → fUp (outF C W P Dn k) j = none → Tj g l 6 MX0_out [.ref hx, .int (nI k)] 22 171 (fun r τ => r = some (.int (oFound 1 (fUp (outF C W P Dn k) 200)).1) ∧ Eqx hx B τ (put (xS σ hx (oFound 1 (fUp (outF C W P Dn k) 200)).2) L C)) (fun _ _ _ => False) 22 171 22 [some (.ref hx), some (.int (nI k)), some (.ref (A2 0)), some (.int (nI (j + 1)))] [] (put (sR σ2 hx 11 (some (A2 0))) (pL A2 P) D) := by
      refine loop_up fun j hj ih => ?_
      intro D hD hno
      have f0 : Fr C D := by rw [hD]; exact mDays_fr hw.1 j
      have f1 := mDays_fr hw.1 (j + 1)
      have ej : mDay D W P Dn = mDays C W P Dn (j + 1) := by rw [hD]; rfl
      have he := hT.eq hf hP6 (some (A2 0)) D
      have he1 := hT.eq hf hP6 (some (A2 0)) (mDays C W P Dn (j + 1))
      have hwD : Wx D W P Dn := by rw [hD]; exact days_wx hw j
      have hR2 := (hT.prov hf (some (A2 0))).fr f0 hw.2.1.1
      have hR3 := (hT.prov hf (some (A2 0))).fr f1 hw.2.1.1
      obtain ⟨hRo, hid⟩ := hR.eqx hf hl14 hGL he1
      have hf2 := hT.face hf hP6 (some (A2 0))
      have ho := out_iff (C := C) (D := mDays C W P Dn (j + 1)) hP6 (show k < 8 by omega) (km_days hw (j + 1))
      have hg2 : (put (sR σ2 hx 11 (some (A2 0))) (pL A2 P) (mDays C W P Dn (j + 1))).2.2.2 hx 3 = some (A 0) := (he1.2.2.2 hx 3 (by rw [show (put σ L C).1 hx = some (0, 0) from hf.1]; simp) (fun q => by omega)).trans hg
      have so : (put (sR σ2 hx 11 (some (A2 0))) (pL A2 P) (mDays C W P Dn (j + 1))).1 (A 0) = some (6, 0) := hRo.sh (D := C)
      have hf := hf2
      have hR := hR2
      refine j_iload_n dX0_out_22 rfl ?_
      refine j_sipush (v := nI 200) dX0_out_23 (by decide +kernel) ?_
      first | (with_reducible refine j_gNN ?_; refine j_icmp_gtN (tgt := 63) dX0_out_26 (by decide) (by omega) (by omega) (fun c_26 => ?_) (fun c_26 => ?_)) | refine j_icmp_gt (tgt := 63) dX0_out_26 (by decide) (fun c_26 => ?_) (fun c_26 => ?_)
      · first | refine j_aload_n dX0_out_63 rfl ?_ | refine j_aload_nN dX0_out_63 rfl ?_
        refine j_bipush (v := nI 8) dX0_out_64 (by decide +kernel) ?_
        refine j_dV1 kl_X0_98 (x_none (Fa.sh hf) _) dX0_out_66 rfl rfl (by decide) (by first | exact hg2 | exact so | exact Fa.sh hf | assumption) (Nat.le_of_ble_eq_true rfl) (by first | decide | omega) (by omega) (by omega) ?_
        refine j_iret dX0_out_69 ⟨_, rfl, rfl⟩ (by omega) (by omega) ?_
        have e : j = 200 := by omega
        subst e
        rw [hno]
        exact pyR hn rfl he
      · first | refine j_aload_n dX0_out_29 rfl ?_ | refine j_aload_nN dX0_out_29 rfl ?_
        refine j_dV0 kl_X0_349 (x_day hR hwD) dX0_out_30 rfl rfl (by decide) (by first | exact hg2 | exact so | exact Pv.sh hR | assumption) (Nat.le_of_ble_eq_true rfl) (by first | decide | omega) (by omega) (by omega) ?_
        rw [ej]
        first | refine j_aload_n dX0_out_33 rfl ?_ | refine j_aload_nN dX0_out_33 rfl ?_
        refine j_iload_n dX0_out_34 rfl ?_
        refine j_iconst (v := nI 0) dX0_out_35 (by decide +kernel) ?_
        refine j_dV1 kl_X0_257 (x_peopleK hR3 ((f1 1 (by omega)).trans hP) hP6) dX0_out_36 rfl rfl (by decide) (by first | exact hg2 | exact so | exact Pv.sh hR | assumption) (Nat.le_of_ble_eq_true rfl) (by first | decide | omega) (by omega) (by omega) ?_
        first | refine j_aload_n dX0_out_39 rfl ?_ | refine j_aload_nN dX0_out_39 rfl ?_
        refine j_getR dX0_out_40 fl_X0_38 rfl (by first | exact hg2 | exact so | exact Fa.sh hf | assumption) (by first | exact hg2 | exact so | exact Fq.f3 hg | assumption) ?_
        refine j_iload_n dX0_out_43 rfl ?_
        refine j_iconst (v := nI 0) dX0_out_44 (by decide +kernel) ?_
        refine j_eq (σ' := put (put (sR σ2 hx 11 (some (A2 0))) (pL A2 P) (mDays C W P Dn (j + 1))) L C) rfl rfl hid.symm ?_
        refine j_dV1 kl_X0_257 (x_peopleK hRo hP hP6) dX0_out_45 rfl rfl (by decide) so (Nat.le_of_ble_eq_true rfl) (by decide) (by omega) (by omega) ?_
        refine j_eq (σ' := put (sR σ2 hx 11 (some (A2 0))) (pL A2 P) (mDays C W P Dn (j + 1))) rfl rfl hid ?_
        first | (with_reducible refine j_gNN ?_; refine j_icmp_eqN (tgt := 57) dX0_out_48 (by decide) (by omega) (by omega) (fun c_48 => ?_) (fun c_48 => ?_)) | refine j_icmp_eq (tgt := 57) dX0_out_48 (by decide) (fun c_48 => ?_) (fun c_48 => ?_)
        · first | refine j_iincN dX0_out_57 rfl (by decide) ?_ | refine j_iinc dX0_out_57 rfl rfl (by decide) ?_
          refine j_goto (tgt := 22) dX0_out_60 (by decide) ?_
          have z : outF C W P Dn k j = false := by
            unfold outF
            rw [ho, decide_eq_true c_48]
            rfl
          exact ih (by omega) _ rfl (by rw [fUp, hno, z]; rfl)
        · first | refine j_aload_n dX0_out_51 rfl ?_ | refine j_aload_nN dX0_out_51 rfl ?_
          refine j_iload_n dX0_out_52 rfl ?_
          refine j_dV1 kl_X0_102 (x_gives (Fa.sh hf) _) dX0_out_53 rfl rfl (by decide) (by first | exact hg2 | exact so | exact Fa.sh hf | assumption) (Nat.le_of_ble_eq_true rfl) (by first | decide | omega) (by omega) (by omega) ?_
          refine j_iret dX0_out_56 ⟨_, rfl, rfl⟩ (by omega) (by omega) ?_
          have z : outF C W P Dn k j = true := by
            unfold outF
            rw [ho, decide_eq_false c_48]
            rfl
          have z2 : fUp (outF C W P Dn k) 200 = some j := fUp_le (j := j + 1) (by rw [fUp, hno, z]; rfl) (by omega)
          rw [z2]
          exact pyR hn rfl he1
    first | refine j_astore_n dX0_out_19 (by decide) ?_ | refine j_astore_nN dX0_out_19 (by decide) ?_
    refine j_iconst (v := nI 1) dX0_out_20 (by decide +kernel) ?_
    refine j_istore_n dX0_out_21 (by decide) ?_
    exact key 0 (by omega) C rfl rfl
  · first | refine j_aload_n dX0_out_8 rfl ?_ | refine j_aload_nN dX0_out_8 rfl ?_
    refine j_iconst (v := nI 2) dX0_out_9 (by decide +kernel) ?_
    refine j_dV1 kl_X0_98 (x_none (Fa.sh hf) _) dX0_out_10 rfl rfl (by decide) (by first | exact Fa.sh hf | assumption) (Nat.le_of_ble_eq_true rfl) (by first | decide | omega) (by omega) (by omega) ?_
    refine j_iret dX0_out_13 ⟨_, rfl, rfl⟩ (by omega) (by omega) ?_
    exact pyR hn (by simp [oOut, *]) Eqx.rf
theorem q_learnsIn (hf : Fa σ hx B) (hg : Fq σ hx A) (hR : Pv σ L A C W P Dn Hn) (hw : Wx C W P Dn) (hH : C 3 = nI Hn) (hb : Bb C P) (hN : Nm σ A W P nw np) (p k : Int32) : Kx g l hx B 6 MX0_learnsIn [.ref hx, .int p, .int k] (put σ L C) 22 171 (some (.int (oLearnsIn C W P Dn p k).1)) (put (xS σ hx (oLearnsIn C W P Dn p k).2) L C) := by
  obtain ⟨⟨⟨hW, hW8⟩, ⟨hP, hP6⟩, ⟨hD, hD6⟩, hdn⟩, hWv, hPp⟩ := id hw
  have hn := hR.nf hf
  refine Kt.go (Y := MX0_learnsIn) (ls := [some (.ref hx), some (.int p), some (.int k), none, none]) (by decide) (Nat.le_of_ble_eq_true rfl) rfl ?_
  first | refine j_aload_n dX0_learnsIn_0 rfl ?_ | refine j_aload_nN dX0_learnsIn_0 rfl ?_
  refine j_iload_n dX0_learnsIn_1 rfl ?_
  refine j_dV1 kl_X0_264 (x_isPerson hf hg hR hP hP6 _) dX0_learnsIn_2 rfl rfl (by decide) (by first | exact Fa.sh hf | assumption) (Nat.le_of_ble_eq_true rfl) (by first | decide | omega) (by omega) (by omega) ?_
  first | (with_reducible refine j_gB ?_; refine j_if_eqB (tgt := 16) dX0_learnsIn_5 (by decide) (fun c_5 => ?_) (fun c_5 => ?_)) | (with_reducible refine j_gC ?_; refine j_if_eqC (tgt := 16) dX0_learnsIn_5 (by decide) (fun c_5 => ?_) (fun c_5 => ?_)) | (with_reducible refine j_gN ?_; refine j_if_eqN (tgt := 16) dX0_learnsIn_5 (by decide) (by omega) (fun c_5 => ?_) (fun c_5 => ?_)) | refine j_if_eq (tgt := 16) dX0_learnsIn_5 (by decide) (fun c_5 => ?_) (fun c_5 => ?_)
  · first | refine j_aload_n dX0_learnsIn_16 rfl ?_ | refine j_aload_nN dX0_learnsIn_16 rfl ?_
    refine j_iconst (v := nI 2) dX0_learnsIn_17 (by decide +kernel) ?_
    refine j_dV1 kl_X0_98 (x_none (Fa.sh hf) _) dX0_learnsIn_18 rfl rfl (by decide) (by first | exact Fa.sh hf | assumption) (Nat.le_of_ble_eq_true rfl) (by first | decide | omega) (by omega) (by omega) ?_
    refine j_iret dX0_learnsIn_21 ⟨_, rfl, rfl⟩ (by omega) (by omega) ?_
    exact pyR hn (by simp [oLearnsIn, *]) Eqx.rf
  · first | refine j_aload_n dX0_learnsIn_8 rfl ?_ | refine j_aload_nN dX0_learnsIn_8 rfl ?_
    refine j_iload_n dX0_learnsIn_9 rfl ?_
    refine j_dV1 kl_X0_242 (x_isWord hf hg hR hW hW8 _) dX0_learnsIn_10 rfl rfl (by decide) (by first | exact Fa.sh hf | assumption) (Nat.le_of_ble_eq_true rfl) (by first | decide | omega) (by omega) (by omega) ?_
    first | (with_reducible refine j_gB ?_; refine j_if_neB (tgt := 22) dX0_learnsIn_13 (by decide) (fun c_13 => ?_) (fun c_13 => ?_)) | (with_reducible refine j_gC ?_; refine j_if_neC (tgt := 22) dX0_learnsIn_13 (by decide) (fun c_13 => ?_) (fun c_13 => ?_)) | (with_reducible refine j_gN ?_; refine j_if_neN (tgt := 22) dX0_learnsIn_13 (by decide) (by omega) (fun c_13 => ?_) (fun c_13 => ?_)) | refine j_if_ne (tgt := 22) dX0_learnsIn_13 (by decide) (fun c_13 => ?_) (fun c_13 => ?_)
    · obtain ⟨k, hk, rfl⟩ := okN_nI c_13
      obtain ⟨p, hp6, rfl⟩ := okN_nI c_5
      have ek : ixn (nI k) = k := ixn_nI (by omega)
      have ep : ixn (nI p) = p := ixn_nI (by omega)
      have eo : oLearnsIn C W P Dn (nI p) (nI k) = oFound 0 (fUp (lrnF C W P Dn p k) 201) := by rw [oLearnsIn, if_pos ⟨c_5, c_13⟩, ek, ep]
      rw [eo]
      first | refine j_aload_n dX0_learnsIn_22 rfl ?_ | refine j_aload_nN dX0_learnsIn_22 rfl ?_
      refine j_iconst (v := nI 0) dX0_learnsIn_23 (by decide +kernel) ?_
      refine j_callV kl_X0_346 (x_in hf hg hR hw hH hb hN (n := 0) (by omega)) dX0_learnsIn_24 rfl rfl (by decide) (by first | exact Fa.sh hf | assumption) (Nat.le_of_ble_eq_true rfl) (by first | decide | omega) (by omega) (by omega) (fun v τ hq => ?_) (fun _ _ _ hq => hq.elim)
      obtain ⟨A2, σ2, rfl, hT, rfl⟩ := hq
      refine j_eq (st' := [.ref (A2 0)]) rfl rfl rfl ?_
      have key : ∀ j, j ≤ 201 → ∀ D, D = mDays C W P Dn j → fUp (lrnF C W P Dn p k) j = none → Tj g l 6 MX0_learnsIn [.ref hx, .int (nI p), .int (nI k)] 22 171 (fun r τ => r = some (.int (oFound 0 (fUp (lrnF C W P Dn p k) 201)).1) ∧ Eqx hx B τ (put (xS σ hx (oFound 0 (fUp (lrnF C W P Dn p k) 201)).2) L C)) (fun _ _ _ => False) 22 171 31 [some (.ref hx), some (.int (nI p)), some (.int (nI k)), some (.ref (A2 0)), some (.int (nI j))] [] (put (sR σ2 hx 11 (some (A2 0))) (pL A2 P) D) := by
        refine loop_up fun j hj ih => ?_
        intro D hD hno
        have f0 : Fr C D := by rw [hD]; exact mDays_fr hw.1 j
        have ej : mDay D W P Dn = mDays C W P Dn (j + 1) := by rw [hD]; rfl
        have he := hT.eq hf hP6 (some (A2 0)) D
        have hwD : Wx D W P Dn := by rw [hD]; exact days_wx hw j
        have hR2 := (hT.prov hf (some (A2 0))).fr f0 hw.2.1.1
        have hf2 := hT.face hf hP6 (some (A2 0))
        have el : lrnF C W P Dn p k j = hs (D (37 + p)) k := by rw [hD]; rfl
        have hf := hf2
        have hR := hR2
        have hL := hR.inj
        have hp := hR.pe hp6
        have hq := hp
        refine j_iload dX0_learnsIn_31 rfl ?_
        refine j_sipush (v := nI 200) dX0_learnsIn_33 (by decide +kernel) ?_
        first | (with_reducible refine j_gNN ?_; refine j_icmp_gtN (tgt := 72) dX0_learnsIn_36 (by decide) (by omega) (by omega) (fun c_36 => ?_) (fun c_36 => ?_)) | refine j_icmp_gt (tgt := 72) dX0_learnsIn_36 (by decide) (fun c_36 => ?_) (fun c_36 => ?_)
        · first | refine j_aload_n dX0_learnsIn_72 rfl ?_ | refine j_aload_nN dX0_learnsIn_72 rfl ?_
          refine j_bipush (v := nI 8) dX0_learnsIn_73 (by decide +kernel) ?_
          refine j_dV1 kl_X0_98 (x_none (Fa.sh hf) _) dX0_learnsIn_75 rfl rfl (by decide) (by first | exact Fa.sh hf | assumption) (Nat.le_of_ble_eq_true rfl) (by first | decide | omega) (by omega) (by omega) ?_
          refine j_iret dX0_learnsIn_78 ⟨_, rfl, rfl⟩ (by omega) (by omega) ?_
          have e : j = 201 := by omega
          subst e
          rw [hno]
          exact pyR hn rfl he
        · first | refine j_aload_n dX0_learnsIn_39 rfl ?_ | refine j_aload_nN dX0_learnsIn_39 rfl ?_
          refine j_getR dX0_learnsIn_40 fl_X0_211 rfl (by first | exact Pv.sh hR | assumption) (by first | exact Pv.r1 hR | assumption) ?_
          refine j_iload_n dX0_learnsIn_43 rfl ?_
          refine j_aald (t := 27) dX0_learnsIn_44 (fun _ => rfl) (by decide) (by first | exact Pe.sl hp | exact Pe.sa hp | exact Pe.sl hq | exact Pe.sa hq | exact Pv.sw hR | exact Pv.sp hR | exact Pv.sd hR | exact Fa.s0 hf | exact Fa.s12 hf | exact Fa.s13 hf | exact Fa.s14 hf | exact Fa.s15 hf | exact Fa.s16 hf | exact Fa.s20 hf | exact Fa.s21 hf | exact Fa.s23 hf | assumption) rfl (by omega) (by decide) (by first | exact Pv.rw hR (by omega) | exact Pv.rp hR (by omega) | exact Pv.rd hR (by omega) | exact Fa.tr hf (by omega) | assumption) ?_
          refine j_getI dX0_learnsIn_45 fl_X0_270 rfl (by first | exact Pe.sh hp | exact Pe.sh hq | assumption) (by first | exact pg (Pe.l4 hp) | exact pg (Pe.l4 hq) | assumption) ?_
          refine j_iload_n dX0_learnsIn_48 rfl ?_
          refine j_dS1 kl_X0_279 (k_isIn _ _ _ _ k) dX0_learnsIn_49 rfl rfl (Nat.le_of_ble_eq_true rfl) (by first | decide | omega) (by omega) (by omega) ?_
          first | (with_reducible refine j_gB ?_; refine j_if_eqB (tgt := 62) dX0_learnsIn_52 (by decide) (fun c_52 => ?_) (fun c_52 => ?_)) | (with_reducible refine j_gC ?_; refine j_if_eqC (tgt := 62) dX0_learnsIn_52 (by decide) (fun c_52 => ?_) (fun c_52 => ?_)) | (with_reducible refine j_gN ?_; refine j_if_eqN (tgt := 62) dX0_learnsIn_52 (by decide) (by omega) (fun c_52 => ?_) (fun c_52 => ?_)) | refine j_if_eq (tgt := 62) dX0_learnsIn_52 (by decide) (fun c_52 => ?_) (fun c_52 => ?_)
          · first | refine j_aload_n dX0_learnsIn_62 rfl ?_ | refine j_aload_nN dX0_learnsIn_62 rfl ?_
            refine j_dV0 kl_X0_349 (x_day hR hwD) dX0_learnsIn_63 rfl rfl (by decide) (by first | exact Pv.sh hR | assumption) (Nat.le_of_ble_eq_true rfl) (by first | decide | omega) (by omega) (by omega) ?_
            rw [ej]
            first | refine j_iincN dX0_learnsIn_66 rfl (by decide) ?_ | refine j_iinc dX0_learnsIn_66 rfl rfl (by decide) ?_
            refine j_goto (tgt := 31) dX0_learnsIn_69 (by decide) ?_
            exact ih (by omega) _ rfl (by rw [fUp, hno, el, c_52]; rfl)
          · first | refine j_aload_n dX0_learnsIn_55 rfl ?_ | refine j_aload_nN dX0_learnsIn_55 rfl ?_
            refine j_iload dX0_learnsIn_56 rfl ?_
            refine j_dV1 kl_X0_102 (x_gives (Fa.sh hf) _) dX0_learnsIn_58 rfl rfl (by decide) (by first | exact Fa.sh hf | assumption) (Nat.le_of_ble_eq_true rfl) (by first | decide | omega) (by omega) (by omega) ?_
            refine j_iret dX0_learnsIn_61 ⟨_, rfl, rfl⟩ (by omega) (by omega) ?_
            have z2 : fUp (lrnF C W P Dn p k) 201 = some j := fUp_le (j := j + 1) (by rw [fUp, hno, el, c_52]; rfl) (by omega)
            rw [z2]
            exact pyR hn rfl he
      first | refine j_astore_n dX0_learnsIn_27 (by decide) ?_ | refine j_astore_nN dX0_learnsIn_27 (by decide) ?_
      refine j_iconst (v := nI 0) dX0_learnsIn_28 (by decide +kernel) ?_
      refine j_istore dX0_learnsIn_29 (by decide) ?_
      exact key 0 (by omega) C rfl rfl
    · first | refine j_aload_n dX0_learnsIn_16 rfl ?_ | refine j_aload_nN dX0_learnsIn_16 rfl ?_
      refine j_iconst (v := nI 2) dX0_learnsIn_17 (by decide +kernel) ?_
      refine j_dV1 kl_X0_98 (x_none (Fa.sh hf) _) dX0_learnsIn_18 rfl rfl (by decide) (by first | exact Fa.sh hf | assumption) (Nat.le_of_ble_eq_true rfl) (by first | decide | omega) (by omega) (by omega) ?_
      refine j_iret dX0_learnsIn_21 ⟨_, rfl, rfl⟩ (by omega) (by omega) ?_
      exact pyR hn (by simp [oLearnsIn, *]) Eqx.rf
theorem q_wildIn (hf : Fa σ hx B) (hg : Fq σ hx A) (hR : Pv σ L A C W P Dn Hn) (hw : Wx C W P Dn) (hH : C 3 = nI Hn) (hb : Bb C P) (hN : Nm σ A W P nw np) (p : Int32) : Kx g l hx B 6 MX0_wildIn [.ref hx, .int p] (put σ L C) 22 171 (some (.int (oWildIn C W P Dn p).1)) (put (xS σ hx (oWildIn C W P Dn p).2) L C) := by
  obtain ⟨⟨⟨hW, hW8⟩, ⟨hP, hP6⟩, ⟨hD, hD6⟩, hdn⟩, hWv, hPp⟩ := id hw
  have hn := hR.nf hf
  refine Kt.go (Y := MX0_wildIn) (ls := [some (.ref hx), some (.int p), none, none]) (by decide) (Nat.le_of_ble_eq_true rfl) rfl ?_
  first | refine j_aload_n dX0_wildIn_0 rfl ?_ | refine j_aload_nN dX0_wildIn_0 rfl ?_
  refine j_iload_n dX0_wildIn_1 rfl ?_
  refine j_dV1 kl_X0_264 (x_isPerson hf hg hR hP hP6 _) dX0_wildIn_2 rfl rfl (by decide) (by first | exact Fa.sh hf | assumption) (Nat.le_of_ble_eq_true rfl) (by first | decide | omega) (by omega) (by omega) ?_
  first | (with_reducible refine j_gB ?_; refine j_if_neB (tgt := 14) dX0_wildIn_5 (by decide) (fun c_5 => ?_) (fun c_5 => ?_)) | (with_reducible refine j_gC ?_; refine j_if_neC (tgt := 14) dX0_wildIn_5 (by decide) (fun c_5 => ?_) (fun c_5 => ?_)) | (with_reducible refine j_gN ?_; refine j_if_neN (tgt := 14) dX0_wildIn_5 (by decide) (by omega) (fun c_5 => ?_) (fun c_5 => ?_)) | refine j_if_ne (tgt := 14) dX0_wildIn_5 (by decide) (fun c_5 => ?_) (fun c_5 => ?_)
  · obtain ⟨p, hp6, rfl⟩ := okN_nI c_5
    have ep : ixn (nI p) = p := ixn_nI (by omega)
    have eo : oWildIn C W P Dn (nI p) = oFound 0 (fUp (wldF C W P Dn p) 201) := by rw [oWildIn, if_pos c_5, ep]
    rw [eo]
    first | refine j_aload_n dX0_wildIn_14 rfl ?_ | refine j_aload_nN dX0_wildIn_14 rfl ?_
    refine j_iconst (v := nI 0) dX0_wildIn_15 (by decide +kernel) ?_
    refine j_callV kl_X0_346 (x_in hf hg hR hw hH hb hN (n := 0) (by omega)) dX0_wildIn_16 rfl rfl (by decide) (by first | exact Fa.sh hf | assumption) (Nat.le_of_ble_eq_true rfl) (by first | decide | omega) (by omega) (by omega) (fun v τ hq => ?_) (fun _ _ _ hq => hq.elim)
    obtain ⟨A2, σ2, rfl, hT, rfl⟩ := hq
    have hsx := hT.sx hf
    have f11 : ∀ (L2 : Nat → Nat → Option Nat) (D : Nat → Int32), (put (sR σ2 hx 11 (some (A2 0))) L2 D).2.2.2 hx 11 = some (A2 0) := fun L2 D => by
      show up σ2.2.2.2 hx (up (σ2.2.2.2 hx) 11 (some (A2 0))) hx 11 = _
      rw [up_eq, up_eq]
    refine j_eq (st' := [.ref (A2 0)]) rfl rfl rfl ?_
    have key : ∀ j, j ≤ 201 → ∀ D, D = mDays C W P Dn j → fUp (wldF C W P Dn p) j = none → Tj g l 6 MX0_wildIn [.ref hx, .int (nI p)] 22 171 (fun r τ => r = some (.int (oFound 0 (fUp (wldF C W P Dn p) 201)).1) ∧ Eqx hx B τ (put (xS σ hx (oFound 0 (fUp (wldF C W P Dn p) 201)).2) L C)) (fun _ _ _ => False) 22 171 27 [some (.ref hx), some (.int (nI p)), some (.ref (A2 (20 + p))), some (.int (nI j))] [] (put (sR σ2 hx 11 (some (A2 0))) (pL A2 P) D) := by
      refine loop_up fun j hj ih => ?_
      intro D hD hno
      have f0 : Fr C D := by rw [hD]; exact mDays_fr hw.1 j
      have ej : mDay D W P Dn = mDays C W P Dn (j + 1) := by rw [hD]; rfl
      have he := hT.eq hf hP6 (some (A2 0)) D
      have hwD : Wx D W P Dn := by rw [hD]; exact days_wx hw j
      have hR2 := (hT.prov hf (some (A2 0))).fr f0 hw.2.1.1
      have hf2 := hT.face hf hP6 (some (A2 0))
      have el : wldF C W P Dn p j = decide (D (25 + p) < mHair D W p) := by
        rw [hD]
        unfold wldF
        rw [mDays_fr hw.1 j (25 + p) (by omega)]
      have hf := hf2
      have hR := hR2
      have hL := hR.inj
      have hp := hR.pe hp6
      have hq := hp
      refine j_iload_n dX0_wildIn_27 rfl ?_
      refine j_sipush (v := nI 200) dX0_wildIn_28 (by decide +kernel) ?_
      first | (with_reducible refine j_gNN ?_; refine j_icmp_gtN (tgt := 64) dX0_wildIn_31 (by decide) (by omega) (by omega) (fun c_31 => ?_) (fun c_31 => ?_)) | refine j_icmp_gt (tgt := 64) dX0_wildIn_31 (by decide) (fun c_31 => ?_) (fun c_31 => ?_)
      · first | refine j_aload_n dX0_wildIn_64 rfl ?_ | refine j_aload_nN dX0_wildIn_64 rfl ?_
        refine j_bipush (v := nI 8) dX0_wildIn_65 (by decide +kernel) ?_
        refine j_dV1 kl_X0_98 (x_none (Fa.sh hf) _) dX0_wildIn_67 rfl rfl (by decide) (by first | exact f11 _ _ | exact Fa.sh hf | assumption) (Nat.le_of_ble_eq_true rfl) (by first | decide | omega) (by omega) (by omega) ?_
        refine j_iret dX0_wildIn_70 ⟨_, rfl, rfl⟩ (by omega) (by omega) ?_
        have e : j = 201 := by omega
        subst e
        rw [hno]
        exact pyR hn rfl he
      · first | refine j_aload_n dX0_wildIn_34 rfl ?_ | refine j_aload_nN dX0_wildIn_34 rfl ?_
        refine j_dV1 kl_X0_276 (x_hair hL hp hW8 ((hwD.2.2 p hp6).kw hW8)) dX0_wildIn_35 rfl rfl (by decide) (by first | exact f11 _ _ | exact Pe.sh hp | exact Pe.sh hq | assumption) (Nat.le_of_ble_eq_true rfl) (by first | decide | omega) (by omega) (by omega) ?_
        first | refine j_aload_n dX0_wildIn_38 rfl ?_ | refine j_aload_nN dX0_wildIn_38 rfl ?_
        refine j_getI dX0_wildIn_39 fl_X0_267 rfl (by first | exact f11 _ _ | exact Pe.sh hp | exact Pe.sh hq | assumption) (by first | exact f11 _ _ | exact pg (Pe.l3 hp) | exact pg (Pe.l3 hq) | assumption) ?_
        first | (with_reducible refine j_gNN ?_; refine j_icmp_leN (tgt := 51) dX0_wildIn_42 (by decide) (by omega) (by omega) (fun c_42 => ?_) (fun c_42 => ?_)) | refine j_icmp_le (tgt := 51) dX0_wildIn_42 (by decide) (fun c_42 => ?_) (fun c_42 => ?_)
        · first | refine j_aload_n dX0_wildIn_51 rfl ?_ | refine j_aload_nN dX0_wildIn_51 rfl ?_
          refine j_getR dX0_wildIn_52 fl_X0_53 rfl (by first | exact f11 _ _ | exact Fa.sh hf | assumption) (by first | exact f11 _ _ | assumption) ?_
          refine j_dV0 kl_X0_349 (x_day hR hwD) dX0_wildIn_55 rfl rfl (by decide) (by first | exact f11 _ _ | exact Pv.sh hR | assumption) (Nat.le_of_ble_eq_true rfl) (by first | decide | omega) (by omega) (by omega) ?_
          rw [ej]
          first | refine j_iincN dX0_wildIn_58 rfl (by decide) ?_ | refine j_iinc dX0_wildIn_58 rfl rfl (by decide) ?_
          refine j_goto (tgt := 27) dX0_wildIn_61 (by decide) ?_
          have z : wldF C W P Dn p j = false := by rw [el]; exact decide_eq_false (Int32.not_lt.mpr c_42)
          exact ih (by omega) _ rfl (by rw [fUp, hno, z]; rfl)
        · first | refine j_aload_n dX0_wildIn_45 rfl ?_ | refine j_aload_nN dX0_wildIn_45 rfl ?_
          refine j_iload_n dX0_wildIn_46 rfl ?_
          refine j_dV1 kl_X0_102 (x_gives (Fa.sh hf) _) dX0_wildIn_47 rfl rfl (by decide) (by first | exact f11 _ _ | exact Fa.sh hf | assumption) (Nat.le_of_ble_eq_true rfl) (by first | decide | omega) (by omega) (by omega) ?_
          refine j_iret dX0_wildIn_50 ⟨_, rfl, rfl⟩ (by omega) (by omega) ?_
          have z : wldF C W P Dn p j = true := by rw [el]; exact decide_eq_true (Int32.not_le.mp c_42)
          have z2 : fUp (wldF C W P Dn p) 201 = some j := fUp_le (j := j + 1) (by rw [fUp, hno, z]; rfl) (by omega)
          rw [z2]
          exact pyR hn rfl he
    have hR := hT.prov hf (some (A2 0))
    have hp := hR.pe hp6
    have hq := hp
    have hPr := (hR.rp hp6 (D := C))
    refine j_getR dX0_wildIn_19 fl_X0_211 rfl (by first | exact hPr | exact Pv.sh hR | assumption) (by first | exact hPr | exact Pv.r1 hR | assumption) ?_
    refine j_iload_n dX0_wildIn_22 rfl ?_
    refine j_aald (t := 27) dX0_wildIn_23 (fun _ => rfl) (by decide) (by first | exact hPr | exact Pe.sl hp | exact Pe.sa hp | exact Pe.sl hq | exact Pe.sa hq | exact Pv.sw hR | exact Pv.sp hR | exact Pv.sd hR | exact Fa.s0 hf | exact Fa.s12 hf | exact Fa.s13 hf | exact Fa.s14 hf | exact Fa.s15 hf | exact Fa.s16 hf | exact Fa.s20 hf | exact Fa.s21 hf | exact Fa.s23 hf | assumption) rfl (by omega) (by decide) (by first | exact hPr | exact Pv.rw hR (by omega) | exact Pv.rp hR (by omega) | exact Pv.rd hR (by omega) | exact Fa.tr hf (by omega) | assumption) ?_
    first | refine j_astore_n dX0_wildIn_24 (by decide) ?_ | refine j_astore_nN dX0_wildIn_24 (by decide) ?_
    refine j_iconst (v := nI 0) dX0_wildIn_25 (by decide +kernel) ?_
    refine j_istore_n dX0_wildIn_26 (by decide) ?_
    exact key 0 (by omega) C rfl rfl
  · first | refine j_aload_n dX0_wildIn_8 rfl ?_ | refine j_aload_nN dX0_wildIn_8 rfl ?_
    refine j_iconst (v := nI 2) dX0_wildIn_9 (by decide +kernel) ?_
    refine j_dV1 kl_X0_98 (x_none (Fa.sh hf) _) dX0_wildIn_10 rfl rfl (by decide) (by first | exact Fa.sh hf | assumption) (Nat.le_of_ble_eq_true rfl) (by first | decide | omega) (by omega) (by omega) ?_
    refine j_iret dX0_wildIn_13 ⟨_, rfl, rfl⟩ (by omega) (by omega) ?_
    exact pyR hn (by simp [oWildIn, *]) Eqx.rf
end X25s
