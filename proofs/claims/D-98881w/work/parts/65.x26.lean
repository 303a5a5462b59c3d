/-! X: A DINNER MORE -/
set_option maxRecDepth 100000
/-- a new dinner -/
def invS (σ : Sg) (a3 q d : Nat) (x y e : Int32) : Sg := sR (sI (sI (sI (sN σ q 11 0) q 0 x) q 1 y) q 2 e) a3 d (some q)
theorem inv_put {σ : Sg} {L : Nat → Nat → Option Nat} {C : Nat → Int32} {q a3 d : Nat} {x y e : Int32} (h : ∀ j, L q j = none) : invS (put σ L C) a3 q d x y e = put (invS σ a3 q d x y e) L C := by
  unfold invS
  rw [put_N h, put_n (h 0), put_n (h 1), put_n (h 2), put_R]
theorem inv_s {σ : Sg} {q a3 d b : Nat} {x y e : Int32} (h : b ≠ q) : (invS σ a3 q d x y e).1 b = σ.1 b := up_ne h
theorem inv_sq {σ : Sg} {q a3 d : Nat} {x y e : Int32} : (invS σ a3 q d x y e).1 q = some (11, 0) := up_eq _ _ _
theorem inv_i {σ : Sg} {q a3 d b : Nat} {x y e : Int32} (h : b ≠ q) : (invS σ a3 q d x y e).2.1 b = σ.2.1 b := by
  show (sI (sI (sI (sN σ q 11 0) q 0 x) q 1 y) q 2 e).2.1 b = _
  rw [sI_n h, sI_n h, sI_n h]
  exact up_ne h
theorem inv_iq {σ : Sg} {q a3 d : Nat} {x y e : Int32} : (invS σ a3 q d x y e).2.1 q 0 = x ∧ (invS σ a3 q d x y e).2.1 q 1 = y ∧ (invS σ a3 q d x y e).2.1 q 2 = e := by
  refine ⟨?_, ?_, ?_⟩ <;> show (sI (sI (sI (sN σ q 11 0) q 0 x) q 1 y) q 2 e).2.1 q _ = _ <;> simp only [sI_at] <;> simp
theorem inv_l {σ : Sg} {q a3 d b : Nat} {x y e : Int32} (h : b ≠ q) : (invS σ a3 q d x y e).2.2.1 b = σ.2.2.1 b := up_ne h
theorem inv_r {σ : Sg} {q a3 d b : Nat} {x y e : Int32} (h : b ≠ q) (h3 : b ≠ a3) : (invS σ a3 q d x y e).2.2.2 b = σ.2.2.2 b := by
  show (sR (sI (sI (sI (sN σ q 11 0) q 0 x) q 1 y) q 2 e) a3 d (some q)).2.2.2 b = _
  rw [sR_n h3]
  exact up_ne h
theorem inv_r3 {σ : Sg} {q a3 d : Nat} {x y e : Int32} (h : a3 ≠ q) : (invS σ a3 q d x y e).2.2.2 a3 = up (σ.2.2.2 a3) d (some q) := by
  show (sR (sI (sI (sI (sN σ q 11 0) q 0 x) q 1 y) q 2 e) a3 d (some q)).2.2.2 a3 = _
  rw [sR_e]
  show up (up σ.2.2.2 q (fun _ => none) a3) d (some q) = _
  rw [up_ne h]
/-- a province stands in a heap where its own cells stand -/
theorem Pv.mv {σ τ : Sg} {L : Nat → Nat → Option Nat} {A : Nat → Nat} {C : Nat → Int32} {W P Dn Hn : Nat} (h : Pv σ L A C W P Dn Hn) (hD6 : Dn ≤ 6) (S : ∀ b, σ.1 b ≠ none → τ.1 b = σ.1 b) (I : ∀ b, (σ.1 b = some (10, 0) ∨ σ.1 b = some (11, 0)) → τ.2.1 b = σ.2.1 b) (R : ∀ b, σ.1 b ≠ none → b ≠ A 3 → (b = A 0 ∨ b = A 1 ∨ b = A 2 ∨ σ.1 b = some (8, 0)) → τ.2.2.2 b = σ.2.2.2 b) (R3 : ∀ k, k < 6 → τ.2.2.2 (A 3) k = σ.2.2.2 (A 3) k ∨ Dn ≤ k ∧ ∀ y, τ.2.2.2 (A 3) k = some y → τ.1 y = some (11, 0)) : Pv τ L A C W P Dn Hn := by
  have S' : ∀ b x, σ.1 b = some x → τ.1 b = some x := fun b x hb => (S b (by rw [hb]; simp)).trans hb
  have s3 : σ.1 (A 3) = some (28, 6) := Pv.sd h (D := C)
  have n3 : ∀ b t n, σ.1 b = some (t, n) → t ≠ 28 → b ≠ A 3 := fun b t n hb ht e => by rw [e, s3] at hb; cases hb; exact ht rfl
  obtain ⟨h1, h2, h3, h4, h5, h6, h7, h8, h9, h10, h11⟩ := h
  have r0 := R (A 0) (by rw [h3.1]; simp) (n3 _ _ _ h3.1 (by decide)) (Or.inl rfl)
  have r1 := R (A 1) (by rw [h2.1]; simp) (n3 _ _ _ h2.1 (by decide)) (Or.inr (Or.inl rfl))
  have r2 := R (A 2) (by rw [h3.2.1]; simp) (n3 _ _ _ h3.2.1 (by decide)) (Or.inr (Or.inr (Or.inl rfl)))
  refine ⟨h1, ⟨S' _ _ h2.1, fun k hk => ?_⟩, ⟨S' _ _ h3.1, S' _ _ h3.2.1, S' _ _ h3.2.2.1, S' _ _ h3.2.2.2⟩, by rw [r0]; exact h4, h5, fun k hk => ?_, fun p hp => ⟨?_, ?_⟩, fun d hd => ?_, fun a k i hi => ?_, fun k y hk hy => ?_, fun k y hk hy => ?_⟩
  · obtain ⟨q1, q2, q3, q4, q5⟩ := h2.2 k hk
    exact ⟨by rw [r1]; exact q1, S' _ _ q2, by rw [I _ (Or.inl q2)]; exact q3, by rw [I _ (Or.inl q2)]; exact q4, q5⟩
  · rw [I _ (Or.inl (h2.2 k hk).2.1)]; exact h6 k hk
  · rw [r2]; exact (h7 p hp).1
  · obtain ⟨q1, q2, q3⟩ := (h7 p hp).2
    have rb := R _ (by rw [q1.1]; simp) (n3 _ _ _ q1.1 (by decide)) (Or.inr (Or.inr (Or.inr q1.1)))
    exact ⟨⟨S' _ _ q1.1, S' _ _ q1.2.1, S' _ _ q1.2.2⟩, by rw [rb]; exact q2, q3⟩
  · obtain ⟨q1, q2, q3, q4, q5, q6⟩ := h8 d hd
    have i := I _ (Or.inr q2)
    refine ⟨?_, S' _ _ q2, by rw [i]; exact q3, by rw [i]; exact q4, by rw [i]; exact q5, q6⟩
    rcases R3 d (by omega) with z | ⟨z, -⟩
    · exact z.trans q1
    · omega
  · rcases h9 a k i hi with z | z | z
    · exact Or.inl (S' _ _ z)
    · exact Or.inr (Or.inl (S' _ _ z))
    · exact Or.inr (Or.inr (S' _ _ z))
  · rw [r1] at hy; exact S' _ _ (h10 k y hk hy)
  · rcases R3 k hk with z | ⟨-, z⟩
    · rw [z] at hy; exact S' _ _ (h11 k y hk hy)
    · exact z y hy
/-- other dinners -/
theorem Pv.nd {σ : Sg} {L : Nat → Nat → Option Nat} {A A2 : Nat → Nat} {C D : Nat → Int32} {W P Dn Dn2 Hn : Nat} (h : Pv σ L A C W P Dn Hn) (hW8 : W ≤ 8) (hP6 : P ≤ 6) (hH6 : Hn ≤ 6) (e : ∀ i, i < 50 → A2 i = A i) (f : ∀ i, ((9 ≤ i ∧ i < 25) ∨ (163 ≤ i ∧ i < 175)) → D i = C i) (hd : ∀ d, d < Dn2 → σ.2.2.2 (A 3) d = some (A2 (50 + d)) ∧ σ.1 (A2 (50 + d)) = some (11, 0) ∧ σ.2.1 (A2 (50 + d)) 0 = D (145 + d) ∧ σ.2.1 (A2 (50 + d)) 1 = D (151 + d) ∧ σ.2.1 (A2 (50 + d)) 2 = D (157 + d) ∧ ∀ j, L (A2 (50 + d)) j = none) : Pv σ L A2 D W P Dn2 Hn := by
  have e0 := e 0 (by decide)
  have e1 := e 1 (by decide)
  have e2 := e 2 (by decide)
  have e3 := e 3 (by decide)
  have e4 := e 4 (by decide)
  obtain ⟨h1, h2, h3, h4, h5, h6, h7, h8, h9, h10, h11⟩ := h
  refine ⟨h1, ⟨by rw [e1]; exact h2.1, fun k hk => ?_⟩, by rw [e0, e2, e3, e4]; exact h3, by rw [e0, e1, e2, e3, e4]; exact h4, fun i hi => by rw [e0]; exact h5 i hi, fun k hk => ?_, fun p hp => ?_, fun d hdd => by rw [e3]; exact hd d hdd, h9, fun k y hk hy => h10 k y hk (by rw [e1] at hy; exact hy), fun k y hk hy => h11 k y hk (by rw [e3] at hy; exact hy)⟩
  · obtain ⟨q1, q2, q3, q4, q5⟩ := h2.2 k hk
    show _ ∧ σ.1 (A2 (10 + k)) = _ ∧ σ.2.1 (A2 (10 + k)) 1 = _ ∧ σ.2.1 (A2 (10 + k)) 2 = _ ∧ ∀ j, L (A2 (10 + k)) j = none
    rw [f (9 + k) (by omega), f (17 + k) (by omega)]
    dsimp only at q1 q2 q3 q4 q5 ⊢
    rw [e1, e (10 + k) (by omega)]
    exact ⟨q1, q2, q3, q4, q5⟩
  · rw [e (10 + k) (by omega), h6 k hk]
    unfold mHalvesOf
    have : ∀ n, n ≤ 6 → orTo (hvF D (nI k)) n = orTo (hvF C (nI k)) n := by
      intro n
      induction n with
      | zero => intro _; rfl
      | succ n ih =>
        intro hn
        rw [orTo, orTo, ih (by omega)]
        unfold hvF
        rw [f (163 + n) (by omega), f (169 + n) (by omega)]
    exact (this Hn hH6).symm
  · rw [e2, e (20 + p) (by omega), e (30 + p) (by omega), e (40 + p) (by omega)]
    exact h7 p hp
section X26s
variable {g : Gx} {l : Launch} {σ τ : Sg} {L : Nat → Nat → Option Nat} {A B : Nat → Nat} {C : Nat → Int32} {W P Dn Hn q hx : Nat}
theorem x_dinit (hq11 : σ.1 q = some (11, 0)) (x y e : Int32) : Kd g l 0 MX11_init [.ref q, .int x, .int y, .int e] σ none (sI (sI (sI σ q 0 x) q 1 y) q 2 e) := by
  refine Kt.go (Y := MX11_init) (ls := [some (.ref q), some (.int x), some (.int y), some (.int e)]) (by decide) (Nat.le_of_ble_eq_true rfl) rfl ?_
  first | refine j_aload_n dX11_init_0 rfl ?_ | refine j_aload_nN dX11_init_0 rfl ?_
  refine j_objInit dX11_init_1 q982 q208 q209 (Nat.le_of_ble_eq_true rfl) ?_
  first | refine j_aload_n dX11_init_4 rfl ?_ | refine j_aload_nN dX11_init_4 rfl ?_
  refine j_iload_n dX11_init_5 rfl ?_
  refine j_putIF dX11_init_6 fl_X11_7 rfl (by assumption) (zFin_o 11 0 q983) rfl rfl ?_
  first | refine j_aload_n dX11_init_9 rfl ?_ | refine j_aload_nN dX11_init_9 rfl ?_
  refine j_iload_n dX11_init_10 rfl ?_
  refine j_putIF dX11_init_11 fl_X11_13 rfl (by assumption) (zFin_o 11 1 q986) rfl rfl ?_
  first | refine j_aload_n dX11_init_14 rfl ?_ | refine j_aload_nN dX11_init_14 rfl ?_
  refine j_iload_n dX11_init_15 rfl ?_
  refine j_putIF dX11_init_16 fl_X11_16 rfl (by assumption) (zFin_o 11 2 q989) rfl rfl ?_
  refine j_vret dX11_init_19 rfl (by omega) (by omega) ?_
  exact ⟨rfl, rfl⟩
/-- the answer of invite -/
def ivQ (σ : Sg) (L : Nat → Nat → Option Nat) (hx a3 : Nat) (C : Nat → Int32) (P Dn : Nat) (x y e : Int32) (r : Option Value) (τ : Sg) : Prop :=
  r = some (.int (oInvite C P Dn x y e).1) ∧ ((oInvite C P Dn x y e).1 = -1 ∧ (oInvite C P Dn x y e).2.2 = C ∧ τ = put (xS σ hx (oInvite C P Dn x y e).2.1) L C ∨ (Dn < 6 ∧ okN x P ∧ okN y P ∧ x ≠ y ∧ inL e.toInt64 1 30 ∧ oInvite C P Dn x y e = (nI Dn, nI 0, up (up (up (up C (145 + Dn) x) (151 + Dn) y) (157 + Dn) e) 2 (nI (Dn + 1)))) ∧ ∃ q, σ.1 q = none ∧ τ = put (xS (invS σ a3 q Dn x y e) hx (nI 0)) L (up (up (up (up C (145 + Dn) x) (151 + Dn) y) (157 + Dn) e) 2 (nI (Dn + 1))))
theorem q_invite (hf : Fa σ hx B) (hg : Fq σ hx A) (hR : Pv σ L A C W P Dn Hn) (hw : Wx C W P Dn) (hLr : ∀ a k i, L a k = some i → i < 145) (x y e : Int32) : Kt g l 3 MX0_invite [.ref hx, .int x, .int y, .int e] (put σ L C) 1 3 (ivQ σ L hx (A 3) C P Dn x y e) (fun _ _ _ => False) := by
  obtain ⟨⟨⟨hW, hW8⟩, ⟨hP, hP6⟩, ⟨hD, hD6⟩, hdn⟩, hWv, hPp⟩ := id hw
  have hn := hR.nf hf
  have hL := hR.inj
  have s3 : σ.1 (A 3) = some (28, 6) := Pv.sd hR (D := C)
  refine Kt.go (Y := MX0_invite) (ls := [some (.ref hx), some (.int x), some (.int y), some (.int e)]) (by decide) (Nat.le_of_ble_eq_true rfl) rfl ?_
  first | refine j_aload_n dX0_invite_0 rfl ?_ | refine j_aload_nN dX0_invite_0 rfl ?_
  refine j_iload_n dX0_invite_1 rfl ?_
  refine j_dV1 kl_X0_264 (x_isPerson hf hg hR hP hP6 _) dX0_invite_2 rfl rfl (by decide) (by first | exact Fa.sh hf | assumption) (Nat.le_of_ble_eq_true rfl) (by first | decide | omega) (by omega) (by omega) ?_
  first | (with_reducible refine j_gB ?_; refine j_if_eqB (tgt := 16) dX0_invite_5 (by decide) (fun c_5 => ?_) (fun c_5 => ?_)) | (with_reducible refine j_gC ?_; refine j_if_eqC (tgt := 16) dX0_invite_5 (by decide) (fun c_5 => ?_) (fun c_5 => ?_)) | (with_reducible refine j_gN ?_; refine j_if_eqN (tgt := 16) dX0_invite_5 (by decide) (by omega) (fun c_5 => ?_) (fun c_5 => ?_)) | refine j_if_eq (tgt := 16) dX0_invite_5 (by decide) (fun c_5 => ?_) (fun c_5 => ?_)
  · first | refine j_aload_n dX0_invite_16 rfl ?_ | refine j_aload_nN dX0_invite_16 rfl ?_
    refine j_iconst (v := nI 2) dX0_invite_17 (by decide +kernel) ?_
    refine j_dV1 kl_X0_98 (x_none (Fa.sh hf) _) dX0_invite_18 rfl rfl (by decide) (by first | exact Fa.sh hf | assumption) (Nat.le_of_ble_eq_true rfl) (by first | decide | omega) (by omega) (by omega) ?_
    refine j_iret dX0_invite_21 ⟨_, rfl, rfl⟩ (by omega) (by omega) ?_
    have e1 : oInvite C P Dn x y e = (-1, nI 2, C) := by unfold oInvite; rw [if_neg]; simp [*]
    unfold ivQ
    rw [e1]
    exact ⟨rfl, Or.inl ⟨rfl, rfl, put_n (hn 6)⟩⟩
  · first | refine j_aload_n dX0_invite_8 rfl ?_ | refine j_aload_nN dX0_invite_8 rfl ?_
    refine j_iload_n dX0_invite_9 rfl ?_
    refine j_dV1 kl_X0_264 (x_isPerson hf hg hR hP hP6 _) dX0_invite_10 rfl rfl (by decide) (by first | exact Fa.sh hf | assumption) (Nat.le_of_ble_eq_true rfl) (by first | decide | omega) (by omega) (by omega) ?_
    first | (with_reducible refine j_gB ?_; refine j_if_neB (tgt := 22) dX0_invite_13 (by decide) (fun c_13 => ?_) (fun c_13 => ?_)) | (with_reducible refine j_gC ?_; refine j_if_neC (tgt := 22) dX0_invite_13 (by decide) (fun c_13 => ?_) (fun c_13 => ?_)) | (with_reducible refine j_gN ?_; refine j_if_neN (tgt := 22) dX0_invite_13 (by decide) (by omega) (fun c_13 => ?_) (fun c_13 => ?_)) | refine j_if_ne (tgt := 22) dX0_invite_13 (by decide) (fun c_13 => ?_) (fun c_13 => ?_)
    · refine j_iload_n dX0_invite_22 rfl ?_
      refine j_iload_n dX0_invite_23 rfl ?_
      first | (with_reducible refine j_gNN ?_; refine j_icmp_eqN (tgt := 39) dX0_invite_24 (by decide) (by omega) (by omega) (fun c_24 => ?_) (fun c_24 => ?_)) | refine j_icmp_eq (tgt := 39) dX0_invite_24 (by decide) (fun c_24 => ?_) (fun c_24 => ?_)
      · first | refine j_aload_n dX0_invite_39 rfl ?_ | refine j_aload_nN dX0_invite_39 rfl ?_
        refine j_iconst (v := nI 5) dX0_invite_40 (by decide +kernel) ?_
        refine j_dV1 kl_X0_98 (x_none (Fa.sh hf) _) dX0_invite_41 rfl rfl (by decide) (by first | exact Fa.sh hf | assumption) (Nat.le_of_ble_eq_true rfl) (by first | decide | omega) (by omega) (by omega) ?_
        refine j_iret dX0_invite_44 ⟨_, rfl, rfl⟩ (by omega) (by omega) ?_
        have e1 : oInvite C P Dn x y e = (-1, nI 5, C) := by unfold oInvite; rw [if_pos ⟨c_5, c_13⟩, if_neg]; simp [*]
        unfold ivQ
        rw [e1]
        exact ⟨rfl, Or.inl ⟨rfl, rfl, put_n (hn 6)⟩⟩
      · refine j_iload_n dX0_invite_27 rfl ?_
        refine j_i2l dX0_invite_28 ?_
        refine j_lconst (v := 1) dX0_invite_29 (by decide +kernel) ?_
        refine j_ldc2 (v := 30) dX0_invite_30 q1267 ?_
        refine j_dS1 kl_X0_162 (k_isFrom _ _ _) dX0_invite_33 rfl rfl (Nat.le_of_ble_eq_true rfl) (by first | decide | omega) (by omega) (by omega) ?_
        first | (with_reducible refine j_gB ?_; refine j_if_neB (tgt := 45) dX0_invite_36 (by decide) (fun c_36 => ?_) (fun c_36 => ?_)) | (with_reducible refine j_gC ?_; refine j_if_neC (tgt := 45) dX0_invite_36 (by decide) (fun c_36 => ?_) (fun c_36 => ?_)) | (with_reducible refine j_gN ?_; refine j_if_neN (tgt := 45) dX0_invite_36 (by decide) (by omega) (fun c_36 => ?_) (fun c_36 => ?_)) | refine j_if_ne (tgt := 45) dX0_invite_36 (by decide) (fun c_36 => ?_) (fun c_36 => ?_)
        · first | refine j_aload_n dX0_invite_45 rfl ?_ | refine j_aload_nN dX0_invite_45 rfl ?_
          refine j_getR dX0_invite_46 fl_X0_38 rfl (by first | exact Fa.sh hf | assumption) (by first | exact Fq.f3 hg | assumption) ?_
          refine j_getI dX0_invite_49 fl_X0_155 rfl (by first | exact Pv.sh hR | assumption) (by first | exact pg (Pv.li hR 6 2 rfl (by decide)) | assumption) ?_
          rw [hD]
          refine j_bipush (v := nI 6) dX0_invite_52 (by decide +kernel) ?_
          first | (with_reducible refine j_gNN ?_; refine j_icmp_neN (tgt := 64) dX0_invite_54 (by decide) (by omega) (by omega) (fun c_54 => ?_) (fun c_54 => ?_)) | refine j_icmp_ne (tgt := 64) dX0_invite_54 (by decide) (fun c_54 => ?_) (fun c_54 => ?_)
          · first | refine j_aload_n dX0_invite_64 rfl ?_ | refine j_aload_nN dX0_invite_64 rfl ?_
            refine j_getR dX0_invite_65 fl_X0_38 rfl (by first | exact Fa.sh hf | assumption) (by first | exact Fq.f3 hg | assumption) ?_
            refine j_getR dX0_invite_68 fl_X0_291 rfl (by first | exact Pv.sh hR | assumption) (by first | exact Pv.r2 hR | assumption) ?_
            first | refine j_aload_n dX0_invite_71 rfl ?_ | refine j_aload_nN dX0_invite_71 rfl ?_
            refine j_getR dX0_invite_72 fl_X0_38 rfl (by first | exact Fa.sh hf | assumption) (by first | exact Fq.f3 hg | assumption) ?_
            refine j_getI dX0_invite_75 fl_X0_155 rfl (by first | exact Pv.sh hR | assumption) (by first | exact pg (Pv.li hR 6 2 rfl (by decide)) | assumption) ?_
            rw [hD]
            refine j_newZ (ci := 11) (z := 3) dX0_invite_78 (by decide) rfl q1268 q978 q199 (by omega) (by omega) (fun q hqn hqA => ?_)
            have sq : (sN (put σ L C) q 11 0).1 q = some (11, 0) := up_eq _ _ _
            have n3 : A 3 ≠ q := ne_new s3 hqn
            have hlq : ∀ j, L q j = none := fun j => by
              cases e1 : L q j with
              | none => rfl
              | some i =>
                have z : σ.1 q = none := hqn
                rcases hR.dom e1 with w | w | w <;> rw [z] at w <;> cases w
            have hnS : ∀ b t n, σ.1 b = some (t, n) → b ≠ q := fun b t n hb => ne_new (σ := put σ L C) (show (put σ L C).1 b = some (t, n) from hb) hqn
            refine j_dup dX0_invite_81 rfl ?_
            refine j_iload_n dX0_invite_82 rfl ?_
            refine j_iload_n dX0_invite_83 rfl ?_
            refine j_iload_n dX0_invite_84 rfl ?_
            refine j_dI0 kl_X0_337 (x_dinit sq x y e) dX0_invite_85 rfl rfl (Nat.le_of_ble_eq_true rfl) (by first | decide | omega) (by omega) (by omega) ?_
            refine j_aast (t := 28) (ci := 11) dX0_invite_88 (fun _ => rfl) (by decide) (by decide) (show (sN (put σ L C) q 11 0).1 (A 3) = some (28, 6) from (up_ne n3).trans s3) sq rfl (show Dn < 6 by omega) (by decide) ?_
            refine j_eq (σ' := put (invS σ (A 3) q Dn x y e) L C) rfl rfl (inv_put hlq) ?_
            have hR2 : Pv (invS σ (A 3) q Dn x y e) L A C W P Dn Hn := hR.mv hD6 (fun b hb => inv_s (fun e => hb (by rw [e]; exact hqn))) (fun b hb => inv_i (by rcases hb with z | z <;> exact hnS _ _ _ z)) (fun b hb h3 _ => inv_r (fun e => hb (by rw [e]; exact hqn)) h3) (fun k hk => by
              rw [inv_r3 n3]
              by_cases e : k = Dn
              · subst e
                exact Or.inr ⟨Nat.le_refl _, fun y hy => by rw [up_eq] at hy; cases hy; exact inv_sq⟩
              · exact Or.inl (up_ne e))
            have sx2 : (invS σ (A 3) q Dn x y e).1 hx = some (0, 0) := (inv_s (hnS _ _ _ hf.1)).trans hf.1
            have g3 : (invS σ (A 3) q Dn x y e).2.2.2 hx 3 = some (A 0) := (congrFun (inv_r (hnS _ _ _ hf.1) (fun e => by rw [← e, hf.1] at s3; cases s3)) 3).trans hg
            have hR := hR2
            first | refine j_aload_n dX0_invite_89 rfl ?_ | refine j_aload_nN dX0_invite_89 rfl ?_
            refine j_getR dX0_invite_90 fl_X0_38 rfl (by first | exact sx2 | exact g3 | exact Fa.sh hf | assumption) (by first | exact sx2 | exact g3 | exact Fq.f3 hg | assumption) ?_
            refine j_dup dX0_invite_93 rfl ?_
            refine j_getI dX0_invite_94 fl_X0_155 rfl (by first | exact sx2 | exact g3 | exact Pv.sh hR | assumption) (by first | exact sx2 | exact g3 | exact pg (Pv.li hR 6 2 rfl (by decide)) | assumption) ?_
            rw [hD]
            refine j_iconst (v := nI 1) dX0_invite_97 (by decide +kernel) ?_
            first | (with_reducible refine j_gNN ?_; refine j_iaddN dX0_invite_98 ?_) | refine j_iadd dX0_invite_98 ?_
            refine j_putI dX0_invite_99 fl_X0_155 rfl (by first | exact sx2 | exact g3 | exact Pv.sh hR | assumption) rfl rfl rfl ?_
            first | refine j_sg (put_w hL (Pv.li hR 6 2 rfl (by decide))) ?_ | skip
            first | refine j_aload_n dX0_invite_102 rfl ?_ | refine j_aload_nN dX0_invite_102 rfl ?_
            first | refine j_aload_n dX0_invite_103 rfl ?_ | refine j_aload_nN dX0_invite_103 rfl ?_
            refine j_getR dX0_invite_104 fl_X0_38 rfl (by first | exact sx2 | exact g3 | exact Fa.sh hf | assumption) (by first | exact sx2 | exact g3 | exact Fq.f3 hg | assumption) ?_
            refine j_getI dX0_invite_107 fl_X0_155 rfl (by first | exact sx2 | exact g3 | exact Pv.sh hR | assumption) (by first | exact sx2 | exact g3 | exact pg (Pv.li hR 6 2 rfl (by decide)) | assumption) ?_
            rw [up_eq]
            refine j_iconst (v := nI 1) dX0_invite_110 (by decide +kernel) ?_
            first | (with_reducible refine j_gNN ?_; refine j_isubN dX0_invite_111 (by omega) ?_) | refine j_isub dX0_invite_111 ?_
            refine j_dV1 kl_X0_102 (x_gives (show (put (invS σ (A 3) q Dn x y e) L (up C 2 (nI (Dn + 1)))).1 hx = some (0, 0) from sx2) _) dX0_invite_112 rfl rfl (by decide) (by first | exact sx2 | exact g3 | exact Fa.sh hf | assumption) (Nat.le_of_ble_eq_true rfl) (by first | decide | omega) (by omega) (by omega) ?_
            refine j_iret dX0_invite_115 ⟨_, rfl, rfl⟩ (by omega) (by omega) ?_
            have hne : ∀ j, L hx j = none := hn
            refine ⟨?_, Or.inr ⟨⟨by omega, c_5, c_13, c_24, c_36, ?_⟩, q, hqn, ?_⟩⟩
            · unfold oInvite; rw [if_pos ⟨c_5, c_13⟩, if_pos ⟨c_24, c_36⟩, if_neg c_54]
              rfl
            · unfold oInvite; rw [if_pos ⟨c_5, c_13⟩, if_pos ⟨c_24, c_36⟩, if_neg c_54]
            · rw [put_n (hn 6)]
              refine put_cg fun a k i hi => ?_
              have z := hLr a k i hi
              by_cases e2 : i = 2
              · subst e2; rw [up_eq, up_eq]
              · rw [up_ne e2, up_ne e2, up_ne (by omega), up_ne (by omega), up_ne (by omega)]
          · first | refine j_aload_n dX0_invite_57 rfl ?_ | refine j_aload_nN dX0_invite_57 rfl ?_
            refine j_bipush (v := nI 7) dX0_invite_58 (by decide +kernel) ?_
            refine j_dV1 kl_X0_98 (x_none (Fa.sh hf) _) dX0_invite_60 rfl rfl (by decide) (by first | exact Fa.sh hf | assumption) (Nat.le_of_ble_eq_true rfl) (by first | decide | omega) (by omega) (by omega) ?_
            refine j_iret dX0_invite_63 ⟨_, rfl, rfl⟩ (by omega) (by omega) ?_
            have e1 : oInvite C P Dn x y e = (-1, nI 7, C) := by unfold oInvite; rw [if_pos ⟨c_5, c_13⟩, if_pos ⟨c_24, c_36⟩, if_pos c_54]
            unfold ivQ
            rw [e1]
            exact ⟨rfl, Or.inl ⟨rfl, rfl, put_n (hn 6)⟩⟩
        · first | refine j_aload_n dX0_invite_39 rfl ?_ | refine j_aload_nN dX0_invite_39 rfl ?_
          refine j_iconst (v := nI 5) dX0_invite_40 (by decide +kernel) ?_
          refine j_dV1 kl_X0_98 (x_none (Fa.sh hf) _) dX0_invite_41 rfl rfl (by decide) (by first | exact Fa.sh hf | assumption) (Nat.le_of_ble_eq_true rfl) (by first | decide | omega) (by omega) (by omega) ?_
          refine j_iret dX0_invite_44 ⟨_, rfl, rfl⟩ (by omega) (by omega) ?_
          have e1 : oInvite C P Dn x y e = (-1, nI 5, C) := by unfold oInvite; rw [if_pos ⟨c_5, c_13⟩, if_neg]; simp [*]
          unfold ivQ
          rw [e1]
          exact ⟨rfl, Or.inl ⟨rfl, rfl, put_n (hn 6)⟩⟩
    · first | refine j_aload_n dX0_invite_16 rfl ?_ | refine j_aload_nN dX0_invite_16 rfl ?_
      refine j_iconst (v := nI 2) dX0_invite_17 (by decide +kernel) ?_
      refine j_dV1 kl_X0_98 (x_none (Fa.sh hf) _) dX0_invite_18 rfl rfl (by decide) (by first | exact Fa.sh hf | assumption) (Nat.le_of_ble_eq_true rfl) (by first | decide | omega) (by omega) (by omega) ?_
      refine j_iret dX0_invite_21 ⟨_, rfl, rfl⟩ (by omega) (by omega) ?_
      have e1 : oInvite C P Dn x y e = (-1, nI 2, C) := by unfold oInvite; rw [if_neg]; simp [*]
      unfold ivQ
      rw [e1]
      exact ⟨rfl, Or.inl ⟨rfl, rfl, put_n (hn 6)⟩⟩
end X26s
