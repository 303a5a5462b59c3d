/-! X: MARKS -/
set_option maxRecDepth 100000
/-- one kept province (cells A2, row C, kept in q with steps st, sn), as it stands -/
def Kp (τ : Sg) (q : Nat) (A2 : Nat → Nat) (C : Nat → Int32) (W P Dn Hn : Nat) (nw np : Nat → Int64) (st : Nat) (sn : Int32) : Prop :=
  τ.1 q = some (13, 0) ∧ τ.2.2.2 q 0 = some (A2 0) ∧ τ.2.2.2 q 1 = some st ∧ τ.2.1 q 2 = sn ∧ Pv τ (pL A2 P) A2 C W P Dn Hn ∧ Nm τ A2 W P nw np ∧ Ui A2 P ∧ put τ (pL A2 P) C = τ
theorem Nm.mv {σ τ : Sg} {L : Nat → Nat → Option Nat} {A : Nat → Nat} {C : Nat → Int32} {W P Dn Hn : Nat} {nw np : Nat → Int64} (hN : Nm σ A W P nw np) (h : Pv σ L A C W P Dn Hn) (S : ∀ b, (σ.1 b = some (10, 0) ∨ σ.1 b = some (8, 0)) → τ.2.2.1 b = σ.2.2.1 b) : Nm τ A W P nw np :=
  ⟨fun k hk => by rw [S _ (Or.inl (h.ws hk (D := C)))]; exact hN.1 k hk, fun p hp => by rw [S _ (Or.inr (h.pe hp).1.1)]; exact hN.2 p hp⟩
section X27s
variable {g : Gx} {l : Launch} {σ τ : Sg} {L : Nat → Nat → Option Nat} {A B : Nat → Nat} {C : Nat → Int32} {W P Dn Hn q hx : Nat} {nw np : Nat → Int64}
theorem x_kinit (hq13 : σ.1 q = some (13, 0)) (v st : Nat) (n : Int32) : Kd g l 0 MX13_init [.ref q, .ref v, .ref st, .int n] σ none (sI (sR (sR σ q 0 (some v)) q 1 (some st)) q 2 n) := by
  refine Kt.go (Y := MX13_init) (ls := [some (.ref q), some (.ref v), some (.ref st), some (.int n)]) (by decide) (Nat.le_of_ble_eq_true rfl) rfl ?_
  first | refine j_aload_n dX13_init_0 rfl ?_ | refine j_aload_nN dX13_init_0 rfl ?_
  refine j_objInit dX13_init_1 q1575 q208 q209 (Nat.le_of_ble_eq_true rfl) ?_
  first | refine j_aload_n dX13_init_4 rfl ?_ | refine j_aload_nN dX13_init_4 rfl ?_
  first | refine j_aload_n dX13_init_5 rfl ?_ | refine j_aload_nN dX13_init_5 rfl ?_
  first | refine j_putRF dX13_init_6 fl_X13_7 rfl (by assumption) (zFin_o 13 0 q1576) rfl rfl ?_ | refine j_putNF dX13_init_6 fl_X13_7 rfl (by assumption) (zFin_o 13 0 q1576) rfl rfl ?_
  first | refine j_aload_n dX13_init_9 rfl ?_ | refine j_aload_nN dX13_init_9 rfl ?_
  first | refine j_aload_n dX13_init_10 rfl ?_ | refine j_aload_nN dX13_init_10 rfl ?_
  first | refine j_putRF dX13_init_11 fl_X13_13 rfl (by assumption) (zFin_o 13 1 q1578) rfl rfl ?_ | refine j_putNF dX13_init_11 fl_X13_13 rfl (by assumption) (zFin_o 13 1 q1578) rfl rfl ?_
  first | refine j_aload_n dX13_init_14 rfl ?_ | refine j_aload_nN dX13_init_14 rfl ?_
  refine j_iload_n dX13_init_15 rfl ?_
  refine j_putIF dX13_init_16 fl_X13_17 rfl (by assumption) (zFin_o 13 2 q1580) rfl rfl ?_
  refine j_vret dX13_init_19 rfl (by omega) (by omega) ?_
  exact ⟨rfl, rfl⟩
/-- a mark is set -/
def mkQ (σ : Sg) (L : Nat → Nat → Option Nat) (hx b23 : Nat) (C : Nat → Int32) (W P Dn Hn : Nat) (nw np : Nat → Int64) (m st : Nat) (sn : Int32) (r : Option Value) (τ : Sg) : Prop :=
  ∃ q A2, r = some (.int (nI (m + 1))) ∧ σ.1 q = none ∧ (∀ i, uj P i → σ.1 (A2 i) = none) ∧ Kp τ q A2 C W P Dn Hn nw np st sn ∧ τ.2.1 hx 24 = nI (m + 1) ∧ τ.2.1 hx 6 = nI 0 ∧ τ.2.2.2 b23 m = some q ∧
  (∀ a, σ.1 a ≠ none → τ.1 a = σ.1 a) ∧ (∀ a k, σ.1 a ≠ none → ¬ (a = hx ∧ (k = 24 ∨ k = 6)) → τ.2.1 a k = (put σ L C).2.1 a k) ∧ (∀ a, σ.1 a ≠ none → τ.2.2.1 a = σ.2.2.1 a) ∧ ∀ a k, σ.1 a ≠ none → ¬ (a = b23 ∧ k = m) → τ.2.2.2 a k = σ.2.2.2 a k
theorem q_mark (hf : Fa σ hx B) (hg : Fq σ hx A) (hR : Pv σ L A C W P Dn Hn) (hw : Wx C W P Dn) (hH : C 3 = nI Hn) (hb : Bb C P) (hN : Nm σ A W P nw np) {m st : Nat} {sn : Int32} (hm : σ.2.1 hx 24 = nI m) (hm3 : m ≤ 3) (hst : σ.2.2.2 hx 4 = some st) (hsn : σ.2.1 hx 5 = sn) : Kt g l 3 MX0_mark [.ref hx] (put σ L C) 23 174 (fun r τ => if m = 3 then r = some (.int (-1)) ∧ τ = put (xS σ hx (nI 7)) L C else mkQ σ L hx (B 23) C W P Dn Hn nw np m st sn r τ) (fun _ _ _ => False) := by
  obtain ⟨⟨⟨hW, hW8⟩, ⟨hP, hP6⟩, ⟨hD, hD6⟩, hdn⟩, hWv, hPp⟩ := id hw
  have hn := hR.nf hf
  have h24 : (put σ L C).2.1 hx 24 = nI m := (pgn (hn 24)).trans hm
  have h5 : (put σ L C).2.1 hx 5 = sn := (pgn (hn 5)).trans hsn
  have s23 : σ.1 (B 23) = some (30, 3) := (hf.2.1 23 _ _ rfl).2
  have r23 : σ.2.2.2 hx 23 = some (B 23) := (hf.2.1 23 _ _ rfl).1
  refine Kt.go (Y := MX0_mark) (ls := [some (.ref hx)]) (by decide) (Nat.le_of_ble_eq_true rfl) rfl ?_
  first | refine j_aload_n dX0_mark_0 rfl ?_ | refine j_aload_nN dX0_mark_0 rfl ?_
  refine j_getI dX0_mark_1 fl_X0_540 rfl (by first | exact h24 | exact h5 | exact Fa.sh hf | assumption) (by first | exact h24 | exact h5 | assumption) ?_
  refine j_iconst (v := nI 3) dX0_mark_4 (by decide +kernel) ?_
  first | (with_reducible refine j_gNN ?_; refine j_icmp_neN (tgt := 15) dX0_mark_5 (by decide) (by omega) (by omega) (fun c_5 => ?_) (fun c_5 => ?_)) | refine j_icmp_ne (tgt := 15) dX0_mark_5 (by decide) (fun c_5 => ?_) (fun c_5 => ?_)
  · first | refine j_aload_n dX0_mark_15 rfl ?_ | refine j_aload_nN dX0_mark_15 rfl ?_
    refine j_getR dX0_mark_16 fl_X0_84 rfl (by first | exact h24 | exact h5 | exact Fa.sh hf | assumption) (by first | exact h24 | exact h5 | exact Fa.f23 hf | assumption) ?_
    first | refine j_aload_n dX0_mark_19 rfl ?_ | refine j_aload_nN dX0_mark_19 rfl ?_
    refine j_getI dX0_mark_20 fl_X0_540 rfl (by first | exact h24 | exact h5 | exact Fa.sh hf | assumption) (by first | exact h24 | exact h5 | assumption) ?_
    refine j_newZ (ci := 13) (z := 3) dX0_mark_23 (by decide) rfl q468 q1571 q201 (by omega) (by omega) (fun q hqn hqA => ?_)
    have hq0 : σ.1 q = none := hqn
    have hnS : ∀ b t n, σ.1 b = some (t, n) → b ≠ q := fun b t n hb e => by rw [e, hq0] at hb; cases hb
    have hlq : ∀ j, L q j = none := fun j => by
      cases e1 : L q j with
      | none => rfl
      | some i => rcases hR.dom e1 with w | w | w <;> rw [hq0] at w <;> cases w
    have eold : ∀ b, σ.1 b ≠ none → b ≠ q := fun b hb e => hb (by rw [e]; exact hq0)
    have hR1 : Pv (sN σ q 13 0) L A C W P Dn Hn := hR.mv hD6 (fun b hb => up_ne (eold b hb)) (fun b hb => up_ne (by rcases hb with z | z <;> exact hnS _ _ _ z)) (fun b hb _ _ => up_ne (eold b hb)) (fun k hk => Or.inl (congrFun (up_ne (hnS _ _ _ (Pv.sd hR (D := C)))) k))
    have hN1 : Nm (sN σ q 13 0) A W P nw np := hN.mv hR (fun b hb => up_ne (by rcases hb with z | z <;> exact hnS _ _ _ z))
    have sx1 : (sN σ q 13 0).1 hx = some (0, 0) := (up_ne (hnS _ _ _ hf.1)).trans hf.1
    have nqx : hx ≠ q := hnS _ _ _ hf.1
    have g31 : (sN σ q 13 0).2.2.2 hx 3 = some (A 0) := (congrFun (up_ne nqx) 3).trans hg
    refine j_eq (σ' := put (sN σ q 13 0) L C) rfl rfl (put_N hlq) ?_
    have hR0 := hR
    have hR := hR1
    refine j_dup dX0_mark_26 rfl ?_
    first | refine j_aload_n dX0_mark_27 rfl ?_ | refine j_aload_nN dX0_mark_27 rfl ?_
    refine j_getR dX0_mark_28 fl_X0_38 rfl (by first | exact sx1 | exact g31 | exact Fa.sh hf | assumption) (by first | exact sx1 | exact g31 | exact Fq.f3 hg | assumption) ?_
    refine j_callV kl_X0_340 (x_vtwin hR1 hw hH hb hN1) dX0_mark_31 rfl rfl (by decide) (by first | exact sx1 | exact g31 | exact Pv.sh hR | assumption) (Nat.le_of_ble_eq_true rfl) (by first | decide | omega) (by omega) (by omega) (fun v τ hq => ?_) (fun _ _ _ hq => hq.elim)
    obtain ⟨A2, σ2, e1, rfl, hT⟩ := hq
    cases e1
    obtain ⟨t1, t2, t3, t4, t5⟩ := hT
    have hold : ∀ a, (sN σ q 13 0).1 a ≠ none → σ2.1 a = (sN σ q 13 0).1 a ∧ (put σ2 (pL A2 P) C).2.1 a = (put (sN σ q 13 0) L C).2.1 a ∧ σ2.2.2.1 a = (sN σ q 13 0).2.2.1 a ∧ σ2.2.2.2 a = (sN σ q 13 0).2.2.2 a := fun a ha => t5 a ha id
    have hq13 : (sN σ q 13 0).1 q = some (13, 0) := up_eq _ _ _
    have oq := hold q (by rw [hq13]; simp)
    have ox := hold hx (by rw [sx1]; simp)
    have sq2 : σ2.1 q = some (13, 0) := oq.1.trans hq13
    have sx2 : σ2.1 hx = some (0, 0) := ox.1.trans sx1
    have s231 : (sN σ q 13 0).1 (B 23) = some (30, 3) := (up_ne (hnS _ _ _ s23)).trans s23
    have ob := hold (B 23) (by rw [s231]; simp)
    have sb2 : σ2.1 (B 23) = some (30, 3) := ob.1.trans s231
    have rx4 : σ2.2.2.2 hx 4 = some st := by rw [ox.2.2.2]; exact (congrFun (up_ne nqx) 4).trans hst
    have rx23 : σ2.2.2.2 hx 23 = some (B 23) := by rw [ox.2.2.2]; exact (congrFun (up_ne nqx) 23).trans r23
    have ix : ∀ k, (put σ2 (pL A2 P) C).2.1 hx k = (put σ L C).2.1 hx k := fun k => by
      rw [ox.2.1]
      rw [pgn (hR1.noL sx1 (by decide) (by decide) (by decide) k), pgn (hn k)]
      exact congrFun (up_ne nqx) k
    have i24 := (ix 24).trans h24
    have i5 := (ix 5).trans h5
    have sqi : ∀ x y, (sR (sR (put σ2 (pL A2 P) C) q 0 x) q 1 y).1 q = some (13, 0) := fun _ _ => sq2
    have nxb : hx ≠ B 23 := fun e => by have z := hf.1; rw [e, s23] at z; cases z
    have i24b : (sR (sI (sR (sR (put σ2 (pL A2 P) C) q 0 (some (A2 0))) q 1 (some st)) q 2 sn) (B 23) m (some q)).2.1 hx 24 = nI m := (congrFun (sI_n nqx) 24).trans i24
    have i24c : ∀ ρ v, (sI ρ hx 24 v).2.1 hx 24 = v := fun ρ v => by rw [sI_e, up_eq]
    first | refine j_aload_n dX0_mark_34 rfl ?_ | refine j_aload_nN dX0_mark_34 rfl ?_
    refine j_getR dX0_mark_35 fl_X0_196 rfl (by first | exact sx2 | exact sq2 | exact sb2 | exact rx4 | exact rx23 | exact i24 | exact i5 | exact i24b | exact i24c _ _ | exact Fa.sh hf | assumption) (by first | exact sx2 | exact sq2 | exact sb2 | exact rx4 | exact rx23 | exact i24 | exact i5 | exact i24b | exact i24c _ _ | assumption) ?_
    first | refine j_aload_n dX0_mark_38 rfl ?_ | refine j_aload_nN dX0_mark_38 rfl ?_
    refine j_getI dX0_mark_39 fl_X0_200 rfl (by first | exact sx2 | exact sq2 | exact sb2 | exact rx4 | exact rx23 | exact i24 | exact i5 | exact i24b | exact i24c _ _ | exact Fa.sh hf | assumption) (by first | exact sx2 | exact sq2 | exact sb2 | exact rx4 | exact rx23 | exact i24 | exact i5 | exact i24b | exact i24c _ _ | assumption) ?_
    refine j_dI0 kl_X0_543 (x_kinit (show (put σ2 (pL A2 P) C).1 q = some (13, 0) from sq2) _ _ _) dX0_mark_42 rfl rfl (Nat.le_of_ble_eq_true rfl) (by first | decide | omega) (by omega) (by omega) ?_
    refine j_aast (t := 30) (ci := 13) dX0_mark_45 (fun _ => rfl) (by decide) (by decide) (show σ2.1 (B 23) = some (30, 3) from sb2) sq2 rfl (show m < 3 by omega) (by decide) ?_
    first | refine j_aload_n dX0_mark_46 rfl ?_ | refine j_aload_nN dX0_mark_46 rfl ?_
    refine j_dup dX0_mark_47 rfl ?_
    refine j_getI dX0_mark_48 fl_X0_540 rfl (by first | exact sx2 | exact sq2 | exact sb2 | exact rx4 | exact rx23 | exact i24 | exact i5 | exact i24b | exact i24c _ _ | exact Fa.sh hf | assumption) (by first | exact sx2 | exact sq2 | exact sb2 | exact rx4 | exact rx23 | exact i24 | exact i5 | exact i24b | exact i24c _ _ | assumption) ?_
    refine j_iconst (v := nI 1) dX0_mark_51 (by decide +kernel) ?_
    first | (with_reducible refine j_gNN ?_; refine j_iaddN dX0_mark_52 ?_) | refine j_iadd dX0_mark_52 ?_
    refine j_putI dX0_mark_53 fl_X0_540 rfl (by first | exact sx2 | exact sq2 | exact sb2 | exact rx4 | exact rx23 | exact i24 | exact i5 | exact i24b | exact i24c _ _ | exact Fa.sh hf | assumption) rfl rfl rfl ?_
    first | refine j_aload_n dX0_mark_56 rfl ?_ | refine j_aload_nN dX0_mark_56 rfl ?_
    first | refine j_aload_n dX0_mark_57 rfl ?_ | refine j_aload_nN dX0_mark_57 rfl ?_
    refine j_getI dX0_mark_58 fl_X0_540 rfl (by first | exact sx2 | exact sq2 | exact sb2 | exact rx4 | exact rx23 | exact i24 | exact i5 | exact i24b | exact i24c _ _ | exact Fa.sh hf | assumption) (by first | exact sx2 | exact sq2 | exact sb2 | exact rx4 | exact rx23 | exact i24 | exact i5 | exact i24b | exact i24c _ _ | assumption) ?_
    refine j_dV1 kl_X0_102 (x_gives (show (sI (sR (sI (sR (sR (put σ2 (pL A2 P) C) q 0 (some (A2 0))) q 1 (some st)) q 2 sn) (B 23) m (some q)) hx 24 (nI (m + 1))).1 hx = some (0, 0) from sx2) _) dX0_mark_61 rfl rfl (by decide) (by first | exact sx2 | exact sq2 | exact sb2 | exact rx4 | exact rx23 | exact i24 | exact i5 | exact i24b | exact i24c _ _ | exact Fa.sh hf | assumption) (Nat.le_of_ble_eq_true rfl) (by first | decide | omega) (by omega) (by omega) ?_
    refine j_iret dX0_mark_64 ⟨_, rfl, rfl⟩ (by omega) (by omega) ?_
    rw [if_neg c_5]
    have ne2 : ∀ a b x y, σ2.1 a = some x → σ2.1 b = some y → x ≠ y → a ≠ b := fun a b x y ha hb hxy e => by rw [e, hb] at ha; cases ha; exact hxy rfl
    generalize hτ : sI (sI (sR (sI (sR (sR (put σ2 (pL A2 P) C) q 0 (some (A2 0))) q 1 (some st)) q 2 sn) (B 23) m (some q)) hx 24 (nI (m + 1))) hx 6 (nI 0) = τ
    have tS : ∀ b, τ.1 b = σ2.1 b := fun b => by rw [← hτ]; rfl
    have tL : ∀ b, τ.2.2.1 b = σ2.2.2.1 b := fun b => by rw [← hτ]; rfl
    have tI : ∀ b, b ≠ hx → b ≠ q → τ.2.1 b = (put σ2 (pL A2 P) C).2.1 b := fun b h1 h2 => by
      rw [← hτ, sI_n h1, sI_n h1, sR_I, sI_n h2]
      rfl
    have nqb : q ≠ B 23 := Ne.symm (hnS _ _ _ s23)
    have tR : ∀ b, b ≠ B 23 → b ≠ q → τ.2.2.2 b = σ2.2.2.2 b := fun b h1 h2 => by
      rw [← hτ, sI_R, sI_R, sR_n h1, sI_R, sR_n h2, sR_n h2]
      rfl
    have old : ∀ a, σ.1 a ≠ none → a ≠ q ∧ (sN σ q 13 0).1 a ≠ none := fun a ha => ⟨eold a ha, by rw [show (sN σ q 13 0).1 a = σ.1 a from up_ne (eold a ha)]; exact ha⟩
    have n0q : ∀ b t n, σ2.1 b = some (t, n) → t ≠ 13 → b ≠ q := fun b t n hb ht => ne2 _ _ _ _ hb sq2 (fun e => ht (by cases e; rfl))
    have n0x : ∀ b t n, σ2.1 b = some (t, n) → t ≠ 0 → b ≠ hx := fun b t n hb ht => ne2 _ _ _ _ hb sx2 (fun e => ht (by cases e; rfl))
    have n0b : ∀ b t n, σ2.1 b = some (t, n) → t ≠ 30 → b ≠ B 23 := fun b t n hb ht => ne2 _ _ _ _ hb sb2 (fun e => ht (by cases e; rfl))
    have hPv : Pv τ (pL A2 P) A2 C W P Dn Hn := t1.mv hD6 (fun b _ => tS b) (fun b hb => by
      rcases hb with z | z
      · rw [tI b (n0x _ _ _ z (by decide)) (n0q _ _ _ z (by decide))]
        exact funext fun k => pgn (t1.noL z (by decide) (by decide) (by decide) k)
      · rw [tI b (n0x _ _ _ z (by decide)) (n0q _ _ _ z (by decide))]
        exact funext fun k => pgn (t1.noL z (by decide) (by decide) (by decide) k)) (fun b _ _ hc => by
      rcases hc with z | z | z | z
      · have y := t1.sh (D := C); rw [← z] at y; exact tR b (n0b _ _ _ y (by decide)) (n0q _ _ _ y (by decide))
      · have y := t1.sw (D := C); rw [← z] at y; exact tR b (n0b _ _ _ y (by decide)) (n0q _ _ _ y (by decide))
      · have y := t1.sp (D := C); rw [← z] at y; exact tR b (n0b _ _ _ y (by decide)) (n0q _ _ _ y (by decide))
      · exact tR b (n0b _ _ _ z (by decide)) (n0q _ _ _ z (by decide))) (fun k _ => by
      have y := t1.sd (D := C)
      exact Or.inl (congrFun (tR _ (n0b _ _ _ y (by decide)) (n0q _ _ _ y (by decide))) k))
    refine ⟨q, A2, rfl, hq0, fun i hi => ?_, ⟨?_, ?_, ?_, ?_, hPv, t2.mv t1 (fun b _ => tL b), t3, ?_⟩, ?_, ?_, ?_, fun a ha => ?_, fun a k ha hk => ?_, fun a ha => ?_, fun a k ha hk => ?_⟩
    · have z : up σ.1 q (some (13, 0)) (A2 i) = none := t4 i hi
      by_cases e : A2 i = q
      · rw [e]; exact hq0
      · rw [up_ne e] at z; exact z
    · exact (tS q).trans sq2
    · rw [← hτ, sI_R, sI_R, sR_n nqb, sI_R, sR_e, up_ne (by decide), sR_e, up_eq]
    · rw [← hτ, sI_R, sI_R, sR_n nqb, sI_R, sR_e, up_eq]
    · rw [← hτ, sI_n (Ne.symm nqx), sI_n (Ne.symm nqx), sR_I, sI_e, up_eq]
    · refine put_id fun a k i hi => ?_
      have z : a ≠ hx ∧ a ≠ q := by
        rcases t1.dom hi with w | w | w <;> exact ⟨n0x _ _ _ w (by decide), n0q _ _ _ w (by decide)⟩
      rw [tI a z.1 z.2]
      exact pg hi
    · rw [← hτ, sI_e, up_ne (by decide), sI_e, up_eq]
    · rw [← hτ, sI_e, up_eq]
    · rw [← hτ, sI_R, sI_R, sR_e, up_eq]
    · exact (tS a).trans ((hold a (old a ha).2).1.trans (up_ne (old a ha).1))
    · have z : (put σ2 (pL A2 P) C).2.1 a k = (put σ L C).2.1 a k := by
        rw [(hold a (old a ha).2).2.1, ← put_N hlq]
        exact congrFun (up_ne (old a ha).1) k
      rw [← z]
      by_cases e : a = hx
      · subst e
        rw [← hτ, sI_at, if_neg (fun q => hk ⟨rfl, Or.inr q.2⟩), sI_at, if_neg (fun q => hk ⟨rfl, Or.inl q.2⟩), sR_I, sI_n nqx]
        rfl
      · rw [tI a e (old a ha).1]
    · exact (tL a).trans ((hold a (old a ha).2).2.2.1.trans (up_ne (old a ha).1))
    · have z : σ2.2.2.2 a k = σ.2.2.2 a k := by
        rw [(hold a (old a ha).2).2.2.2]
        exact congrFun (up_ne (old a ha).1) k
      rw [← z]
      by_cases e : a = B 23
      · subst e
        rw [← hτ, sI_R, sI_R, sR_e, up_ne (fun q => hk ⟨rfl, q⟩), sI_R, sR_n (old _ ha).1, sR_n (old _ ha).1]
        rfl
      · rw [tR a e (old a ha).1]
  · first | refine j_aload_n dX0_mark_8 rfl ?_ | refine j_aload_nN dX0_mark_8 rfl ?_
    refine j_bipush (v := nI 7) dX0_mark_9 (by decide +kernel) ?_
    refine j_dV1 kl_X0_98 (x_none (Fa.sh hf) _) dX0_mark_11 rfl rfl (by decide) (by first | exact h24 | exact h5 | exact Fa.sh hf | assumption) (Nat.le_of_ble_eq_true rfl) (by first | decide | omega) (by omega) (by omega) ?_
    refine j_iret dX0_mark_14 ⟨_, rfl, rfl⟩ (by omega) (by omega) ?_
    rw [if_pos (show m = 3 by omega)]; exact ⟨rfl, put_n (hn 6)⟩
theorem q_back (hf : Fa σ hx B) (hg : Fq σ hx A) (hR : Pv σ L A C W P Dn Hn) (hw : Wx C W P Dn) (hH : C 3 = nI Hn) (hb : Bb C P) (hN : Nm σ A W P nw np) {m : Nat} (hm : σ.2.1 hx 24 = nI m) (hm3 : m ≤ 3) {q v st : Nat} {sn : Int32} (hk : 0 < m → σ.2.2.2 (B 23) (m - 1) = some q ∧ σ.1 q = some (13, 0) ∧ σ.2.2.2 q 0 = some v ∧ σ.2.2.2 q 1 = some st ∧ σ.2.1 q 2 = sn) : Kd g l 2 MX0_back [.ref hx] (put σ L C) (some (.int (if m = 0 then -1 else nI (m - 1)))) (if m = 0 then put (xS σ hx (nI 8)) L C else put (sI (sI (sR (sR (sI σ hx 24 (nI (m - 1))) hx 3 (some v)) hx 4 (some st)) hx 5 sn) hx 6 (nI 0)) L C) := by
  obtain ⟨⟨⟨hW, hW8⟩, ⟨hP, hP6⟩, ⟨hD, hD6⟩, hdn⟩, hWv, hPp⟩ := id hw
  have hn := hR.nf hf
  have h24 : (put σ L C).2.1 hx 24 = nI m := (pgn (hn 24)).trans hm
  have s23 : σ.1 (B 23) = some (30, 3) := (hf.2.1 23 _ _ rfl).2
  have r23 : σ.2.2.2 hx 23 = some (B 23) := (hf.2.1 23 _ _ rfl).1
  have nxb : B 23 ≠ hx := fun e => by have z := hf.1; rw [← e, s23] at z; cases z
  by_cases h0 : m = 0
  · subst h0
    rw [if_pos rfl, if_pos rfl]
    skip
    refine Kt.go (Y := MX0_back) (ls := [some (.ref hx), none]) (by decide) (Nat.le_of_ble_eq_true rfl) rfl ?_
    first | refine j_aload_n dX0_back_0 rfl ?_ | refine j_aload_nN dX0_back_0 rfl ?_
    refine j_getI dX0_back_1 fl_X0_540 rfl (by first | exact h24 | exact Fa.sh hf | assumption) (by first | exact h24 | assumption) ?_
    first | (with_reducible refine j_gB ?_; refine j_if_neB (tgt := 14) dX0_back_4 (by decide) (fun c_4 => ?_) (fun c_4 => ?_)) | (with_reducible refine j_gC ?_; refine j_if_neC (tgt := 14) dX0_back_4 (by decide) (fun c_4 => ?_) (fun c_4 => ?_)) | (with_reducible refine j_gN ?_; refine j_if_neN (tgt := 14) dX0_back_4 (by decide) (by omega) (fun c_4 => ?_) (fun c_4 => ?_)) | refine j_if_ne (tgt := 14) dX0_back_4 (by decide) (fun c_4 => ?_) (fun c_4 => ?_)
    · exact absurd rfl c_4
    · first | refine j_aload_n dX0_back_7 rfl ?_ | refine j_aload_nN dX0_back_7 rfl ?_
      refine j_bipush (v := nI 8) dX0_back_8 (by decide +kernel) ?_
      refine j_dV1 kl_X0_98 (x_none (Fa.sh hf) _) dX0_back_10 rfl rfl (by decide) (by first | exact h24 | exact Fa.sh hf | assumption) (Nat.le_of_ble_eq_true rfl) (by first | decide | omega) (by omega) (by omega) ?_
      refine j_iret dX0_back_13 ⟨_, rfl, rfl⟩ (by omega) (by omega) ?_
      exact ⟨rfl, put_n (hn 6)⟩
  · obtain ⟨k1, k2, k3, k4, k5⟩ := hk (by omega)
    have nqx : q ≠ hx := fun e => by have z := hf.1; rw [← e, k2] at z; cases z
    have kq : (put σ L C).2.1 q 2 = sn := (pgn (hR.noL k2 (by decide) (by decide) (by decide) 2)).trans k5
    rw [if_neg h0, if_neg h0]
    have e24 : ∀ ρ v, (sI ρ hx 24 v).2.1 hx 24 = v := fun ρ v => by rw [sI_e, up_eq]
    have a1 : ∀ x, (sI (put σ L C) hx 24 x).2.2.2 hx 23 = some (B 23) := fun _ => r23
    have a2 : ∀ x, (sI (put σ L C) hx 24 x).2.2.2 (B 23) (m - 1) = some q := fun _ => k1
    have a3 : ∀ x, (sI (put σ L C) hx 24 x).1 q = some (13, 0) := fun _ => k2
    have a4 : ∀ x, (sI (put σ L C) hx 24 x).2.2.2 q 0 = some v := fun _ => k3
    have a5 : ∀ x y, (sR (sI (put σ L C) hx 24 x) hx 3 y).2.2.2 q 1 = some st := fun _ _ => (congrFun (sR_n nqx) 1).trans k4
    have a6 : ∀ x y z, (sR (sR (sI (put σ L C) hx 24 x) hx 3 y) hx 4 z).2.1 q 2 = sn := fun _ _ _ => (congrFun (sI_n nqx) 2).trans kq
    have a7 : ∀ x y z w, (sI (sR (sR (sI (put σ L C) hx 24 x) hx 3 y) hx 4 z) hx 5 w).2.1 hx 24 = x := fun x y z w => by rw [sI_e, up_ne (by decide), sR_I, sR_I, sI_e, up_eq]
    have fx : ∀ x y z w, (sI (sR (sR (sI (put σ L C) hx 24 x) hx 3 y) hx 4 z) hx 5 w).1 hx = some (0, 0) := fun _ _ _ _ => hf.1
    have fq : ∀ x y, (sR (sI (put σ L C) hx 24 x) hx 3 y).1 q = some (13, 0) := fun _ _ => k2
    have fr : ∀ x y z, (sR (sR (sI (put σ L C) hx 24 x) hx 3 y) hx 4 z).1 q = some (13, 0) := fun _ _ _ => k2
    have fb : ∀ x, (sI (put σ L C) hx 24 x).1 (B 23) = some (30, 3) := fun _ => s23
    skip
    refine Kt.go (Y := MX0_back) (ls := [some (.ref hx), none]) (by decide) (Nat.le_of_ble_eq_true rfl) rfl ?_
    first | refine j_aload_n dX0_back_0 rfl ?_ | refine j_aload_nN dX0_back_0 rfl ?_
    refine j_getI dX0_back_1 fl_X0_540 rfl (by first | exact h24 | exact e24 _ _ | exact a1 _ | exact a2 _ | exact a3 _ | exact a4 _ | exact a5 _ _ | exact a6 _ _ _ | exact a7 _ _ _ _ | exact fx _ _ _ _ | exact fq _ _ | exact fr _ _ _ | exact fb _ | exact hf.1 | exact Fa.sh hf | assumption) (by first | exact h24 | exact e24 _ _ | exact a1 _ | exact a2 _ | exact a3 _ | exact a4 _ | exact a5 _ _ | exact a6 _ _ _ | exact a7 _ _ _ _ | exact fx _ _ _ _ | exact fq _ _ | exact fr _ _ _ | exact fb _ | exact hf.1 | assumption) ?_
    first | (with_reducible refine j_gB ?_; refine j_if_neB (tgt := 14) dX0_back_4 (by decide) (fun c_4 => ?_) (fun c_4 => ?_)) | (with_reducible refine j_gC ?_; refine j_if_neC (tgt := 14) dX0_back_4 (by decide) (fun c_4 => ?_) (fun c_4 => ?_)) | (with_reducible refine j_gN ?_; refine j_if_neN (tgt := 14) dX0_back_4 (by decide) (by omega) (fun c_4 => ?_) (fun c_4 => ?_)) | refine j_if_ne (tgt := 14) dX0_back_4 (by decide) (fun c_4 => ?_) (fun c_4 => ?_)
    · first | refine j_aload_n dX0_back_14 rfl ?_ | refine j_aload_nN dX0_back_14 rfl ?_
      refine j_dup dX0_back_15 rfl ?_
      refine j_getI dX0_back_16 fl_X0_540 rfl (by first | exact h24 | exact e24 _ _ | exact a1 _ | exact a2 _ | exact a3 _ | exact a4 _ | exact a5 _ _ | exact a6 _ _ _ | exact a7 _ _ _ _ | exact fx _ _ _ _ | exact fq _ _ | exact fr _ _ _ | exact fb _ | exact hf.1 | exact Fa.sh hf | assumption) (by first | exact h24 | exact e24 _ _ | exact a1 _ | exact a2 _ | exact a3 _ | exact a4 _ | exact a5 _ _ | exact a6 _ _ _ | exact a7 _ _ _ _ | exact fx _ _ _ _ | exact fq _ _ | exact fr _ _ _ | exact fb _ | exact hf.1 | assumption) ?_
      refine j_iconst (v := nI 1) dX0_back_19 (by decide +kernel) ?_
      first | (with_reducible refine j_gNN ?_; refine j_isubN dX0_back_20 (by omega) ?_) | refine j_isub dX0_back_20 ?_
      refine j_putI dX0_back_21 fl_X0_540 rfl (by first | exact h24 | exact e24 _ _ | exact a1 _ | exact a2 _ | exact a3 _ | exact a4 _ | exact a5 _ _ | exact a6 _ _ _ | exact a7 _ _ _ _ | exact fx _ _ _ _ | exact fq _ _ | exact fr _ _ _ | exact fb _ | exact hf.1 | exact Fa.sh hf | assumption) rfl rfl rfl ?_
      first | refine j_aload_n dX0_back_24 rfl ?_ | refine j_aload_nN dX0_back_24 rfl ?_
      refine j_getR dX0_back_25 fl_X0_84 rfl (by first | exact h24 | exact e24 _ _ | exact a1 _ | exact a2 _ | exact a3 _ | exact a4 _ | exact a5 _ _ | exact a6 _ _ _ | exact a7 _ _ _ _ | exact fx _ _ _ _ | exact fq _ _ | exact fr _ _ _ | exact fb _ | exact hf.1 | exact Fa.sh hf | assumption) (by first | exact h24 | exact e24 _ _ | exact a1 _ | exact a2 _ | exact a3 _ | exact a4 _ | exact a5 _ _ | exact a6 _ _ _ | exact a7 _ _ _ _ | exact fx _ _ _ _ | exact fq _ _ | exact fr _ _ _ | exact fb _ | exact hf.1 | exact Fa.f23 hf | assumption) ?_
      first | refine j_aload_n dX0_back_28 rfl ?_ | refine j_aload_nN dX0_back_28 rfl ?_
      refine j_getI dX0_back_29 fl_X0_540 rfl (by first | exact h24 | exact e24 _ _ | exact a1 _ | exact a2 _ | exact a3 _ | exact a4 _ | exact a5 _ _ | exact a6 _ _ _ | exact a7 _ _ _ _ | exact fx _ _ _ _ | exact fq _ _ | exact fr _ _ _ | exact fb _ | exact hf.1 | exact Fa.sh hf | assumption) (by first | exact h24 | exact e24 _ _ | exact a1 _ | exact a2 _ | exact a3 _ | exact a4 _ | exact a5 _ _ | exact a6 _ _ _ | exact a7 _ _ _ _ | exact fx _ _ _ _ | exact fq _ _ | exact fr _ _ _ | exact fb _ | exact hf.1 | assumption) ?_
      refine j_aald (t := 30) (j := m - 1) dX0_back_32 (fun _ => rfl) (by decide) (fb _) rfl (show m - 1 < 3 by omega) (by decide) (a2 _) ?_
      first | refine j_astore_n dX0_back_33 (by decide) ?_ | refine j_astore_nN dX0_back_33 (by decide) ?_
      first | refine j_aload_n dX0_back_34 rfl ?_ | refine j_aload_nN dX0_back_34 rfl ?_
      first | refine j_aload_n dX0_back_35 rfl ?_ | refine j_aload_nN dX0_back_35 rfl ?_
      refine j_getR dX0_back_36 fl_X0_546 rfl (by first | exact h24 | exact e24 _ _ | exact a1 _ | exact a2 _ | exact a3 _ | exact a4 _ | exact a5 _ _ | exact a6 _ _ _ | exact a7 _ _ _ _ | exact fx _ _ _ _ | exact fq _ _ | exact fr _ _ _ | exact fb _ | exact hf.1 | assumption) (by first | exact h24 | exact e24 _ _ | exact a1 _ | exact a2 _ | exact a3 _ | exact a4 _ | exact a5 _ _ | exact a6 _ _ _ | exact a7 _ _ _ _ | exact fx _ _ _ _ | exact fq _ _ | exact fr _ _ _ | exact fb _ | exact hf.1 | assumption) ?_
      first | refine j_putR dX0_back_39 fl_X0_38 rfl (by first | exact h24 | exact e24 _ _ | exact a1 _ | exact a2 _ | exact a3 _ | exact a4 _ | exact a5 _ _ | exact a6 _ _ _ | exact a7 _ _ _ _ | exact fx _ _ _ _ | exact fq _ _ | exact fr _ _ _ | exact fb _ | exact hf.1 | exact Fa.sh hf | assumption) rfl rfl rfl ?_ | refine j_putN dX0_back_39 fl_X0_38 rfl (by first | exact h24 | exact e24 _ _ | exact a1 _ | exact a2 _ | exact a3 _ | exact a4 _ | exact a5 _ _ | exact a6 _ _ _ | exact a7 _ _ _ _ | exact fx _ _ _ _ | exact fq _ _ | exact fr _ _ _ | exact fb _ | exact hf.1 | exact Fa.sh hf | assumption) rfl rfl rfl ?_
      first | refine j_aload_n dX0_back_42 rfl ?_ | refine j_aload_nN dX0_back_42 rfl ?_
      first | refine j_aload_n dX0_back_43 rfl ?_ | refine j_aload_nN dX0_back_43 rfl ?_
      refine j_getR dX0_back_44 fl_X0_547 rfl (by first | exact h24 | exact e24 _ _ | exact a1 _ | exact a2 _ | exact a3 _ | exact a4 _ | exact a5 _ _ | exact a6 _ _ _ | exact a7 _ _ _ _ | exact fx _ _ _ _ | exact fq _ _ | exact fr _ _ _ | exact fb _ | exact hf.1 | assumption) (by first | exact h24 | exact e24 _ _ | exact a1 _ | exact a2 _ | exact a3 _ | exact a4 _ | exact a5 _ _ | exact a6 _ _ _ | exact a7 _ _ _ _ | exact fx _ _ _ _ | exact fq _ _ | exact fr _ _ _ | exact fb _ | exact hf.1 | assumption) ?_
      first | refine j_putR dX0_back_47 fl_X0_196 rfl (by first | exact h24 | exact e24 _ _ | exact a1 _ | exact a2 _ | exact a3 _ | exact a4 _ | exact a5 _ _ | exact a6 _ _ _ | exact a7 _ _ _ _ | exact fx _ _ _ _ | exact fq _ _ | exact fr _ _ _ | exact fb _ | exact hf.1 | exact Fa.sh hf | assumption) rfl rfl rfl ?_ | refine j_putN dX0_back_47 fl_X0_196 rfl (by first | exact h24 | exact e24 _ _ | exact a1 _ | exact a2 _ | exact a3 _ | exact a4 _ | exact a5 _ _ | exact a6 _ _ _ | exact a7 _ _ _ _ | exact fx _ _ _ _ | exact fq _ _ | exact fr _ _ _ | exact fb _ | exact hf.1 | exact Fa.sh hf | assumption) rfl rfl rfl ?_
      first | refine j_aload_n dX0_back_50 rfl ?_ | refine j_aload_nN dX0_back_50 rfl ?_
      first | refine j_aload_n dX0_back_51 rfl ?_ | refine j_aload_nN dX0_back_51 rfl ?_
      refine j_getI dX0_back_52 fl_X0_548 rfl (by first | exact h24 | exact e24 _ _ | exact a1 _ | exact a2 _ | exact a3 _ | exact a4 _ | exact a5 _ _ | exact a6 _ _ _ | exact a7 _ _ _ _ | exact fx _ _ _ _ | exact fq _ _ | exact fr _ _ _ | exact fb _ | exact hf.1 | assumption) (by first | exact h24 | exact e24 _ _ | exact a1 _ | exact a2 _ | exact a3 _ | exact a4 _ | exact a5 _ _ | exact a6 _ _ _ | exact a7 _ _ _ _ | exact fx _ _ _ _ | exact fq _ _ | exact fr _ _ _ | exact fb _ | exact hf.1 | assumption) ?_
      refine j_putI dX0_back_55 fl_X0_200 rfl (by first | exact h24 | exact e24 _ _ | exact a1 _ | exact a2 _ | exact a3 _ | exact a4 _ | exact a5 _ _ | exact a6 _ _ _ | exact a7 _ _ _ _ | exact fx _ _ _ _ | exact fq _ _ | exact fr _ _ _ | exact fb _ | exact hf.1 | exact Fa.sh hf | assumption) rfl rfl rfl ?_
      first | refine j_aload_n dX0_back_58 rfl ?_ | refine j_aload_nN dX0_back_58 rfl ?_
      first | refine j_aload_n dX0_back_59 rfl ?_ | refine j_aload_nN dX0_back_59 rfl ?_
      refine j_getI dX0_back_60 fl_X0_540 rfl (by first | exact h24 | exact e24 _ _ | exact a1 _ | exact a2 _ | exact a3 _ | exact a4 _ | exact a5 _ _ | exact a6 _ _ _ | exact a7 _ _ _ _ | exact fx _ _ _ _ | exact fq _ _ | exact fr _ _ _ | exact fb _ | exact hf.1 | exact Fa.sh hf | assumption) (by first | exact h24 | exact e24 _ _ | exact a1 _ | exact a2 _ | exact a3 _ | exact a4 _ | exact a5 _ _ | exact a6 _ _ _ | exact a7 _ _ _ _ | exact fx _ _ _ _ | exact fq _ _ | exact fr _ _ _ | exact fb _ | exact hf.1 | assumption) ?_
      refine j_dV1 kl_X0_102 (x_gives (fx _ _ _ _) _) dX0_back_63 rfl rfl (by decide) (by first | exact h24 | exact e24 _ _ | exact a1 _ | exact a2 _ | exact a3 _ | exact a4 _ | exact a5 _ _ | exact a6 _ _ _ | exact a7 _ _ _ _ | exact fx _ _ _ _ | exact fq _ _ | exact fr _ _ _ | exact fb _ | exact hf.1 | exact Fa.sh hf | assumption) (Nat.le_of_ble_eq_true rfl) (by first | decide | omega) (by omega) (by omega) ?_
      refine j_iret dX0_back_66 ⟨_, rfl, rfl⟩ (by omega) (by omega) ?_
      exact ⟨rfl, by rw [put_n (hn 24), put_R, put_R, put_n (hn 5), put_n (hn 6)]⟩
    · exact absurd c_4 h0
end X27s
