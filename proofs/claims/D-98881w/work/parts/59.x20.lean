/-! X: NEW PERSONS, PROVINCES; TWINS of persons -/
set_option maxRecDepth 100000
section NZ
variable {g : Gx} {l : Launch} {d : Nat} {Y : Mi} {av : List Value} {mc ms : Nat} {Qr : Option Value → Sg → Prop} {Qx : Nat → String → Sg → Prop} {c0 n0 pc : Nat} {ls : List (Option Value)} {st : List Value} {σ : Sg}
theorem j_newZ {ix ci z : Nat} (hd : decode Y.2.1 pc = .ok (.new ix, 3)) (hci : ci < 14) (hz : zN ci = z) (hw : Cond.classLink Y.1.cls ix (zCn ci) ∈ lw_all) (hi : Cond.instantiable (zCn ci) (zN ci) ∈ lw_all) (hini : Cond.initialized (zCn ci) ∈ lw_all) (hc : c0 + 1 ≤ mc) (hs : n0 + z ≤ ms) (kk : ∀ q, σ.1 q = none → zA g q → Tj g l d Y av mc ms Qr Qx (c0 + 1) (n0 + z) (pc + 3) ls (.ref q :: st) (sN σ q ci 0)) : Tj g l d Y av mc ms Qr Qx c0 n0 pc ls st σ := by
  subst hz
  exact j_new hd hci hw hi hini hc hs kk
end NZ
/-- old cells are as they were, but for some -/
def Xt (ch : Nat → Prop) (σ τ : Sg) : Prop := ∀ a, σ.1 a ≠ none → ¬ ch a → τ.1 a = σ.1 a ∧ τ.2.1 a = σ.2.1 a ∧ τ.2.2.1 a = σ.2.2.1 a ∧ τ.2.2.2 a = σ.2.2.2 a
theorem Xt.tr {ch : Nat → Prop} {ρ σ τ : Sg} (h1 : Xt ch ρ σ) (h2 : Xt ch σ τ) : Xt ch ρ τ := fun a ha hc => by
  obtain ⟨a1, a2, a3, a4⟩ := h1 a ha hc
  obtain ⟨b1, b2, b3, b4⟩ := h2 a (by rw [a1]; exact ha) hc
  exact ⟨b1.trans a1, b2.trans a2, b3.trans a3, b4.trans a4⟩
theorem Xt.rf {ch : Nat → Prop} {σ : Sg} : Xt ch σ σ := fun _ _ _ => ⟨rfl, rfl, rfl, rfl⟩
theorem Xt.wk {ch ch2 : Nat → Prop} {σ τ : Sg} (h : Xt ch σ τ) (hc : ∀ a, σ.1 a ≠ none → ch a → ch2 a) : Xt ch2 σ τ := fun a ha hn => h a ha (fun q => hn (hc a ha q))
theorem ne_new {σ : Sg} {a q : Nat} {x : Nat × Nat} (ha : σ.1 a = some x) (hq : σ.1 q = none) : a ≠ q := fun e => by rw [e, hq] at ha; cases ha
theorem Xt.n {ch : Nat → Prop} {σ : Sg} {q t n : Nat} (hq : σ.1 q = none) : Xt ch σ (sN σ q t n) := fun a ha _ => by
  have : a ≠ q := fun e => ha (by rw [e]; exact hq)
  exact ⟨up_ne this, up_ne this, up_ne this, up_ne this⟩
theorem Xt.i {ch : Nat → Prop} {σ : Sg} {q k : Nat} {x : Int32} (hq : ch q) : Xt ch σ (sI σ q k x) := fun a _ hc => ⟨rfl, sI_n (fun e => hc (by rw [e]; exact hq)), rfl, rfl⟩
theorem Xt.l {ch : Nat → Prop} {σ : Sg} {q k : Nat} {x : Int64} (hq : ch q) : Xt ch σ (sL σ q k x) := fun a _ hc => ⟨rfl, rfl, sL_n (fun e => hc (by rw [e]; exact hq)), rfl⟩
theorem Xt.r {ch : Nat → Prop} {σ : Sg} {q k : Nat} {x : Option Nat} (hq : ch q) : Xt ch σ (sR σ q k x) := fun a _ hc => ⟨rfl, rfl, rfl, sR_n (fun e => hc (by rw [e]; exact hq))⟩
theorem Xt.ur {ch : Nat → Prop} {σ : Sg} {q : Nat} {F : Nat → Option Nat} (hq : ch q) : Xt ch σ (sUR σ q F) := fun a _ hc => ⟨rfl, rfl, rfl, sUR_n (fun e => hc (by rw [e]; exact hq))⟩
theorem Xt.put {ch : Nat → Prop} {σ : Sg} {L : Nat → Nat → Option Nat} {C : Nat → Int32} (h : ∀ a k i, L a k = some i → σ.1 a ≠ none → ch a) : Xt ch σ (put σ L C) := fun a ha hc => by
  refine ⟨rfl, funext fun k => ?_, rfl, rfl⟩
  rw [put_at]
  cases e : L a k with
  | none => rfl
  | some i => exact absurd (h a k i e ha) hc
/-- behind a person's constructor -/
def pinS (σ : Sg) (q q1 q2 : Nat) (nm : Int64) : Sg := sL (sI (sR (sN (sR (sN σ q1 20 8) q 1 (some q1)) q2 20 8) q 2 (some q2)) q 3 (nI 50)) q 0 nm
/-- behind a province's constructor -/
def vinS (σ : Sg) (q q1 q2 q3 sy : Nat) : Sg := sR (sI (sI (sR (sN (sR (sN (sR (sN σ q1 26 8) q 0 (some q1)) q2 27 6) q 1 (some q2)) q3 28 6) q 2 (some q3)) q 8 (nI 3)) q 9 (nI 1)) q 3 (some sy)
theorem pin_sh {σ : Sg} {q q1 q2 : Nat} {nm : Int64} (h : q ≠ q1) (h2 : q ≠ q2) (h12 : q1 ≠ q2) : (pinS σ q q1 q2 nm).1 q = σ.1 q ∧ (pinS σ q q1 q2 nm).1 q1 = some (20, 8) ∧ (pinS σ q q1 q2 nm).1 q2 = some (20, 8) := by
  refine ⟨?_, ?_, ?_⟩
  · show up (up σ.1 q1 _) q2 _ q = σ.1 q
    rw [up_ne h2, up_ne h]
  · show up (up σ.1 q1 _) q2 _ q1 = _
    rw [up_ne h12, up_eq]
  · show up (up σ.1 q1 _) q2 _ q2 = _
    rw [up_eq]
theorem pin_r {σ : Sg} {q q1 q2 : Nat} {nm : Int64} (h : q ≠ q1) (h2 : q ≠ q2) : (pinS σ q q1 q2 nm).2.2.2 q 1 = some q1 ∧ (pinS σ q q1 q2 nm).2.2.2 q 2 = some q2 := by
  constructor
  · show (sR (sN (sR (sN σ q1 20 8) q 1 (some q1)) q2 20 8) q 2 (some q2)).2.2.2 q 1 = _
    rw [sR_e, up_ne (by decide)]
    show up (sR (sN σ q1 20 8) q 1 (some q1)).2.2.2 q2 (fun _ => none) q 1 = _
    rw [up_ne h2, sR_e, up_eq]
  · show (sR (sN (sR (sN σ q1 20 8) q 1 (some q1)) q2 20 8) q 2 (some q2)).2.2.2 q 2 = _
    rw [sR_e, up_eq]
theorem pin_l {σ : Sg} {q q1 q2 : Nat} {nm : Int64} : (pinS σ q q1 q2 nm).2.2.1 q 0 = nm := by
  show (sL (sI (sR (sN (sR (sN σ q1 20 8) q 1 (some q1)) q2 20 8) q 2 (some q2)) q 3 (nI 50)) q 0 nm).2.2.1 q 0 = nm
  rw [sL_e, up_eq]
theorem pin_x {ch : Nat → Prop} {σ : Sg} {q q1 q2 : Nat} {nm : Int64} (hq : ch q) (h1 : σ.1 q1 = none) (h2 : σ.1 q2 = none) (h12 : q1 ≠ q2) : Xt ch σ (pinS σ q q1 q2 nm) := by
  unfold pinS
  refine (Xt.n h1).tr ((Xt.r hq).tr ((Xt.n ?_).tr ((Xt.r hq).tr ((Xt.i hq).tr (Xt.l hq)))))
  show up σ.1 q1 _ q2 = none
  rw [up_ne (Ne.symm h12)]
  exact h2
section X20s
variable {g : Gx} {l : Launch} {σ τ : Sg} {L : Nat → Nat → Option Nat} {b la aa p q sy : Nat} {C D S : Nat → Int32}
theorem x_pinit (hq8 : σ.1 q = some (8, 0)) (nm : Int64) : Kt g l 0 MX8_init [.ref q, .long nm] σ 2 16 (fun r τ => r = none ∧ ∃ q1 q2, σ.1 q1 = none ∧ σ.1 q2 = none ∧ q1 ≠ q2 ∧ τ = pinS σ q q1 q2 nm) (fun _ _ _ => False) := by
  refine Kt.go (Y := MX8_init) (ls := [some (.ref q), some (.long nm), none]) (by decide) (Nat.le_of_ble_eq_true rfl) rfl ?_
  first | refine j_aload_n dX8_init_0 rfl ?_ | refine j_aload_nN dX8_init_0 rfl ?_
  refine j_objInit dX8_init_1 q489 q208 q209 (Nat.le_of_ble_eq_true rfl) ?_
  first | refine j_aload_n dX8_init_4 rfl ?_ | refine j_aload_nN dX8_init_4 rfl ?_
  refine j_bipush (v := nI 8) dX8_init_5 (by decide +kernel) ?_
  refine j_newaI (t := 20) dX8_init_7 rfl q382 (fun _ => rfl) (fun _ _ _ _ => rfl) rfl (by decide) rfl (by omega) (by omega) (by omega) (fun q1 h1 hA1 => ?_)
  have s1 : (sN σ q1 20 8).1 q = some (8, 0) := (up_ne (ne_new hq8 h1)).trans hq8
  first | refine j_putRF dX8_init_9 fl_X8_9 rfl (by assumption) (zFin_o 8 1 q492) rfl rfl ?_ | refine j_putNF dX8_init_9 fl_X8_9 rfl (by assumption) (zFin_o 8 1 q492) rfl rfl ?_
  first | refine j_aload_n dX8_init_12 rfl ?_ | refine j_aload_nN dX8_init_12 rfl ?_
  refine j_bipush (v := nI 8) dX8_init_13 (by decide +kernel) ?_
  refine j_newaI (t := 20) dX8_init_15 rfl q382 (fun _ => rfl) (fun _ _ _ _ => rfl) rfl (by decide) rfl (by omega) (by omega) (by omega) (fun q2 h2 hA2 => ?_)
  have n2 : q ≠ q2 := ne_new (σ := sR (sN σ q1 20 8) q 1 (some q1)) s1 h2
  have s2 : (sN (sR (sN σ q1 20 8) q 1 (some q1)) q2 20 8).1 q = some (8, 0) := (up_ne n2).trans s1
  have n12 : q1 ≠ q2 := ne_new (σ := sR (sN σ q1 20 8) q 1 (some q1)) (up_eq σ.1 q1 (some (20, 8))) h2
  have h2' : σ.1 q2 = none := by
    have z : up σ.1 q1 (some (20, 8)) q2 = none := h2
    rw [up_ne (Ne.symm n12)] at z
    exact z
  first | refine j_putRF dX8_init_17 fl_X8_15 rfl (by assumption) (zFin_o 8 2 q495) rfl rfl ?_ | refine j_putNF dX8_init_17 fl_X8_15 rfl (by assumption) (zFin_o 8 2 q495) rfl rfl ?_
  first | refine j_aload_n dX8_init_20 rfl ?_ | refine j_aload_nN dX8_init_20 rfl ?_
  refine j_bipush (v := nI 50) dX8_init_21 (by decide +kernel) ?_
  refine j_putI dX8_init_23 fl_X8_18 rfl (by first | assumption) rfl rfl rfl ?_
  first | refine j_aload_n dX8_init_26 rfl ?_ | refine j_aload_nN dX8_init_26 rfl ?_
  refine j_lload_n dX8_init_27 rfl ?_
  refine j_putLF dX8_init_28 fl_X8_22 rfl (by assumption) (zFin_o 8 0 q490) rfl rfl ?_
  refine j_vret dX8_init_31 rfl (by omega) (by omega) ?_
  exact ⟨rfl, q1, q2, h1, h2', n12, rfl⟩
theorem x_vinit (hq6 : σ.1 q = some (6, 0)) : Kt g l 0 MX6_init [.ref q, .ref sy] σ 3 20 (fun r τ => r = none ∧ ∃ q1 q2 q3, σ.1 q1 = none ∧ σ.1 q2 = none ∧ σ.1 q3 = none ∧ q1 ≠ q2 ∧ q1 ≠ q3 ∧ q2 ≠ q3 ∧ τ = vinS σ q q1 q2 q3 sy) (fun _ _ _ => False) := by
  refine Kt.go (Y := MX6_init) (ls := [some (.ref q), some (.ref sy)]) (by decide) (Nat.le_of_ble_eq_true rfl) rfl ?_
  first | refine j_aload_n dX6_init_0 rfl ?_ | refine j_aload_nN dX6_init_0 rfl ?_
  refine j_objInit dX6_init_1 q399 q208 q209 (Nat.le_of_ble_eq_true rfl) ?_
  first | refine j_aload_n dX6_init_4 rfl ?_ | refine j_aload_nN dX6_init_4 rfl ?_
  refine j_bipush (v := nI 8) dX6_init_5 (by decide +kernel) ?_
  refine j_newaR (t := 26) dX6_init_7 q400 (by decide) (fun _ => rfl) (by decide) rfl (by omega) (by omega) (by omega) (fun q1 h1 hA1 => ?_)
  have s1 : (sN σ q1 26 8).1 q = some (6, 0) := (up_ne (ne_new hq6 h1)).trans hq6
  first | refine j_putRF dX6_init_10 fl_X6_11 rfl (by assumption) (zFin_o 6 0 q406) rfl rfl ?_ | refine j_putNF dX6_init_10 fl_X6_11 rfl (by assumption) (zFin_o 6 0 q406) rfl rfl ?_
  first | refine j_aload_n dX6_init_13 rfl ?_ | refine j_aload_nN dX6_init_13 rfl ?_
  refine j_bipush (v := nI 6) dX6_init_14 (by decide +kernel) ?_
  refine j_newaR (t := 27) dX6_init_16 q402 (by decide) (fun _ => rfl) (by decide) rfl (by omega) (by omega) (by omega) (fun q2 h2 hA2 => ?_)
  have n2 : q ≠ q2 := ne_new (σ := sR (sN σ q1 26 8) q 0 (some q1)) s1 h2
  have s2 : (sN (sR (sN σ q1 26 8) q 0 (some q1)) q2 27 6).1 q = some (6, 0) := (up_ne n2).trans s1
  have n12 : q1 ≠ q2 := ne_new (σ := sR (sN σ q1 26 8) q 0 (some q1)) (up_eq σ.1 q1 (some (26, 8))) h2
  have h2' : σ.1 q2 = none := by
    have z : up σ.1 q1 (some (26, 8)) q2 = none := h2
    rw [up_ne (Ne.symm n12)] at z
    exact z
  first | refine j_putRF dX6_init_19 fl_X6_19 rfl (by assumption) (zFin_o 6 1 q409) rfl rfl ?_ | refine j_putNF dX6_init_19 fl_X6_19 rfl (by assumption) (zFin_o 6 1 q409) rfl rfl ?_
  first | refine j_aload_n dX6_init_22 rfl ?_ | refine j_aload_nN dX6_init_22 rfl ?_
  refine j_bipush (v := nI 6) dX6_init_23 (by decide +kernel) ?_
  refine j_newaR (t := 28) dX6_init_25 q404 (by decide) (fun _ => rfl) (by decide) rfl (by omega) (by omega) (by omega) (fun q3 h3 hA3 => ?_)
  have n3 : q ≠ q3 := ne_new (σ := sR (sN (sR (sN σ q1 26 8) q 0 (some q1)) q2 27 6) q 1 (some q2)) s2 h3
  have s3 : (sN (sR (sN (sR (sN σ q1 26 8) q 0 (some q1)) q2 27 6) q 1 (some q2)) q3 28 6).1 q = some (6, 0) := (up_ne n3).trans s2
  have n23 : q2 ≠ q3 := ne_new (σ := sR (sN (sR (sN σ q1 26 8) q 0 (some q1)) q2 27 6) q 1 (some q2)) (up_eq (up σ.1 q1 (some (26, 8))) q2 (some (27, 6))) h3
  have n13 : q1 ≠ q3 := ne_new (σ := sR (sN (sR (sN σ q1 26 8) q 0 (some q1)) q2 27 6) q 1 (some q2)) ((up_ne n12).trans (up_eq σ.1 q1 (some (26, 8)))) h3
  have h3' : σ.1 q3 = none := by
    have z : up (up σ.1 q1 (some (26, 8))) q2 (some (27, 6)) q3 = none := h3
    rw [up_ne (Ne.symm n23), up_ne (Ne.symm n13)] at z
    exact z
  first | refine j_putRF dX6_init_28 fl_X6_25 rfl (by assumption) (zFin_o 6 2 q412) rfl rfl ?_ | refine j_putNF dX6_init_28 fl_X6_25 rfl (by assumption) (zFin_o 6 2 q412) rfl rfl ?_
  first | refine j_aload_n dX6_init_31 rfl ?_ | refine j_aload_nN dX6_init_31 rfl ?_
  refine j_iconst (v := nI 3) dX6_init_32 (by decide +kernel) ?_
  refine j_putI dX6_init_33 fl_X6_29 rfl (by first | assumption) rfl rfl rfl ?_
  first | refine j_aload_n dX6_init_36 rfl ?_ | refine j_aload_nN dX6_init_36 rfl ?_
  refine j_iconst (v := nI 1) dX6_init_37 (by decide +kernel) ?_
  refine j_putI dX6_init_38 fl_X6_33 rfl (by first | assumption) rfl rfl rfl ?_
  first | refine j_aload_n dX6_init_41 rfl ?_ | refine j_aload_nN dX6_init_41 rfl ?_
  first | refine j_aload_n dX6_init_42 rfl ?_ | refine j_aload_nN dX6_init_42 rfl ?_
  first | refine j_putRF dX6_init_43 fl_X6_36 rfl (by assumption) (zFin_o 6 3 q415) rfl rfl ?_ | refine j_putNF dX6_init_43 fl_X6_36 rfl (by assumption) (zFin_o 6 3 q415) rfl rfl ?_
  refine j_vret dX6_init_46 rfl (by omega) (by omega) ?_
  exact ⟨rfl, q1, q2, q3, h1, h2', h3', n12, n13, n23, rfl⟩
/-- a person's twin: new cells, as in C -/
def twQ (ρ : Sg) (p : Nat) (C : Nat → Int32) (nm : Int64) (r : Option Value) (τ : Sg) : Prop := ∃ q q1 q2, r = some (.ref q) ∧ ρ.1 q = none ∧ ρ.1 q1 = none ∧ ρ.1 q2 = none ∧ q ≠ q1 ∧ q ≠ q2 ∧ q1 ≠ q2 ∧ (τ.1 q = some (8, 0) ∧ τ.1 q1 = some (20, 8) ∧ τ.1 q2 = some (20, 8)) ∧ (τ.2.2.2 q 1 = some q1 ∧ τ.2.2.2 q 2 = some q2) ∧ τ.2.2.1 q 0 = nm ∧
  (τ.2.1 q 3 = C (25 + p) ∧ τ.2.1 q 4 = C (37 + p) ∧ τ.2.1 q 5 = C (43 + p) ∧ τ.2.1 q 6 = C (31 + p)) ∧ (∀ j, j < 8 → τ.2.1 q1 j = C (49 + 8 * p + j)) ∧ (∀ j, j < 8 → τ.2.1 q2 j = C (97 + 8 * p + j)) ∧ Xt (fun _ => False) ρ τ
theorem pe1_inj {b la aa p : Nat} (hp : p < 6) (h1 : b ≠ la) (h2 : b ≠ aa) (h3 : la ≠ aa) : Linj (pe1 b la aa p) := by
  intro a k c j i e1 e2
  obtain ⟨-, d1⟩ := pe1_c hp e1
  obtain ⟨-, d2⟩ := pe1_c hp e2
  rcases d1 with ⟨x1, y1⟩ | ⟨x1, y1⟩ | ⟨x1, y1⟩ <;> rcases d2 with ⟨x2, y2⟩ | ⟨x2, y2⟩ | ⟨x2, y2⟩ <;> first | exact ⟨x1.trans x2.symm, by omega⟩ | (exfalso; omega)
theorem pe1_p {σ : Sg} {b la aa p : Nat} (h1 : b ≠ la) (h2 : b ≠ aa) (h3 : la ≠ aa) (hs : σ.1 b = some (8, 0) ∧ σ.1 la = some (20, 8) ∧ σ.1 aa = some (20, 8)) (hr : σ.2.2.2 b 1 = some la ∧ σ.2.2.2 b 2 = some aa) : Pe (pe1 b la aa p) σ b la aa p := by
  refine ⟨hs, hr, ⟨?_, ?_, ?_, ?_⟩, fun j hj => ?_, fun j hj => ?_⟩
  · unfold pe1; rw [if_pos rfl, if_pos rfl]
  · unfold pe1; rw [if_pos rfl, if_neg (by decide), if_pos rfl]
  · unfold pe1; rw [if_pos rfl, if_neg (by decide), if_neg (by decide), if_pos rfl]
  · unfold pe1; rw [if_pos rfl, if_neg (by decide), if_neg (by decide), if_neg (by decide), if_pos rfl]
  · unfold pe1; rw [if_neg (Ne.symm h1), if_pos rfl, if_pos hj]
  · unfold pe1; rw [if_neg (Ne.symm h2), if_neg (Ne.symm h3), if_pos rfl, if_pos hj]
/-- the person stands in the heap as in C -/
def Pr (σ : Sg) (b la aa p : Nat) (C : Nat → Int32) : Prop := (σ.1 b = some (8, 0) ∧ σ.1 la = some (20, 8) ∧ σ.1 aa = some (20, 8)) ∧ (σ.2.2.2 b 1 = some la ∧ σ.2.2.2 b 2 = some aa) ∧ (σ.2.1 b 3 = C (25 + p) ∧ σ.2.1 b 4 = C (37 + p) ∧ σ.2.1 b 5 = C (43 + p) ∧ σ.2.1 b 6 = C (31 + p)) ∧ (∀ j, j < 8 → σ.2.1 la j = C (49 + 8 * p + j)) ∧ ∀ j, j < 8 → σ.2.1 aa j = C (97 + 8 * p + j)
theorem Pe.pr (h : Pe L σ b la aa p) : Pr (put σ L C) b la aa p C := ⟨h.1, h.2.1, ⟨pg h.l3, pg h.l4, pg h.l5, pg h.l6⟩, fun j hj => pg (h.ll hj), fun j hj => pg (h.lg hj)⟩
theorem Pr.xt {ch : Nat → Prop} (h : Pr σ b la aa p C) (hx : Xt ch σ τ) (h1 : ¬ ch b) (h2 : ¬ ch la) (h3 : ¬ ch aa) : Pr τ b la aa p C := by
  obtain ⟨⟨a1, a2, a3⟩, ⟨b1, b2⟩, ⟨c1, c2, c3, c4⟩, d, e⟩ := h
  obtain ⟨x1, x2, x3, x4⟩ := hx b (by rw [a1]; simp) h1
  obtain ⟨y1, y2, y3, y4⟩ := hx la (by rw [a2]; simp) h2
  obtain ⟨z1, z2, z3, z4⟩ := hx aa (by rw [a3]; simp) h3
  exact ⟨⟨x1.trans a1, y1.trans a2, z1.trans a3⟩, ⟨by rw [x4]; exact b1, by rw [x4]; exact b2⟩, ⟨by rw [x2]; exact c1, by rw [x2]; exact c2, by rw [x2]; exact c3, by rw [x2]; exact c4⟩, fun j hj => by rw [y2]; exact d j hj, fun j hj => by rw [z2]; exact e j hj⟩
theorem Pr.ps {L2 : Nat → Nat → Option Nat} (h : Pr σ b la aa p C) (hn : ∀ j, L2 b j = none ∧ L2 la j = none ∧ L2 aa j = none) : Ps L2 σ b la aa p C := ⟨h.1, h.2.1, h.2.2.1, h.2.2.2.1, h.2.2.2.2, hn⟩
theorem x_ptwin (hp : Pr σ b la aa p C) (hp6 : p < 6) (hb : C (31 + p) = nI 0 ∨ C (31 + p) = nI 1) {nm : Int64} (hnm : σ.2.2.1 b 0 = nm) : Kt g l 1 MX8_twin [.ref b] σ 3 23 (twQ σ p C nm) (fun _ _ _ => False) := by
  have hb8 := hp.1.1
  refine Kt.go (Y := MX8_twin) (ls := [some (.ref b)]) (by decide) (Nat.le_of_ble_eq_true rfl) rfl ?_
  refine j_newZ (ci := 8) (z := 7) dX8_twin_0 (by decide) rfl q1297 q485 q186 (by omega) (by omega) (fun q hq0 hqA => ?_)
  have nb : b ≠ q := ne_new hb8 hq0
  have s8 : (sN σ q 8 0).1 b = some (8, 0) := (up_ne nb).trans hb8
  have l0 : (sN σ q 8 0).2.2.1 b 0 = nm := (congrFun (up_ne nb) 0).trans hnm
  have sq : (sN σ q 8 0).1 q = some (8, 0) := up_eq _ _ _
  refine j_dup dX8_twin_3 rfl ?_
  first | refine j_aload_n dX8_twin_4 rfl ?_ | refine j_aload_nN dX8_twin_4 rfl ?_
  refine j_getL dX8_twin_5 fl_X8_22 rfl s8 l0 ?_
  refine j_callI kl_X8_26 (x_pinit (up_eq σ.1 q (some (8, 0))) nm) dX8_twin_8 rfl rfl (Nat.le_of_ble_eq_true rfl) (by first | decide | omega) (by omega) (by omega) (fun v τ hq => ?_) (fun _ _ _ hq => hq.elim)
  obtain ⟨rfl, q1, q2, h1, h2, n12, rfl⟩ := hq
  refine j_eq (st' := [.ref q]) rfl rfl rfl ?_
  have nq1 : q ≠ q1 := ne_new (σ := sN σ q 8 0) sq h1
  have nq2 : q ≠ q2 := ne_new (σ := sN σ q 8 0) sq h2
  have h1' : σ.1 q1 = none := (up_ne (Ne.symm nq1)).symm.trans h1
  have h2' : σ.1 q2 = none := (up_ne (Ne.symm nq2)).symm.trans h2
  have hX : Xt (fun a => a = q) σ (pinS (sN σ q 8 0) q q1 q2 nm) := (Xt.n hq0).tr (pin_x rfl h1 h2 n12)
  have nla : la ≠ q := ne_new hp.1.2.1 hq0
  have naa : aa ≠ q := ne_new hp.1.2.2 hq0
  have hPr := hp.xt hX nb nla naa
  have hL := pe1_inj hp6 nq1 nq2 n12
  obtain ⟨z1, z2, z3⟩ := pin_sh (σ := sN σ q 8 0) (nm := nm) nq1 nq2 n12
  have hPe := pe1_p (p := p) nq1 nq2 n12 ⟨z1.trans sq, z2, z3⟩ (pin_r (σ := sN σ q 8 0) (nm := nm) nq1 nq2)
  obtain ⟨D0, hD0⟩ := put_ex hL (pinS (sN σ q 8 0) q q1 q2 nm)
  have hPs := hPr.ps (L2 := pe1 q q1 q2 p) (fun j => ⟨pe1_n nb (ne_new hb8 h1') (ne_new hb8 h2'), pe1_n nla (ne_new hp.1.2.1 h1') (ne_new hp.1.2.1 h2'), pe1_n naa (ne_new hp.1.2.2 h1') (ne_new hp.1.2.2 h2')⟩)
  have eD : put (pinS (sN σ q 8 0) q q1 q2 nm) (pe1 q q1 q2 p) (tkP p C D0) = put (pinS (sN σ q 8 0) q q1 q2 nm) (pe1 q q1 q2 p) C := put_cg fun a k i h => tkP_y (pe1_c hp6 h).1
  refine j_sg hD0.symm ?_
  first | refine j_aload_n dX8_twin_11 rfl ?_ | refine j_aload_nN dX8_twin_11 rfl ?_
  refine j_dV1 kl_X8_29 (x_takes hL hPe hPs hp6 hb) dX8_twin_12 rfl rfl (by decide) (Pe.sh hPe) (Nat.le_of_ble_eq_true rfl) (by decide) (by omega) (by omega) ?_
  refine j_sg eD ?_
  refine j_aret (v := some q) dX8_twin_15 ⟨_, rfl, Or.inl ⟨_, rfl⟩⟩ (by omega) (by omega) ?_
  refine ⟨q, q1, q2, rfl, hq0, h1', h2', nq1, nq2, n12, ⟨z1.trans sq, z2, z3⟩, pin_r (σ := sN σ q 8 0) (nm := nm) nq1 nq2, pin_l (σ := sN σ q 8 0), ⟨pg hPe.l3, pg hPe.l4, pg hPe.l5, pg hPe.l6⟩, fun j hj => pg (hPe.ll hj), fun j hj => pg (hPe.lg hj), ?_⟩
  have hX2 : Xt (fun a => a = q ∨ a = q1 ∨ a = q2) σ (put (pinS (sN σ q 8 0) q q1 q2 nm) (pe1 q q1 q2 p) C) := (hX.wk (fun a _ e => Or.inl e)).tr (Xt.put fun a k i h _ => by
    obtain ⟨-, d⟩ := pe1_c hp6 h
    rcases d with ⟨e, -⟩ | ⟨e, -⟩ | ⟨e, -⟩ <;> simp [e])
  exact hX2.wk (fun a ha e => by
    rcases e with e | e | e
    · exact ha (by rw [e]; exact hq0)
    · exact ha (by rw [e]; exact h1')
    · exact ha (by rw [e]; exact h2'))
end X20s
