/-! X: YEARS, small methods -/
set_option maxRecDepth 100000
/-- the cells of a run: drawn, steps run, the five numbers, the rounds of steps (sx: a step's number by its address) -/
def yX (hx b20 : Nat) (sx : Nat → Option Nat) (a k : Nat) : Option Nat := if a = hx then (if k = 18 then some 37 else if k = 19 then some 38 else none) else if a = b20 then (if k < 5 then some (39 + k) else none) else if k = 7 then (sx a).map (· + 100) else none
def sxI (sx : Nat → Option Nat) : Prop := ∀ a b i, sx a = some i → sx b = some i → a = b
theorem yX_inj {hx b20 : Nat} {sx : Nat → Option Nat} (hn : b20 ≠ hx) (hi : sxI sx) : Linj (yX hx b20 sx) := by
  have c : ∀ a k i, yX hx b20 sx a k = some i → (a = hx ∧ (k = 18 ∧ i = 37 ∨ k = 19 ∧ i = 38)) ∨ (a = b20 ∧ k < 5 ∧ i = 39 + k) ∨ (k = 7 ∧ ∃ j, sx a = some j ∧ i = j + 100) := by
    intro a k i h
    unfold yX at h
    split at h
    · next e =>
      split at h
      · next e2 => cases h; exact Or.inl ⟨e, Or.inl ⟨e2, rfl⟩⟩
      · split at h
        · next e2 => cases h; exact Or.inl ⟨e, Or.inr ⟨e2, rfl⟩⟩
        · cases h
    · split at h
      · next e =>
        split at h
        · next e2 => cases h; exact Or.inr (Or.inl ⟨e, e2, rfl⟩)
        · cases h
      · split at h
        · next e2 =>
          cases e : sx a with
          | none => rw [e] at h; cases h
          | some j => rw [e] at h; cases h; exact Or.inr (Or.inr ⟨e2, j, rfl, rfl⟩)
        · cases h
  intro a k b j i h1 h2
  rcases c _ _ _ h1 with ⟨e1, e2⟩ | ⟨e1, e2, e3⟩ | ⟨e1, x, e2, e3⟩ <;> rcases c _ _ _ h2 with ⟨d1, d2⟩ | ⟨d1, d2, d3⟩ | ⟨d1, y, d2, d3⟩
  · exact ⟨e1.trans d1.symm, by omega⟩
  · omega
  · omega
  · omega
  · exact ⟨e1.trans d1.symm, by omega⟩
  · omega
  · omega
  · omega
  · have : x = y := by omega
    subst this
    exact ⟨hi a b x e2 d2, by omega⟩
/-- the run's heap -/
def yx (σ : Sg) (hx : Nat) (B : Nat → Nat) (sx : Nat → Option Nat) (V : Nat → Int32) : Sg := put σ (yX hx (B 20) sx) V
/-- the run stands in the face -/
def Yf (σ : Sg) (hx : Nat) (B : Nat → Nat) (sx : Nat → Option Nat) : Prop := sxI sx ∧ ∀ a i, sx a = some i → σ.1 a = some (12, 0)
section YX
variable {σ : Sg} {hx : Nat} {A B : Nat → Nat} {sx : Nat → Option Nat} {L : Nat → Nat → Option Nat} {C V : Nat → Int32} {W P Dn Hn : Nat}
theorem Fa.n20 (hf : Fa σ hx B) : B 20 ≠ hx := fun e => by
  have := (hf.2.1 20 _ _ rfl).2
  rw [e, hf.1] at this
  cases this
theorem yX_x {k : Nat} : yX hx (B 20) sx hx k = (if k = 18 then some 37 else if k = 19 then some 38 else none) := by unfold yX; rw [if_pos rfl]
theorem yX_b (hf : Fa σ hx B) {k : Nat} (hk : k < 5) : yX hx (B 20) sx (B 20) k = some (39 + k) := by unfold yX; rw [if_neg hf.n20, if_pos rfl, if_pos hk]
theorem yX_o (hf : Fa σ hx B) (hy : Yf σ hx B sx) {a t n : Nat} (ha : σ.1 a = some (t, n)) (h0 : t ≠ 0) (h20 : (t, n) ≠ (20, 5)) (h12 : t ≠ 12) (k : Nat) : yX hx (B 20) sx a k = none := by
  unfold yX
  rw [if_neg (fun e => by rw [e, hf.1] at ha; cases ha; exact h0 rfl), if_neg (fun e => by rw [e, (hf.2.1 20 _ _ rfl).2] at ha; cases ha; exact h20 rfl)]
  split
  · cases e : sx a with
    | none => rfl
    | some i => have := hy.2 a i e; rw [ha] at this; cases this; exact absurd rfl h12
  · rfl
theorem Pv.yx (hR : Pv σ L A C W P Dn Hn) (hD6 : Dn ≤ 6) (hf : Fa σ hx B) (hy : Yf σ hx B sx) : Pv (yx σ hx B sx V) L A C W P Dn Hn := hR.mv hD6 (fun _ _ => rfl) (fun b hb => by
  rcases hb with z | z
  · exact funext fun k => pgn (yX_o hf hy z (by decide) (by decide) (by decide) k)
  · exact funext fun k => pgn (yX_o hf hy z (by decide) (by decide) (by decide) k)) (fun _ _ _ _ => rfl) (fun _ _ => Or.inl rfl)
/-- reads and writes -/
theorem yx_37 (hR : Pv σ L A C W P Dn Hn) (hf : Fa σ hx B) : (put (yx σ hx B sx V) L C).2.1 hx 18 = V 37 := (pgn (hR.nf hf 18)).trans (pg yX_x)
theorem yx_w37 (hR : Pv σ L A C W P Dn Hn) (hf : Fa σ hx B) (hy : Yf σ hx B sx) {x : Int32} : sI (put (yx σ hx B sx V) L C) hx 18 x = put (yx σ hx B sx (up V 37 x)) L C := by
  rw [put_n (hR.nf hf 18)]
  unfold yx
  rw [put_w (yX_inj hf.n20 hy.1) (i := 37) yX_x]
theorem yx_b (hR : Pv σ L A C W P Dn Hn) (hf : Fa σ hx B) (k : Nat) (hk : k < 5) : (put (yx σ hx B sx V) L C).2.1 (B 20) k = V (39 + k) := (pgn (hR.noL (hf.2.1 20 _ _ rfl).2 (by decide) (by decide) (by decide) k)).trans (pg (yX_b hf hk))
theorem yx_wb (hR : Pv σ L A C W P Dn Hn) (hf : Fa σ hx B) (hy : Yf σ hx B sx) (k : Nat) (hk : k < 5) {x : Int32} : sI (put (yx σ hx B sx V) L C) (B 20) k x = put (yx σ hx B sx (up V (39 + k) x)) L C := by
  rw [put_n (hR.noL (hf.2.1 20 _ _ rfl).2 (by decide) (by decide) (by decide) k)]
  unfold yx
  rw [put_w (yX_inj hf.n20 hy.1) (yX_b hf hk)]
end YX
section X28s
variable {g : Gx} {l : Launch} {σ τ : Sg} {L : Nat → Nat → Option Nat} {A B : Nat → Nat} {C V : Nat → Int32} {W P Dn Hn p k q hx : Nat} {sx : Nat → Option Nat}
theorem x_draw (hf : Fa σ hx B) (hR : Pv σ L A C W P Dn Hn) (hy : Yf σ hx B sx) {r n : Nat} (hr : V 37 = nI r) (hr2 : r < 65536) (hn : 1 ≤ n) (hn8 : n ≤ 8) : Kd g l 0 MX0_draw [.ref hx, .int (nI n)] (put (yx σ hx B sx V) L C) (some (.int (nI (yDrawn V n)))) (put (yx σ hx B sx (yDraw V)) L C) := by
  have er : ixn (V 37) = r := by rw [hr, ixn_nI (by omega)]
  have hlt := drw_lt r
  have z0 : (put (yx σ hx B sx V) L C).2.1 hx 18 = nI r := (yx_37 hR hf).trans hr
  have z1 : ∀ v, (put (yx σ hx B sx (up V 37 v)) L C).2.1 hx 18 = v := fun v => (yx_37 hR hf).trans (up_eq _ _ _)
  have zs : ∀ U, (put (yx σ hx B sx U) L C).1 hx = some (0, 0) := fun _ => hf.1
  refine Kt.go (Y := MX0_draw) (ls := [some (.ref hx), some (.int (nI n))]) (by decide) (Nat.le_of_ble_eq_true rfl) rfl ?_
  first | refine j_aload_n dX0_draw_0 rfl ?_ | refine j_aload_nN dX0_draw_0 rfl ?_
  first | refine j_aload_n dX0_draw_1 rfl ?_ | refine j_aload_nN dX0_draw_1 rfl ?_
  refine j_getI dX0_draw_2 fl_X0_475 rfl (by first | exact z0 | exact z1 _ | exact zs _ | exact Fa.sh hf | assumption) (by first | exact z0 | exact z1 _ | exact zs _ | assumption) ?_
  refine j_sipush (v := nI 2971) dX0_draw_5 (by decide +kernel) ?_
  first | (with_reducible refine j_gNN ?_; refine j_imulN dX0_draw_8 ?_) | refine j_imul dX0_draw_8 ?_
  refine j_sipush (v := nI 10789) dX0_draw_9 (by decide +kernel) ?_
  first | (with_reducible refine j_gNN ?_; refine j_iaddN dX0_draw_12 ?_) | refine j_iadd dX0_draw_12 ?_
  refine j_ldcw (v := nI 65536) dX0_draw_13 q1549 ?_
  refine j_iremN dX0_draw_16 (by omega) (by decide) (by decide) ?_
  refine j_putI dX0_draw_17 fl_X0_475 rfl (by first | exact z0 | exact z1 _ | exact zs _ | exact Fa.sh hf | assumption) rfl rfl rfl ?_
  rw [yx_w37 hR hf hy, show (r * 2971 + 10789) % 65536 = drw r from rfl]
  first | refine j_aload_n dX0_draw_20 rfl ?_ | refine j_aload_nN dX0_draw_20 rfl ?_
  refine j_getI dX0_draw_21 fl_X0_475 rfl (by first | exact z0 | exact z1 _ | exact zs _ | exact Fa.sh hf | assumption) (by first | exact z0 | exact z1 _ | exact zs _ | assumption) ?_
  refine j_bipush (v := nI 8) dX0_draw_24 (by decide +kernel) ?_
  refine j_idivN dX0_draw_26 (by omega) (by decide) (by decide) ?_
  refine j_iload_n dX0_draw_27 rfl ?_
  refine j_iremN dX0_draw_28 (by omega) (by omega) (by omega) ?_
  refine j_iret dX0_draw_29 ⟨_, rfl, rfl⟩ (by omega) (by omega) ?_
  exact ⟨by unfold yDrawn; rw [er], by unfold yDraw; rw [er]⟩
theorem x_saysBy (hf : Fa σ hx B) (hg : Fq σ hx A) (hR0 : Pv σ L A C W P Dn Hn) (hD6 : Dn ≤ 6) (hP6 : P ≤ 6) (hy : Yf σ hx B sx) (hp6 : p < P) (hq6 : q < P) : Kd g l 3 MX0_saysBy [.ref hx, .int (nI p), .int (nI k), .int (nI q)] (put (yx σ hx B sx V) L C) (some (.int (bI (ySay p k q C V).1))) (put (yx σ hx B sx (ySay p k q C V).2.2) L (ySay p k q C V).2.1) := by
  have hR := hR0.yx (V := V) hD6 hf hy
  have hfr : Fr C (mSays C p k q) := mSays_fr (by omega) (by omega)
  have zs : ∀ U D, (put (yx σ hx B sx U) L D).1 hx = some (0, 0) := fun _ _ => hf.1
  have zg : ∀ U D, (put (yx σ hx B sx U) L D).2.2.2 hx 3 = some (A 0) := fun _ _ => hg
  have zb : ∀ U D, (put (yx σ hx B sx U) L D).1 (B 20) = some (20, 5) := fun _ _ => (hf.2.1 20 _ _ rfl).2
  have zr : ∀ U D, (put (yx σ hx B sx U) L D).2.2.2 hx 20 = some (B 20) := fun _ _ => (hf.2.1 20 _ _ rfl).1
  refine Kt.go (Y := MX0_saysBy) (ls := [some (.ref hx), some (.int (nI p)), some (.int (nI k)), some (.int (nI q))]) (by decide) (Nat.le_of_ble_eq_true rfl) rfl ?_
  have hWs : ∀ D, Fr C D → ∀ i, i < 5 → (put (yx σ hx B sx V) L D).2.1 (B 20) i = V (39 + i) := fun D f i hi => (pgn (hR0.noL (hf.2.1 20 _ _ rfl).2 (by decide) (by decide) (by decide) i)).trans (pg (yX_b hf hi))
  have z2 := hWs (mSays C p k q) hfr 2 (by decide)
  first | refine j_aload_n dX0_saysBy_0 rfl ?_ | refine j_aload_nN dX0_saysBy_0 rfl ?_
  refine j_getR dX0_saysBy_1 fl_X0_38 rfl (by first | exact zs _ _ | exact zg _ _ | exact zb _ _ | exact zr _ _ | exact z2 | exact Fa.sh hf | assumption) (by first | exact zs _ _ | exact zg _ _ | exact zb _ _ | exact zr _ _ | exact z2 | exact Fq.f3 hg | assumption) ?_
  refine j_iload_n dX0_saysBy_4 rfl ?_
  refine j_iload_n dX0_saysBy_5 rfl ?_
  refine j_iload_n dX0_saysBy_6 rfl ?_
  refine j_dV1 kl_X0_320 (x_says hR hP6 hp6 hq6) dX0_saysBy_7 rfl rfl (by decide) (by first | exact zs _ _ | exact zg _ _ | exact zb _ _ | exact zr _ _ | exact z2 | exact Pv.sh hR | assumption) (Nat.le_of_ble_eq_true rfl) (by first | decide | omega) (by omega) (by omega) ?_
  first | (with_reducible refine j_gB ?_; refine j_if_neB (tgt := 15) dX0_saysBy_10 (by decide) (fun c_10 => ?_) (fun c_10 => ?_)) | (with_reducible refine j_gC ?_; refine j_if_neC (tgt := 15) dX0_saysBy_10 (by decide) (fun c_10 => ?_) (fun c_10 => ?_)) | (with_reducible refine j_gN ?_; refine j_if_neN (tgt := 15) dX0_saysBy_10 (by decide) (by omega) (fun c_10 => ?_) (fun c_10 => ?_)) | refine j_if_ne (tgt := 15) dX0_saysBy_10 (by decide) (fun c_10 => ?_) (fun c_10 => ?_)
  · first | refine j_aload_n dX0_saysBy_15 rfl ?_ | refine j_aload_nN dX0_saysBy_15 rfl ?_
    refine j_getR dX0_saysBy_16 fl_X0_76 rfl (by first | exact zs _ _ | exact zg _ _ | exact zb _ _ | exact zr _ _ | exact z2 | exact Fa.sh hf | assumption) (by first | exact zs _ _ | exact zg _ _ | exact zb _ _ | exact zr _ _ | exact z2 | exact Fa.f20 hf | assumption) ?_
    refine j_iconst (v := nI 2) dX0_saysBy_19 (by decide +kernel) ?_
    refine j_dup2 dX0_saysBy_20 rfl rfl ?_
    refine j_iald dX0_saysBy_21 (by first | exact zs _ _ | exact zg _ _ | exact zb _ _ | exact zr _ _ | exact z2 | exact Pe.sl hp | exact Pe.sa hp | exact Pe.sl hq | exact Pe.sa hq | exact Pv.sw hR | exact Pv.sp hR | exact Pv.sd hR | exact Fa.s0 hf | exact Fa.s12 hf | exact Fa.s13 hf | exact Fa.s14 hf | exact Fa.s15 hf | exact Fa.s16 hf | exact Fa.s20 hf | exact Fa.s21 hf | exact Fa.s23 hf | assumption) rfl (by omega) (by decide) (by first | exact zs _ _ | exact zg _ _ | exact zb _ _ | exact zr _ _ | exact z2 | exact pg (Pe.ll hp (by omega)) | exact pg (Pe.lg hp (by omega)) | exact pg (Pe.ll hq (by omega)) | exact pg (Pe.lg hq (by omega)) | assumption) ?_
    refine j_iconst (v := nI 1) dX0_saysBy_22 (by decide +kernel) ?_
    first | (with_reducible refine j_gNN ?_; refine j_iaddN dX0_saysBy_23 ?_) | refine j_iadd dX0_saysBy_23 ?_
    refine j_iast dX0_saysBy_24 (by first | exact zs _ _ | exact zg _ _ | exact zb _ _ | exact zr _ _ | exact z2 | exact Pe.sl hp | exact Pe.sa hp | exact Pe.sl hq | exact Pe.sa hq | exact Pv.sw hR | exact Pv.sp hR | exact Pv.sd hR | exact Fa.s0 hf | exact Fa.s12 hf | exact Fa.s13 hf | exact Fa.s14 hf | exact Fa.s15 hf | exact Fa.s16 hf | exact Fa.s20 hf | exact Fa.s21 hf | exact Fa.s23 hf | assumption) rfl (by omega) (by decide) ?_
    first | refine j_sg (put_w hL (Pe.ll hp (by omega))) ?_ | refine j_sg (put_w hL (Pe.ll hq (by omega))) ?_ | refine j_sg (put_w hL (Pe.lg hp (by omega))) ?_ | refine j_sg (put_w hL (Pe.lg hq (by omega))) ?_ | skip
    refine j_iconst (v := nI 1) dX0_saysBy_25 (by decide +kernel) ?_
    refine j_iret dX0_saysBy_26 ⟨_, rfl, rfl⟩ (by omega) (by omega) ?_
    unfold ySay; rw [c_10]; exact ⟨rfl, by
      rw [put_n (hR0.noL (hf.2.1 20 _ _ rfl).2 (by decide) (by decide) (by decide) 2)]
      unfold yx
      rw [put_w (yX_inj hf.n20 hy.1) (yX_b hf (show 2 < 5 by decide))]
      rfl⟩
  · refine j_iconst (v := nI 0) dX0_saysBy_13 (by decide +kernel) ?_
    refine j_iret dX0_saysBy_14 ⟨_, rfl, rfl⟩ (by omega) (by omega) ?_
    unfold ySay; rw [c_10]; exact ⟨rfl, rfl⟩
theorem x_saysAny (hf : Fa σ hx B) (hg : Fq σ hx A) (hR0 : Pv σ L A C W P Dn Hn) (hw : Wd C W P Dn) (hy : Yf σ hx B sx) {r : Nat} (hr : V 37 = nI r) (hr2 : r < 65536) : Kd g l 4 MX0_saysAny [.ref hx] (put (yx σ hx B sx V) L C) (some (.int (bI (yAny W P C V).1))) (put (yx σ hx B sx (yAny W P C V).2.2) L (yAny W P C V).2.1) := by
  obtain ⟨⟨hW, hW8⟩, ⟨hP, hP6⟩, ⟨hD, hD6⟩, hdn⟩ := id hw
  have hR := hR0.yx (V := V) hD6 hf hy
  have zs : ∀ U D, (put (yx σ hx B sx U) L D).1 hx = some (0, 0) := fun _ _ => hf.1
  have zg : ∀ U D, (put (yx σ hx B sx U) L D).2.2.2 hx 3 = some (A 0) := fun _ _ => hg
  have zv : ∀ U D, (put (yx σ hx B sx U) L D).1 (A 0) = some (6, 0) := fun _ _ => hR0.sh (D := C)
  have zP : ∀ U, (put (yx σ hx B sx U) L C).2.1 (A 0) 5 = nI P := fun _ => (pg (hR0.li 5 1 rfl (by decide))).trans hP
  have zW : ∀ U, (put (yx σ hx B sx U) L C).2.1 (A 0) 4 = nI W := fun _ => (pg (hR0.li 4 0 rfl (by decide))).trans hW
  have hr3 := yDraw_r hr hr2
  have hr4 := yDraw_r hr3 (drw_lt r)
  have l1 := drw_lt r
  have l2 := drw_lt (drw r)
  have k1 : P ≠ 0 → yDrawn V P < P := fun q => Nat.mod_lt _ (by omega)
  have k3 : P ≠ 0 → yDrawn (yDraw (yDraw V)) P < P := fun q => Nat.mod_lt _ (by omega)
  have d1 : P ≠ 0 → Kd g l 0 MX0_draw [.ref hx, .int (nI P)] (put (yx σ hx B sx V) L C) (some (.int (nI (yDrawn V P)))) (put (yx σ hx B sx (yDraw V)) L C) := fun q => x_draw hf hR0 hy hr hr2 (by omega) (by omega)
  have d2 : W ≠ 0 → Kd g l 0 MX0_draw [.ref hx, .int (nI W)] (put (yx σ hx B sx (yDraw V)) L C) (some (.int (nI (yDrawn (yDraw V) W)))) (put (yx σ hx B sx (yDraw (yDraw V))) L C) := fun q => x_draw hf hR0 hy hr3 l1 (by omega) (by omega)
  have d3 : P ≠ 0 → Kd g l 0 MX0_draw [.ref hx, .int (nI P)] (put (yx σ hx B sx (yDraw (yDraw V))) L C) (some (.int (nI (yDrawn (yDraw (yDraw V)) P)))) (put (yx σ hx B sx (yDraw (yDraw (yDraw V)))) L C) := fun q => x_draw hf hR0 hy hr4 l2 (by omega) (by omega)
  have e0 : (P = 0 ∨ W = 0) → yAny W P C V = (false, C, V) := fun q => by unfold yAny; rw [if_pos q]
  have e1 : ¬ (P = 0 ∨ W = 0) → yAny W P C V = ySay (yDrawn V P) (yDrawn (yDraw V) W) (yDrawn (yDraw (yDraw V)) P) C (yDraw (yDraw (yDraw V))) := fun q => by unfold yAny; rw [if_neg q]
  clear hr3 hr4 l1 l2
  generalize yDrawn (yDraw (yDraw V)) P = c3 at *
  generalize yDrawn (yDraw V) W = c2 at *
  generalize yDrawn V P = c1 at *
  generalize yDraw (yDraw (yDraw V)) = V3 at *
  generalize yDraw (yDraw V) = V2 at *
  generalize yDraw V = V1 at *
  generalize yAny W P C V = o at *
  refine Kt.go (Y := MX0_saysAny) (ls := [some (.ref hx), none, none]) (by decide) (Nat.le_of_ble_eq_true rfl) rfl ?_
  first | refine j_aload_n dX0_saysAny_0 rfl ?_ | refine j_aload_nN dX0_saysAny_0 rfl ?_
  refine j_getR dX0_saysAny_1 fl_X0_38 rfl (by first | exact zs _ _ | exact zg _ _ | exact zv _ _ | exact zP _ | exact zW _ | exact Fa.sh hf | assumption) (by first | exact zs _ _ | exact zg _ _ | exact zv _ _ | exact zP _ | exact zW _ | exact Fq.f3 hg | assumption) ?_
  refine j_getI dX0_saysAny_4 fl_X0_152 rfl (by first | exact zs _ _ | exact zg _ _ | exact zv _ _ | exact zP _ | exact zW _ | exact Pv.sh hR | assumption) (by first | exact zs _ _ | exact zg _ _ | exact zv _ _ | exact zP _ | exact zW _ | exact pg (Pv.li hR 5 1 rfl (by decide)) | assumption) ?_
  first | (with_reducible refine j_gB ?_; refine j_if_eqB (tgt := 20) dX0_saysAny_7 (by decide) (fun c_7 => ?_) (fun c_7 => ?_)) | (with_reducible refine j_gC ?_; refine j_if_eqC (tgt := 20) dX0_saysAny_7 (by decide) (fun c_7 => ?_) (fun c_7 => ?_)) | (with_reducible refine j_gN ?_; refine j_if_eqN (tgt := 20) dX0_saysAny_7 (by decide) (by omega) (fun c_7 => ?_) (fun c_7 => ?_)) | refine j_if_eq (tgt := 20) dX0_saysAny_7 (by decide) (fun c_7 => ?_) (fun c_7 => ?_)
  · refine j_iconst (v := nI 0) dX0_saysAny_20 (by decide +kernel) ?_
    refine j_iret dX0_saysAny_21 ⟨_, rfl, rfl⟩ (by omega) (by omega) ?_
    first
    | (have z : P = 0 := c_7
       rw [e0 (Or.inl z)]; exact ⟨rfl, rfl⟩)
    | (have z : W = 0 := c_17
       rw [e0 (Or.inr z)]; exact ⟨rfl, rfl⟩)
  · first | refine j_aload_n dX0_saysAny_10 rfl ?_ | refine j_aload_nN dX0_saysAny_10 rfl ?_
    refine j_getR dX0_saysAny_11 fl_X0_38 rfl (by first | exact zs _ _ | exact zg _ _ | exact zv _ _ | exact zP _ | exact zW _ | exact Fa.sh hf | assumption) (by first | exact zs _ _ | exact zg _ _ | exact zv _ _ | exact zP _ | exact zW _ | exact Fq.f3 hg | assumption) ?_
    refine j_getI dX0_saysAny_14 fl_X0_147 rfl (by first | exact zs _ _ | exact zg _ _ | exact zv _ _ | exact zP _ | exact zW _ | exact Pv.sh hR | assumption) (by first | exact zs _ _ | exact zg _ _ | exact zv _ _ | exact zP _ | exact zW _ | exact pg (Pv.li hR 4 0 rfl (by decide)) | assumption) ?_
    first | (with_reducible refine j_gB ?_; refine j_if_neB (tgt := 22) dX0_saysAny_17 (by decide) (fun c_17 => ?_) (fun c_17 => ?_)) | (with_reducible refine j_gC ?_; refine j_if_neC (tgt := 22) dX0_saysAny_17 (by decide) (fun c_17 => ?_) (fun c_17 => ?_)) | (with_reducible refine j_gN ?_; refine j_if_neN (tgt := 22) dX0_saysAny_17 (by decide) (by omega) (fun c_17 => ?_) (fun c_17 => ?_)) | refine j_if_ne (tgt := 22) dX0_saysAny_17 (by decide) (fun c_17 => ?_) (fun c_17 => ?_)
    · first | refine j_aload_n dX0_saysAny_22 rfl ?_ | refine j_aload_nN dX0_saysAny_22 rfl ?_
      first | refine j_aload_n dX0_saysAny_23 rfl ?_ | refine j_aload_nN dX0_saysAny_23 rfl ?_
      refine j_getR dX0_saysAny_24 fl_X0_38 rfl (by first | exact zs _ _ | exact zg _ _ | exact zv _ _ | exact zP _ | exact zW _ | exact Fa.sh hf | assumption) (by first | exact zs _ _ | exact zg _ _ | exact zv _ _ | exact zP _ | exact zW _ | exact Fq.f3 hg | assumption) ?_
      refine j_getI dX0_saysAny_27 fl_X0_152 rfl (by first | exact zs _ _ | exact zg _ _ | exact zv _ _ | exact zP _ | exact zW _ | exact Pv.sh hR | assumption) (by first | exact zs _ _ | exact zg _ _ | exact zv _ _ | exact zP _ | exact zW _ | exact pg (Pv.li hR 5 1 rfl (by decide)) | assumption) ?_
      refine j_dV1 kl_X0_479 (d1 c_7) dX0_saysAny_30 rfl rfl (by decide) (by first | exact zs _ _ | exact zg _ _ | exact zv _ _ | exact zP _ | exact zW _ | exact Fa.sh hf | assumption) (Nat.le_of_ble_eq_true rfl) (by first | decide | omega) (by omega) (by omega) ?_
      refine j_istore_n dX0_saysAny_33 (by decide) ?_
      first | refine j_aload_n dX0_saysAny_34 rfl ?_ | refine j_aload_nN dX0_saysAny_34 rfl ?_
      first | refine j_aload_n dX0_saysAny_35 rfl ?_ | refine j_aload_nN dX0_saysAny_35 rfl ?_
      refine j_getR dX0_saysAny_36 fl_X0_38 rfl (by first | exact zs _ _ | exact zg _ _ | exact zv _ _ | exact zP _ | exact zW _ | exact Fa.sh hf | assumption) (by first | exact zs _ _ | exact zg _ _ | exact zv _ _ | exact zP _ | exact zW _ | exact Fq.f3 hg | assumption) ?_
      refine j_getI dX0_saysAny_39 fl_X0_147 rfl (by first | exact zs _ _ | exact zg _ _ | exact zv _ _ | exact zP _ | exact zW _ | exact Pv.sh hR | assumption) (by first | exact zs _ _ | exact zg _ _ | exact zv _ _ | exact zP _ | exact zW _ | exact pg (Pv.li hR 4 0 rfl (by decide)) | assumption) ?_
      refine j_dV1 kl_X0_479 (d2 c_17) dX0_saysAny_42 rfl rfl (by decide) (by first | exact zs _ _ | exact zg _ _ | exact zv _ _ | exact zP _ | exact zW _ | exact Fa.sh hf | assumption) (Nat.le_of_ble_eq_true rfl) (by first | decide | omega) (by omega) (by omega) ?_
      refine j_istore_n dX0_saysAny_45 (by decide) ?_
      first | refine j_aload_n dX0_saysAny_46 rfl ?_ | refine j_aload_nN dX0_saysAny_46 rfl ?_
      refine j_iload_n dX0_saysAny_47 rfl ?_
      refine j_iload_n dX0_saysAny_48 rfl ?_
      first | refine j_aload_n dX0_saysAny_49 rfl ?_ | refine j_aload_nN dX0_saysAny_49 rfl ?_
      first | refine j_aload_n dX0_saysAny_50 rfl ?_ | refine j_aload_nN dX0_saysAny_50 rfl ?_
      refine j_getR dX0_saysAny_51 fl_X0_38 rfl (by first | exact zs _ _ | exact zg _ _ | exact zv _ _ | exact zP _ | exact zW _ | exact Fa.sh hf | assumption) (by first | exact zs _ _ | exact zg _ _ | exact zv _ _ | exact zP _ | exact zW _ | exact Fq.f3 hg | assumption) ?_
      refine j_getI dX0_saysAny_54 fl_X0_152 rfl (by first | exact zs _ _ | exact zg _ _ | exact zv _ _ | exact zP _ | exact zW _ | exact Pv.sh hR | assumption) (by first | exact zs _ _ | exact zg _ _ | exact zv _ _ | exact zP _ | exact zW _ | exact pg (Pv.li hR 5 1 rfl (by decide)) | assumption) ?_
      refine j_dV1 kl_X0_479 (d3 c_7) dX0_saysAny_57 rfl rfl (by decide) (by first | exact zs _ _ | exact zg _ _ | exact zv _ _ | exact zP _ | exact zW _ | exact Fa.sh hf | assumption) (Nat.le_of_ble_eq_true rfl) (by first | decide | omega) (by omega) (by omega) ?_
      refine j_dV1 kl_X0_482 (x_saysBy (V := V3) hf hg hR0 hD6 hP6 hy (k1 c_7) (k3 c_7)) dX0_saysAny_60 rfl rfl (by decide) (by first | exact zs _ _ | exact zg _ _ | exact zv _ _ | exact zP _ | exact zW _ | exact Fa.sh hf | assumption) (Nat.le_of_ble_eq_true rfl) (by first | decide | omega) (by omega) (by omega) ?_
      refine j_iret dX0_saysAny_63 ⟨_, rfl, bI_nar _⟩ (by omega) (by omega) ?_
      rw [e1 (fun q => by rcases q with q | q; exact c_7 q; exact c_17 q)]; exact ⟨rfl, rfl⟩
    · refine j_iconst (v := nI 0) dX0_saysAny_20 (by decide +kernel) ?_
      refine j_iret dX0_saysAny_21 ⟨_, rfl, rfl⟩ (by omega) (by omega) ?_
      first
      | (have z : P = 0 := c_7
         rw [e0 (Or.inl z)]; exact ⟨rfl, rfl⟩)
      | (have z : W = 0 := c_17
         rw [e0 (Or.inr z)]; exact ⟨rfl, rfl⟩)
theorem x_daysGo (hf : Fa σ hx B) (hg : Fq σ hx A) (hR0 : Pv σ L A C W P Dn Hn) (hw : Wx C W P Dn) (hy : Yf σ hx B sx) {n : Nat} (hn : n ≤ 20) : Kd g l 5 MX0_daysGo [.ref hx, .int (nI n)] (put (yx σ hx B sx V) L C) (some (.int (bI (yDay W P Dn n C V).1))) (put (yx σ hx B sx (yDay W P Dn n C V).2.2) L (yDay W P Dn n C V).2.1) := by
  have hD6 := hw.1.2.2.1.2
  have hR := hR0.yx (V := V) hD6 hf hy
  have zs : ∀ U D, (put (yx σ hx B sx U) L D).1 hx = some (0, 0) := fun _ _ => hf.1
  have zg : ∀ U D, (put (yx σ hx B sx U) L D).2.2.2 hx 3 = some (A 0) := fun _ _ => hg
  have zv : ∀ U D, (put (yx σ hx B sx U) L D).1 (A 0) = some (6, 0) := fun _ _ => hR0.sh (D := C)
  have zb : ∀ U D, (put (yx σ hx B sx U) L D).1 (B 20) = some (20, 5) := fun _ _ => (hf.2.1 20 _ _ rfl).2
  have zr : ∀ U D, (put (yx σ hx B sx U) L D).2.2.2 hx 20 = some (B 20) := fun _ _ => (hf.2.1 20 _ _ rfl).1
  have z10 : (put (yx σ hx B sx V) L C).2.1 (A 0) 10 = C 6 := pg (hR0.li 10 6 rfl (by decide))
  have hb : ∀ U D i, i < 5 → (put (yx σ hx B sx U) L D).2.1 (B 20) i = U (39 + i) := fun U D i hi => (pgn (hR0.noL (hf.2.1 20 _ _ rfl).2 (by decide) (by decide) (by decide) i)).trans (pg (yX_b hf hi))
  have hwb : ∀ U D i (x : Int32), i < 5 → sI (put (yx σ hx B sx U) L D) (B 20) i x = put (yx σ hx B sx (up U (39 + i) x)) L D := fun U D i x hi => by
    rw [put_n (hR0.noL (hf.2.1 20 _ _ rfl).2 (by decide) (by decide) (by decide) i)]
    unfold yx
    rw [put_w (yX_inj hf.n20 hy.1) (yX_b hf hi)]
  have b2 : ∀ D, (put (yx σ hx B sx V) L D).2.1 (B 20) 2 = V 41 := fun D => hb V D 2 (by decide)
  have b1 : ∀ D x, (put (yx σ hx B sx (up V 41 x)) L D).2.1 (B 20) 1 = V 40 := fun D x => (hb _ D 1 (by decide)).trans (up_ne (by decide))
  refine Kt.go (Y := MX0_daysGo) (ls := [some (.ref hx), some (.int (nI n))]) (by decide) (Nat.le_of_ble_eq_true rfl) rfl ?_
  first | refine j_aload_n dX0_daysGo_0 rfl ?_ | refine j_aload_nN dX0_daysGo_0 rfl ?_
  refine j_getR dX0_daysGo_1 fl_X0_38 rfl (by first | exact zs _ _ | exact zg _ _ | exact zv _ _ | exact zb _ _ | exact zr _ _ | exact z10 | exact b2 _ | exact b1 _ _ | exact Fa.sh hf | assumption) (by first | exact zs _ _ | exact zg _ _ | exact zv _ _ | exact zb _ _ | exact zr _ _ | exact z10 | exact b2 _ | exact b1 _ _ | exact Fq.f3 hg | assumption) ?_
  refine j_getI dX0_daysGo_4 fl_X0_227 rfl (by first | exact zs _ _ | exact zg _ _ | exact zv _ _ | exact zb _ _ | exact zr _ _ | exact z10 | exact b2 _ | exact b1 _ _ | exact Pv.sh hR | assumption) (by first | exact zs _ _ | exact zg _ _ | exact zv _ _ | exact zb _ _ | exact zr _ _ | exact z10 | exact b2 _ | exact b1 _ _ | exact pg (Pv.li hR 10 6 rfl (by decide)) | assumption) ?_
  refine j_iload_n dX0_daysGo_7 rfl ?_
  first | (with_reducible refine j_gNN ?_; refine j_iaddN dX0_daysGo_8 ?_) | refine j_iadd dX0_daysGo_8 ?_
  refine j_sipush (v := nI 9999) dX0_daysGo_9 (by decide +kernel) ?_
  first | (with_reducible refine j_gNN ?_; refine j_icmp_leN (tgt := 17) dX0_daysGo_12 (by decide) (by omega) (by omega) (fun c_12 => ?_) (fun c_12 => ?_)) | refine j_icmp_le (tgt := 17) dX0_daysGo_12 (by decide) (fun c_12 => ?_) (fun c_12 => ?_)
  · first | refine j_aload_n dX0_daysGo_17 rfl ?_ | refine j_aload_nN dX0_daysGo_17 rfl ?_
    refine j_getR dX0_daysGo_18 fl_X0_76 rfl (by first | exact zs _ _ | exact zg _ _ | exact zv _ _ | exact zb _ _ | exact zr _ _ | exact z10 | exact b2 _ | exact b1 _ _ | exact Fa.sh hf | assumption) (by first | exact zs _ _ | exact zg _ _ | exact zv _ _ | exact zb _ _ | exact zr _ _ | exact z10 | exact b2 _ | exact b1 _ _ | exact Fa.f20 hf | assumption) ?_
    refine j_iconst (v := nI 2) dX0_daysGo_21 (by decide +kernel) ?_
    refine j_dup2 dX0_daysGo_22 rfl rfl ?_
    refine j_iald dX0_daysGo_23 (by first | exact zs _ _ | exact zg _ _ | exact zv _ _ | exact zb _ _ | exact zr _ _ | exact z10 | exact b2 _ | exact b1 _ _ | exact Pe.sl hp | exact Pe.sa hp | exact Pe.sl hq | exact Pe.sa hq | exact Pv.sw hR | exact Pv.sp hR | exact Pv.sd hR | exact Fa.s0 hf | exact Fa.s12 hf | exact Fa.s13 hf | exact Fa.s14 hf | exact Fa.s15 hf | exact Fa.s16 hf | exact Fa.s20 hf | exact Fa.s21 hf | exact Fa.s23 hf | assumption) rfl (by omega) (by decide) (by first | exact zs _ _ | exact zg _ _ | exact zv _ _ | exact zb _ _ | exact zr _ _ | exact z10 | exact b2 _ | exact b1 _ _ | exact pg (Pe.ll hp (by omega)) | exact pg (Pe.lg hp (by omega)) | exact pg (Pe.ll hq (by omega)) | exact pg (Pe.lg hq (by omega)) | assumption) ?_
    first | refine j_aload_n dX0_daysGo_24 rfl ?_ | refine j_aload_nN dX0_daysGo_24 rfl ?_
    refine j_getR dX0_daysGo_25 fl_X0_38 rfl (by first | exact zs _ _ | exact zg _ _ | exact zv _ _ | exact zb _ _ | exact zr _ _ | exact z10 | exact b2 _ | exact b1 _ _ | exact Fa.sh hf | assumption) (by first | exact zs _ _ | exact zg _ _ | exact zv _ _ | exact zb _ _ | exact zr _ _ | exact z10 | exact b2 _ | exact b1 _ _ | exact Fq.f3 hg | assumption) ?_
    refine j_iload_n dX0_daysGo_28 rfl ?_
    refine j_dV1 kl_X0_317 (x_days hR hw (by omega)) dX0_daysGo_29 rfl rfl (by decide) (by first | exact zs _ _ | exact zg _ _ | exact zv _ _ | exact zb _ _ | exact zr _ _ | exact z10 | exact b2 _ | exact b1 _ _ | exact Pv.sh hR | assumption) (Nat.le_of_ble_eq_true rfl) (by first | decide | omega) (by omega) (by omega) ?_
    first | (with_reducible refine j_gNN ?_; refine j_iaddN dX0_daysGo_32 ?_) | refine j_iadd dX0_daysGo_32 ?_
    refine j_iast dX0_daysGo_33 (by first | exact zs _ _ | exact zg _ _ | exact zv _ _ | exact zb _ _ | exact zr _ _ | exact z10 | exact b2 _ | exact b1 _ _ | exact Pe.sl hp | exact Pe.sa hp | exact Pe.sl hq | exact Pe.sa hq | exact Pv.sw hR | exact Pv.sp hR | exact Pv.sd hR | exact Fa.s0 hf | exact Fa.s12 hf | exact Fa.s13 hf | exact Fa.s14 hf | exact Fa.s15 hf | exact Fa.s16 hf | exact Fa.s20 hf | exact Fa.s21 hf | exact Fa.s23 hf | assumption) rfl (by omega) (by decide) ?_
    first | refine j_sg (put_w hL (Pe.ll hp (by omega))) ?_ | refine j_sg (put_w hL (Pe.ll hq (by omega))) ?_ | refine j_sg (put_w hL (Pe.lg hp (by omega))) ?_ | refine j_sg (put_w hL (Pe.lg hq (by omega))) ?_ | skip
    rw [hwb _ _ 2 _ (by decide)]
    first | refine j_aload_n dX0_daysGo_34 rfl ?_ | refine j_aload_nN dX0_daysGo_34 rfl ?_
    refine j_getR dX0_daysGo_35 fl_X0_76 rfl (by first | exact zs _ _ | exact zg _ _ | exact zv _ _ | exact zb _ _ | exact zr _ _ | exact z10 | exact b2 _ | exact b1 _ _ | exact Fa.sh hf | assumption) (by first | exact zs _ _ | exact zg _ _ | exact zv _ _ | exact zb _ _ | exact zr _ _ | exact z10 | exact b2 _ | exact b1 _ _ | exact Fa.f20 hf | assumption) ?_
    refine j_iconst (v := nI 1) dX0_daysGo_38 (by decide +kernel) ?_
    refine j_dup2 dX0_daysGo_39 rfl rfl ?_
    refine j_iald dX0_daysGo_40 (by first | exact zs _ _ | exact zg _ _ | exact zv _ _ | exact zb _ _ | exact zr _ _ | exact z10 | exact b2 _ | exact b1 _ _ | exact Pe.sl hp | exact Pe.sa hp | exact Pe.sl hq | exact Pe.sa hq | exact Pv.sw hR | exact Pv.sp hR | exact Pv.sd hR | exact Fa.s0 hf | exact Fa.s12 hf | exact Fa.s13 hf | exact Fa.s14 hf | exact Fa.s15 hf | exact Fa.s16 hf | exact Fa.s20 hf | exact Fa.s21 hf | exact Fa.s23 hf | assumption) rfl (by omega) (by decide) (by first | exact zs _ _ | exact zg _ _ | exact zv _ _ | exact zb _ _ | exact zr _ _ | exact z10 | exact b2 _ | exact b1 _ _ | exact pg (Pe.ll hp (by omega)) | exact pg (Pe.lg hp (by omega)) | exact pg (Pe.ll hq (by omega)) | exact pg (Pe.lg hq (by omega)) | assumption) ?_
    refine j_iload_n dX0_daysGo_41 rfl ?_
    first | (with_reducible refine j_gNN ?_; refine j_iaddN dX0_daysGo_42 ?_) | refine j_iadd dX0_daysGo_42 ?_
    refine j_iast dX0_daysGo_43 (by first | exact zs _ _ | exact zg _ _ | exact zv _ _ | exact zb _ _ | exact zr _ _ | exact z10 | exact b2 _ | exact b1 _ _ | exact Pe.sl hp | exact Pe.sa hp | exact Pe.sl hq | exact Pe.sa hq | exact Pv.sw hR | exact Pv.sp hR | exact Pv.sd hR | exact Fa.s0 hf | exact Fa.s12 hf | exact Fa.s13 hf | exact Fa.s14 hf | exact Fa.s15 hf | exact Fa.s16 hf | exact Fa.s20 hf | exact Fa.s21 hf | exact Fa.s23 hf | assumption) rfl (by omega) (by decide) ?_
    first | refine j_sg (put_w hL (Pe.ll hp (by omega))) ?_ | refine j_sg (put_w hL (Pe.ll hq (by omega))) ?_ | refine j_sg (put_w hL (Pe.lg hp (by omega))) ?_ | refine j_sg (put_w hL (Pe.lg hq (by omega))) ?_ | skip
    rw [hwb _ _ 1 _ (by decide)]
    refine j_iconst (v := nI 1) dX0_daysGo_44 (by decide +kernel) ?_
    refine j_iret dX0_daysGo_45 ⟨_, rfl, rfl⟩ (by omega) (by omega) ?_
    unfold yDay; rw [if_pos c_12]; exact ⟨rfl, rfl⟩
  · refine j_iconst (v := nI 0) dX0_daysGo_15 (by decide +kernel) ?_
    refine j_iret dX0_daysGo_16 ⟨_, rfl, rfl⟩ (by omega) (by omega) ?_
    unfold yDay; rw [if_neg c_12]; exact ⟨rfl, rfl⟩
end X28s
