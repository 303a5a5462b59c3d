/-! X: GAMES PLAYED -/
set_option maxRecDepth 100000
theorem grow_cg {D E : Nat → Int32} {p : Nat} : ∀ n, n ≤ 8 → (∀ i, pcell p i → D i = E i) → (∀ i, 9 ≤ i → i < 25 → D i = E i) → p < 6 → (∀ i, pcell p i → itr (grStep p) n D i = itr (grStep p) n E i) ∧ ∀ i, 9 ≤ i → i < 25 → itr (grStep p) n D i = itr (grStep p) n E i := by
  intro n
  induction n with
  | zero => intro _ h1 h2 _; exact ⟨h1, h2⟩
  | succ n ih =>
    intro hn h1 h2 hp
    obtain ⟨a1, a2⟩ := ih (by omega) h1 h2 hp
    rw [itr, itr]
    generalize itr (grStep p) n D = X at a1 a2
    generalize itr (grStep p) n E = Y at a1 a2
    have e1 := a1 (43 + p) (by unfold pcell; omega)
    have e2 := a1 (97 + (8 * p + n)) (by unfold pcell; omega)
    have e3 := a1 (49 + (8 * p + n)) (by unfold pcell; omega)
    have e4 := a2 (17 + n) (by omega) (by omega)
    have e5 := a2 (9 + n) (by omega) (by omega)
    have st : ∀ i, X i = Y i → grStep p n X i = grStep p n Y i := by
      intro i hi
      unfold grStep
      rw [e1, e2, e3, e4, e5]
      split
      · split
        · unfold up; rw [hi]
        · unfold up; rw [hi]
      · exact hi
    exact ⟨fun i hi => st i (a1 i hi), fun i hi1 hi2 => st i (a2 i hi1 hi2)⟩
theorem grow_sw {D : Nat → Int32} {W a b : Nat} (hW : W ≤ 8) (ha : a < 6) (hb : b < 6) (hab : a ≠ b) : ∀ i, pcell a i ∨ pcell b i → mGrow (mGrow D W b) W a i = mGrow (mGrow D W a) W b i := by
  intro i hi
  have hwd : ∀ p, p < 6 → ∀ i, 9 ≤ i → i < 25 → mGrow D W p i = D i := fun p hp i h1 h2 => grow_ot hW (by unfold pcell; omega)
  rcases hi with hi | hi
  · rw [grow_ot (p := b) hW (pcell_ne hb ha (Ne.symm hab) hi)]
    exact (grow_cg W hW (fun j hj => grow_ot hW (pcell_ne hb ha (Ne.symm hab) hj)) (hwd b hb) ha).1 i hi
  · rw [grow_ot (p := a) hW (pcell_ne ha hb hab hi)]
    exact ((grow_cg W hW (fun j hj => grow_ot hW (pcell_ne ha hb hab hj)) (hwd a ha) hb).1 i hi).symm
theorem Fa.on {σ : Sg} {hx i : Nat} {B : Nat → Nat} {L : Nat → Nat → Option Nat} {D : Nat → Int32} (h : Fa σ hx B) (hi : i < 4) : (put σ L D).2.2.2 (B 15) i = some (B (40 + i)) := (h.2.2.2 i hi).1.1
theorem Fa.tw {σ : Sg} {hx i : Nat} {B : Nat → Nat} {L : Nat → Nat → Option Nat} {D : Nat → Int32} (h : Fa σ hx B) (hi : i < 4) : (put σ L D).2.2.2 (B 16) i = some (B (70 + i)) := (h.2.2.2 i hi).2.1
theorem Gb.pt {σ : Sg} {hx W p q t : Nat} {B A : Nat → Nat} {C D : Nat → Int32} (h : Gb σ hx B A C W) (hp : p < 6) (hq : q < 6) (ht : t < 4) : Gb (put σ (gL B p q t) D) hx B A C W := by
  have hw := h.wo hp hq ht
  exact ⟨h.1, h.2.1, h.2.2.1, fun k hk => ⟨(h.2.2.2 k hk).1, (h.2.2.2 k hk).2.1, Wo.w1 hw hk, Wo.w2 hw hk⟩⟩
/-- how many steps stand behind x's loop at w -/
def ixw (W w : Nat) : Nat := if w ≤ 8 then min w W else W + 1
def plv (W a b f t : Nat) (C : Nat → Int32) (n : Nat) : Int32 × Option Nat := itr (plStep (fun fi D => (mPlayS W a b f fi D).1) W a b (decide (t % 2 = 0)) C) n (nI 0, none)
theorem plv_s {W a b f t n : Nat} {C : Nat → Int32} : plv W a b f t C (n + 1) = plStep (fun fi D => (mPlayS W a b f fi D).1) W a b (decide (t % 2 = 0)) C n (plv W a b f t C n) := rfl
theorem xmv_1 {W : Nat} {o : Option Nat} (hW : W ≤ 8) (h : ∀ k, o = some k → k ≤ W) : xmv W o = -1 ↔ o = none := by
  cases o with
  | none => exact ⟨fun _ => rfl, fun _ => rfl⟩
  | some k =>
    have := h k rfl
    unfold xmv
    dsimp only
    split
    · exact ⟨fun e => absurd e (nI_m1 (by omega)), fun e => by cases e⟩
    · exact ⟨fun e => absurd e (nI_m1 (by omega)), fun e => by cases e⟩
section X18s
variable {g : Gx} {l : Launch} {A B : Nat → Nat} {W a b hx turns : Nat}
theorem x_plays (hB : Gi B) (ha : a < 6) (hb : b < 6) (hab : a ≠ b) (htu : turns ≤ 3) : ∀ (f t : Nat), t + f = turns → ∀ {σ : Sg} {C : Nat → Int32}, Gb σ hx B A C W → G2 C W a b → Kt g l (4 + f) MX0_plays [.ref hx, .int (nI t), .int (nI turns)] (put σ (gL B a b t) C) 0 0 (fun r τ => ∃ s, s = mPlayS W a b f (decide (t % 2 = 0)) C ∧ r = some (Value.int s.1) ∧ Gq hx B t τ (put σ (gL B a b t) C) ∧ (f ≠ 0 → τ.2.1 hx 17 = xmv W s.2)) (fun _ _ _ => False) := by
  intro f
  induction f with
  | zero =>
    intro t ht σ C hG h2
    have e : t = turns := by omega
    subst e
    have hW8 := h2.1.1
    have hL := gL_inj hB (show t < 4 by omega) ha hb hab
    have hf0 := hG.1
    have hp := gL_p (p := a) (q := b) hB (show t < 4 by omega) hf0
    have hq := gL_q (p := a) (q := b) hB (show t < 4 by omega) hf0
    have hlx : gL B a b t hx 17 = none := by
      cases e : gL B a b t hx 17 with
      | none => rfl
      | some i =>
        obtain ⟨-, x, h1, h3⟩ := gL_c ha hb e
        have := hf0.1
        rw [h3] at this
        rcases gad_sh hf0 (x := x) (by unfold gi; omega) with z | z <;> rw [z] at this <;> cases this
    have hf : Fa (sI σ hx 17 (-1)) hx B := hf0
    have hp2 : Pe (gL B a b t) (sI σ hx 17 (-1)) (B (40 + t)) (B (50 + t)) (B (60 + t)) a := hp
    have hq2 : Pe (gL B a b t) (sI σ hx 17 (-1)) (B (70 + t)) (B (80 + t)) (B (90 + t)) b := hq
    refine Kt.go (Y := MX0_plays) (ls := [some (.ref hx), some (.int (nI t)), some (.int (nI t)), none, none, none, none, none, none]) (by decide) (Nat.le_of_ble_eq_true rfl) rfl ?_
    first | refine j_aload_n dX0_plays_0 rfl ?_ | refine j_aload_nN dX0_plays_0 rfl ?_
    refine j_iconst (v := -1) dX0_plays_1 (by decide +kernel) ?_
    refine j_putI dX0_plays_2 fl_X0_435 rfl (by first | exact Fa.on hf (by omega) | exact Fa.tw hf (by omega) | exact Fa.sh hf0 | exact Pe.sh hp2 | exact Pe.sh hq2 | exact Fa.sh hf | assumption) rfl rfl rfl ?_
    rw [put_n hlx]
    refine j_iload_n dX0_plays_5 rfl ?_
    refine j_iload_n dX0_plays_6 rfl ?_
    first | (with_reducible refine j_gNN ?_; refine j_icmp_neN (tgt := 30) dX0_plays_7 (by decide) (by omega) (by omega) (fun c_7 => ?_) (fun c_7 => ?_)) | refine j_icmp_ne (tgt := 30) dX0_plays_7 (by decide) (fun c_7 => ?_) (fun c_7 => ?_)
    · exact absurd rfl c_7
    · first | refine j_aload_n dX0_plays_10 rfl ?_ | refine j_aload_nN dX0_plays_10 rfl ?_
      refine j_getR dX0_plays_11 fl_X0_73 rfl (by first | exact Fa.on hf (by omega) | exact Fa.tw hf (by omega) | exact Fa.sh hf0 | exact Pe.sh hp2 | exact Pe.sh hq2 | exact Fa.sh hf | assumption) (by first | exact Fa.on hf (by omega) | exact Fa.tw hf (by omega) | exact Fa.sh hf0 | exact Pe.sh hp2 | exact Pe.sh hq2 | exact Fa.f16 hf | assumption) ?_
      refine j_iload_n dX0_plays_14 rfl ?_
      refine j_aald (t := 27) dX0_plays_15 (fun _ => rfl) (by decide) (by first | exact Fa.on hf (by omega) | exact Fa.tw hf (by omega) | exact Fa.sh hf0 | exact Pe.sh hp2 | exact Pe.sh hq2 | exact Pe.sl hp | exact Pe.sa hp | exact Pe.sl hq | exact Pe.sa hq | exact Fa.s0 hf | exact Fa.s12 hf | exact Fa.s13 hf | exact Fa.s14 hf | exact Fa.s15 hf | exact Fa.s16 hf | exact Fa.s20 hf | exact Fa.s21 hf | exact Fa.s23 hf | assumption) rfl (by omega) (by decide) (by first | exact Fa.on hf (by omega) | exact Fa.tw hf (by omega) | exact Fa.sh hf0 | exact Pe.sh hp2 | exact Pe.sh hq2 | exact Fa.tr hf (by omega) | assumption) ?_
      refine j_dV1 kl_X0_276 (x_hair hL hq2 hW8 (h2.2.2.1.kw hW8)) dX0_plays_16 rfl rfl (by decide) (by first | exact Fa.on hf (by omega) | exact Fa.tw hf (by omega) | exact Fa.sh hf0 | exact Pe.sh hp2 | exact Pe.sh hq2 | exact Pe.sh hp | exact Pe.sh hq | assumption) (Nat.le_of_ble_eq_true rfl) (by first | decide | omega) (by omega) (by omega) ?_
      first | refine j_aload_n dX0_plays_19 rfl ?_ | refine j_aload_nN dX0_plays_19 rfl ?_
      refine j_getR dX0_plays_20 fl_X0_69 rfl (by first | exact Fa.on hf (by omega) | exact Fa.tw hf (by omega) | exact Fa.sh hf0 | exact Pe.sh hp2 | exact Pe.sh hq2 | exact Fa.sh hf | assumption) (by first | exact Fa.on hf (by omega) | exact Fa.tw hf (by omega) | exact Fa.sh hf0 | exact Pe.sh hp2 | exact Pe.sh hq2 | exact Fa.f15 hf | assumption) ?_
      refine j_iload_n dX0_plays_23 rfl ?_
      refine j_aald (t := 27) dX0_plays_24 (fun _ => rfl) (by decide) (by first | exact Fa.on hf (by omega) | exact Fa.tw hf (by omega) | exact Fa.sh hf0 | exact Pe.sh hp2 | exact Pe.sh hq2 | exact Pe.sl hp | exact Pe.sa hp | exact Pe.sl hq | exact Pe.sa hq | exact Fa.s0 hf | exact Fa.s12 hf | exact Fa.s13 hf | exact Fa.s14 hf | exact Fa.s15 hf | exact Fa.s16 hf | exact Fa.s20 hf | exact Fa.s21 hf | exact Fa.s23 hf | assumption) rfl (by omega) (by decide) (by first | exact Fa.on hf (by omega) | exact Fa.tw hf (by omega) | exact Fa.sh hf0 | exact Pe.sh hp2 | exact Pe.sh hq2 | exact Fa.tr hf (by omega) | assumption) ?_
      refine j_dV1 kl_X0_276 (x_hair hL hp2 hW8 (h2.2.1.kw hW8)) dX0_plays_25 rfl rfl (by decide) (by first | exact Fa.on hf (by omega) | exact Fa.tw hf (by omega) | exact Fa.sh hf0 | exact Pe.sh hp2 | exact Pe.sh hq2 | exact Pe.sh hp | exact Pe.sh hq | assumption) (Nat.le_of_ble_eq_true rfl) (by first | decide | omega) (by omega) (by omega) ?_
      refine j_isub dX0_plays_28 ?_
      refine j_iret dX0_plays_29 ⟨_, rfl, rfl⟩ (by omega) (by omega) ?_
      exact ⟨_, rfl, rfl, by rw [← put_n hlx]; exact Gq.i17, fun q => absurd rfl q⟩
  | succ f ih =>
    intro t ht σ C hG h2
    have hW8 := h2.1.1
    have ht3 : t < 3 := by omega
    have hpar := par4 t (by omega)
    have hL := gL_inj hB (show t + 1 < 4 by omega) ha hb hab
    have hf0 := hG.1
    have hsx : σ.1 hx = some (0, 0) := hf0.1
    have hdis : ∀ c, (∃ k, gL B a b t c k ≠ none) → ∀ k, gL B a b (t + 1) c k = none := by
      rintro c ⟨k, hk⟩ k2
      cases e : gL B a b (t + 1) c k2 with
      | none => rfl
      | some i =>
        cases e2 : gL B a b t c k with
        | none => exact absurd e2 hk
        | some j =>
          obtain ⟨-, x, x1, x2⟩ := gL_c ha hb e
          obtain ⟨-, y, y1, y2⟩ := gL_c ha hb e2
          have := hB x y (by unfold gi; omega) (by unfold gi; omega) (x2.symm.trans y2)
          omega
    have hs2 : ∀ n k, (plv W a b f t C n).2 = some k → k < n := fun n k => plS_lt n k
    have hparf : decide ((t + 1) % 2 = 0) = !decide (t % 2 = 0) := by
      by_cases z : t % 2 = 0
      · rw [decide_eq_true z, decide_eq_false (by omega)]; rfl
      · rw [decide_eq_false z, decide_eq_true (by omega)]; rfl
    have hfin : mPlayS W a b (f + 1) (decide (t % 2 = 0)) C = plv W a b f t C (W + 1) := rfl
    refine Kt.go (Y := MX0_plays) (ls := [some (.ref hx), some (.int (nI t)), some (.int (nI turns)), none, none, none, none, none, none]) (by decide) (Nat.le_of_ble_eq_true rfl) rfl ?_
    have key : ∀ w, w ≤ 9 → ∀ s ρ x6 x7 x8, s = plv W a b f t C (ixw W w) → Gq hx B t ρ (put σ (gL B a b t) C) → Tj g l (4 + (f + 1)) MX0_plays [.ref hx, .int (nI t), .int (nI turns)] 0 0 (fun r τ => ∃ s, s = mPlayS W a b (f + 1) (decide (t % 2 = 0)) C ∧ r = some (Value.int s.1) ∧ Gq hx B t τ (put σ (gL B a b t) C) ∧ (f + 1 ≠ 0 → τ.2.1 hx 17 = xmv W s.2)) (fun _ _ _ => False) 0 0 38 [some (.ref hx), some (.int (nI t)), some (.int (nI turns)), some (.int s.1), some (.int (xmv W s.2)), some (.int (nI w)), x6, x7, x8] [] ρ := by
      refine loop_up fun w hw ih2 => ?_
      intro s ρ x6 x7 x8 hsv hq0
      by_cases hw9 : w = 9
      · subst hw9
        have hsx' : ρ.1 hx = some (0, 0) := by rw [hq0.1]; exact hsx
        refine j_iload dX0_plays_38 rfl ?_
        refine j_bipush (v := nI 8) dX0_plays_40 (by decide +kernel) ?_
        first | (with_reducible refine j_gNN ?_; refine j_icmp_gtN (tgt := 251) dX0_plays_42 (by decide) (by omega) (by omega) (fun c_42 => ?_) (fun c_42 => ?_)) | refine j_icmp_gt (tgt := 251) dX0_plays_42 (by decide) (fun c_42 => ?_) (fun c_42 => ?_)
        · first | refine j_aload_n dX0_plays_251 rfl ?_ | refine j_aload_nN dX0_plays_251 rfl ?_
          refine j_iload dX0_plays_252 rfl ?_
          refine j_putI dX0_plays_254 fl_X0_435 rfl (by first | exact Fa.sh hf | assumption) rfl rfl rfl ?_
          refine j_iload_n dX0_plays_257 rfl ?_
          refine j_iret dX0_plays_258 ⟨_, rfl, rfl⟩ (by omega) (by omega) ?_
          refine ⟨_, rfl, ?_, Gq.i17.tr hq0, fun _ => ?_⟩
          · rw [hfin, hsv]; rfl
          · rw [hfin, hsv, sI_at, if_pos ⟨rfl, rfl⟩]; rfl
        · exact absurd c_42 (by decide)
      · have hw8 : w ≤ 8 := by omega
        have hGτ : Gb ρ hx B A C W := (hG.pt (D := C) ha hb (show t < 4 by omega)).cg hq0
        have hfτ := hGτ.1
        have hτ : put ρ (gL B a b t) C = ρ := put_id fun c k i h => by
          obtain ⟨-, x, x1, x2⟩ := gL_c ha hb h
          rw [hq0.2.2 c k (fun e => by
            have := hsx
            rw [← e.1, x2] at this
            rcases gad_sh hf0 (x := x) (by unfold gi; omega) with z | z <;> rw [z] at this <;> cases this) (fun y y1 y2 e => by
            have := hB x y (by unfold gi; omega) y1 (x2.symm.trans e)
            omega)]
          exact pg h
        have hP1 : Ps (gL B a b (t + 1)) ρ (B (40 + t)) (B (50 + t)) (B (60 + t)) a C := by
          have := (gL_p (p := a) (q := b) hB (show t < 4 by omega) hfτ).ps (S := C) hdis
          rwa [hτ] at this
        have hP2 : Ps (gL B a b (t + 1)) ρ (B (70 + t)) (B (80 + t)) (B (90 + t)) b C := by
          have := (gL_q (p := a) (q := b) hB (show t < 4 by omega) hfτ).ps (S := C) hdis
          rwa [hτ] at this
        have hp := gL_p (p := a) (q := b) hB (show t + 1 < 4 by omega) hfτ
        have hq := gL_q (p := a) (q := b) hB (show t + 1 < 4 by omega) hfτ
        obtain ⟨D0, hD0⟩ := put_ex hL ρ
        have eD : put ρ (gL B a b (t + 1)) (tkP b C (tkP a C D0)) = put ρ (gL B a b (t + 1)) C := put_cg fun c k i h => by
          obtain ⟨h1, -⟩ := gL_c ha hb h
          rcases h1 with h1 | h1
          · rw [tkP_n (pcell_ne hb ha (Ne.symm hab) h1), tkP_y h1]
          · rw [tkP_y h1]
        have hWo := hGτ.wo (p := a) (q := b) ha hb (show t + 1 < 4 by omega)
        -- a step that is done: what comes behind it
        have done_ : ∀ x6 x7 x8 s', s' = plv W a b f t C (ixw W (w + 1)) → ∀ τ', Gq hx B t τ' (put σ (gL B a b t) C) → Tj g l (4 + (f + 1)) MX0_plays [.ref hx, .int (nI t), .int (nI turns)] 0 0 (fun r τ => ∃ s, s = mPlayS W a b (f + 1) (decide (t % 2 = 0)) C ∧ r = some (Value.int s.1) ∧ Gq hx B t τ (put σ (gL B a b t) C) ∧ (f + 1 ≠ 0 → τ.2.1 hx 17 = xmv W s.2)) (fun _ _ _ => False) 0 0 245 [some (.ref hx), some (.int (nI t)), some (.int (nI turns)), some (.int s'.1), some (.int (xmv W s'.2)), some (.int (nI w)), x6, x7, x8] [] τ' := by
          intro x6 x7 x8 s' hsv' τ' hq'
          first | refine j_iincN dX0_plays_245 rfl (by decide) ?_ | refine j_iinc dX0_plays_245 rfl rfl (by decide) ?_
          refine j_goto (tgt := 38) dX0_plays_248 (by decide) ?_
          exact ih2 (by omega) s' τ' _ _ _ hsv' hq'
        -- from the move on
        have move : ∀ k, k = (if w = 8 then W else w) → ∀ wh oo, (wh = a ∧ oo = b ∧ t % 2 = 0) ∨ (wh = b ∧ oo = a ∧ ¬ t % 2 = 0) → (k = W ∨ (k < W ∧ mSaysB C wh k oo = true)) → (w = 8 ∨ w < W) → ∀ bw lw aw bo lo ao, Pe (gL B a b (t + 1)) ρ bw lw aw wh → Pe (gL B a b (t + 1)) ρ bo lo ao oo → ∀ x8, Tj g l (4 + (f + 1)) MX0_plays [.ref hx, .int (nI t), .int (nI turns)] 0 0 (fun r τ => ∃ s, s = mPlayS W a b (f + 1) (decide (t % 2 = 0)) C ∧ r = some (Value.int s.1) ∧ Gq hx B t τ (put σ (gL B a b t) C) ∧ (f + 1 ≠ 0 → τ.2.1 hx 17 = xmv W s.2)) (fun _ _ _ => False) 0 0 174 [some (.ref hx), some (.int (nI t)), some (.int (nI turns)), some (.int s.1), some (.int (xmv W s.2)), some (.int (nI w)), some (.ref bw), some (.ref bo), x8] [] (put ρ (gL B a b (t + 1)) (plD C W wh oo k)) := by
          intro k hk wh oo hwo hkk hww bw lw aw bo lo ao hp hq x8
          have hwo' : (wh = a ∧ oo = b) ∨ (wh = b ∧ oo = a) := by omega
          obtain ⟨g1, g2, g3, g4, g5⟩ := h2.nx ha hb hab hwo' hkk
          have hwh6 : wh < 6 := by omega
          have hoo6 : oo < 6 := by omega
          have hne : wh ≠ oo := by omega
          have pw : Pp (plD C W wh oo k) W wh := by rcases hwo' with ⟨rfl, -⟩ | ⟨rfl, -⟩ <;> assumption
          have po : Pp (plD C W wh oo k) W oo := by rcases hwo' with ⟨-, rfl⟩ | ⟨-, rfl⟩ <;> assumption
          have fr2 := mGrow_fr (C := plD C W wh oo k) hwh6 W hW8
          have eG : put ρ (gL B a b (t + 1)) (mGrow (mGrow (plD C W wh oo k) W wh) W oo) = put ρ (gL B a b (t + 1)) (mGrow (mGrow (plD C W wh oo k) W a) W b) := by
            rcases hwo' with ⟨e1, e2⟩ | ⟨e1, e2⟩
            · rw [e1, e2]
            · rw [e1, e2]
              exact put_cg fun c k' i h => grow_sw hW8 ha hb hab i (gL_c ha hb h).1
          have hW1 := hWo.fr g5 hW8
          have hGn : Gb ρ hx B A (mGrow (mGrow (plD C W wh oo k) W a) W b) W := by
            have f2 := mGrow_fr (C := plD C W wh oo k) ha W hW8
            have f3 := mGrow_fr (C := mGrow (plD C W wh oo k) W a) hb W hW8
            exact hGτ.fr (g5.tr (f2.tr f3)) hW8
          have hstep : plv W a b f t C (ixw W (w + 1)) = plPick (decide (t % 2 = 0)) (mPlayS W a b f (!decide (t % 2 = 0)) (mGrow (mGrow (plD C W wh oo k) W a) W b)).1 k s := by
            have e1 : ixw W (w + 1) = k + 1 := by
              unfold ixw
              rw [hk]
              rcases hww with e | e
              · subst e; rw [if_neg (by omega), if_pos rfl]
              · rw [if_pos (by omega), if_neg (by omega)]; omega
            have e2 : ixw W w = k := by
              unfold ixw
              rw [hk]
              rcases hww with e | e
              · subst e; rw [if_pos (by omega), if_pos rfl]; omega
              · rw [if_pos (by omega), if_neg (by omega)]; omega
            rw [e2] at hsv
            rw [e1]
            rw [plv_s, ← hsv]
            have ew : (if decide (t % 2 = 0) = true then a else b) = wh := by rcases hwo with ⟨e, -, z⟩ | ⟨e, -, z⟩ <;> simp [e, z]
            have eo : (if decide (t % 2 = 0) = true then b else a) = oo := by rcases hwo with ⟨-, e, z⟩ | ⟨-, e, z⟩ <;> simp [e, z]
            unfold plStep
            rw [ew, eo, if_pos (hkk.elim Or.inl (fun z => Or.inr z.2))]
          have hkx : xmv W (some k) = nI w := by
            unfold xmv
            dsimp only
            rw [hk]
            rcases hww with e | e
            · subst e; rw [if_pos (show (8 : Nat) = 8 from rfl), if_pos rfl]
            · rw [if_neg (show ¬ w = 8 by omega), if_neg (show ¬ w = W by omega)]
          have hx1 : xmv W s.2 = -1 ↔ s.2 = none := xmv_1 hW8 fun k' hk' => by
            rw [hsv] at hk'
            have := hs2 _ k' hk'
            unfold ixw at this
            split at this <;> omega
          have hf := hfτ
          have rd0 : ∀ D, (put ρ (gL B a b (t + 1)) D).2.2.2 (A 0) 0 = some (A 1) := fun D => hGτ.2.2.1.2.1
          have rs0 : ∀ D, (put ρ (gL B a b (t + 1)) D).1 (A 0) = some (6, 0) := fun D => hGτ.2.2.1.1
          have hg := hGτ.2.1
          first | refine j_aload dX0_plays_174 rfl ?_ | refine j_aloadN dX0_plays_174 rfl ?_
          first | refine j_aload_n dX0_plays_176 rfl ?_ | refine j_aload_nN dX0_plays_176 rfl ?_
          refine j_getR dX0_plays_177 fl_X0_38 rfl (by first | exact rs0 _ | exact rd0 _ | exact Fa.sh hf | assumption) (by first | exact rs0 _ | exact rd0 _ | exact Fq.f3 hg | assumption) ?_
          refine j_getR dX0_plays_180 fl_X0_245 rfl (by first | exact rs0 _ | exact rd0 _ | assumption) (by first | exact rs0 _ | exact rd0 _ | assumption) ?_
          refine j_dV0 kl_X0_452 (x_grows hL hp hW1 g4 hwh6 pw) dX0_plays_183 rfl rfl (by decide) (by first | exact rs0 _ | exact rd0 _ | exact Pe.sh hp | exact Pe.sh hq | assumption) (Nat.le_of_ble_eq_true rfl) (by first | decide | omega) (by omega) (by omega) ?_
          first | refine j_aload dX0_plays_186 rfl ?_ | refine j_aloadN dX0_plays_186 rfl ?_
          first | refine j_aload_n dX0_plays_188 rfl ?_ | refine j_aload_nN dX0_plays_188 rfl ?_
          refine j_getR dX0_plays_189 fl_X0_38 rfl (by first | exact rs0 _ | exact rd0 _ | exact Fa.sh hf | assumption) (by first | exact rs0 _ | exact rd0 _ | exact Fq.f3 hg | assumption) ?_
          refine j_getR dX0_plays_192 fl_X0_245 rfl (by first | exact rs0 _ | exact rd0 _ | assumption) (by first | exact rs0 _ | exact rd0 _ | assumption) ?_
          refine j_dV0 kl_X0_452 (x_grows hL hq (hW1.fr fr2 hW8) (g4.fr fr2) hoo6 (grow_pp g4 hwh6 hoo6 po)) dX0_plays_195 rfl rfl (by decide) (by first | exact rs0 _ | exact rd0 _ | exact Pe.sh hp | exact Pe.sh hq | assumption) (Nat.le_of_ble_eq_true rfl) (by first | decide | omega) (by omega) (by omega) ?_
          refine j_sg eG ?_
          first | refine j_aload_n dX0_plays_198 rfl ?_ | refine j_aload_nN dX0_plays_198 rfl ?_
          refine j_iload_n dX0_plays_199 rfl ?_
          refine j_iconst (v := nI 1) dX0_plays_200 (by decide +kernel) ?_
          first | (with_reducible refine j_gNN ?_; refine j_iaddN dX0_plays_201 ?_) | refine j_iadd dX0_plays_201 ?_
          refine j_iload_n dX0_plays_202 rfl ?_
          refine j_callV kl_X0_455 (ih (t + 1) (by omega) hGn g1) dX0_plays_203 rfl rfl (by decide) (by first | exact rs0 _ | exact rd0 _ | exact Fa.sh hf | assumption) (Nat.le_of_ble_eq_true rfl) (by first | decide | omega) (by omega) (by omega) (fun v τ hq => ?_) (fun _ _ _ hq => hq.elim)
          obtain ⟨s1, hs1, rfl, hq1, -⟩ := hq
          rw [hparf] at hs1
          refine j_eq (st' := [.int s1.1]) rfl rfl rfl ?_
          have hq2 : Gq hx B t τ (put σ (gL B a b t) C) := (hq1.up (by omega)).tr ((Gq.put ha hb ht3).tr hq0)
          rw [← hs1] at hstep
          refine j_istore dX0_plays_206 (by decide) ?_
          refine j_iload dX0_plays_208 rfl ?_
          refine j_iconst (v := -1) dX0_plays_210 (by decide +kernel) ?_
          first | (with_reducible refine j_gNN ?_; refine j_icmp_eqN (tgt := 238) dX0_plays_211 (by decide) (by omega) (by omega) (fun c_211 => ?_) (fun c_211 => ?_)) | refine j_icmp_eq (tgt := 238) dX0_plays_211 (by decide) (fun c_211 => ?_) (fun c_211 => ?_)
          · refine j_iload dX0_plays_238 rfl ?_
            refine j_istore_n dX0_plays_240 (by decide) ?_
            refine j_iload dX0_plays_241 rfl ?_
            refine j_istore dX0_plays_243 (by decide) ?_
            skip
            have keep : s.2 ≠ none → (if decide (t % 2 = 0) = true then s1.1 ≤ s.1 else s.1 ≤ s1.1) → plPick (decide (t % 2 = 0)) s1.1 k s = s := fun z1 z2 => by unfold plPick; rw [if_pos ⟨z1, z2⟩]
            have take : (s.2 = none ∨ ¬ (if decide (t % 2 = 0) = true then s1.1 ≤ s.1 else s.1 ≤ s1.1)) → plPick (decide (t % 2 = 0)) s1.1 k s = (s1.1, some k) := fun z => by
              unfold plPick
              rw [if_neg]
              rintro ⟨y1, y2⟩
              rcases z with z | z
              · exact y1 z
              · exact z y2
            have fin1 : plPick (decide (t % 2 = 0)) s1.1 k s = s → Tj g l (4 + (f + 1)) MX0_plays [.ref hx, .int (nI t), .int (nI turns)] 0 0 (fun r τ => ∃ s, s = mPlayS W a b (f + 1) (decide (t % 2 = 0)) C ∧ r = some (Value.int s.1) ∧ Gq hx B t τ (put σ (gL B a b t) C) ∧ (f + 1 ≠ 0 → τ.2.1 hx 17 = xmv W s.2)) (fun _ _ _ => False) 0 0 245 [some (.ref hx), some (.int (nI t)), some (.int (nI turns)), some (.int s.1), some (.int (xmv W s.2)), some (.int (nI w)), some (.ref bw), some (.ref bo), some (.int s1.1)] [] τ := fun z => done_ _ _ _ s (by rw [hstep, z]) _ hq2
            have fin2 : plPick (decide (t % 2 = 0)) s1.1 k s = (s1.1, some k) → Tj g l (4 + (f + 1)) MX0_plays [.ref hx, .int (nI t), .int (nI turns)] 0 0 (fun r τ => ∃ s, s = mPlayS W a b (f + 1) (decide (t % 2 = 0)) C ∧ r = some (Value.int s.1) ∧ Gq hx B t τ (put σ (gL B a b t) C) ∧ (f + 1 ≠ 0 → τ.2.1 hx 17 = xmv W s.2)) (fun _ _ _ => False) 0 0 245 [some (.ref hx), some (.int (nI t)), some (.int (nI turns)), some (.int s1.1), some (.int (nI w)), some (.int (nI w)), some (.ref bw), some (.ref bo), some (.int s1.1)] [] τ := fun z => by
              have y := done_ (some (.ref bw)) (some (.ref bo)) (some (.int s1.1)) (s1.1, some k) (by rw [hstep, z]) τ hq2
              rw [hkx] at y
              exact y
            first
            | (have z : xmv W s.2 = -1 := c_211
               exact fin2 (take (Or.inl (hx1.mp z))))
            | (have z : nI t - nI t / nI 2 * nI 2 = 0 := c_217
               have z2 := hpar.mp z
               have z3 : s.2 ≠ none := fun e => c_211 (hx1.mpr e)
               first
               | (have y : s.1 < s1.1 := c_223
                  exact fin2 (take (Or.inr (by rw [if_pos (decide_eq_true z2)]; exact Int32.not_le.mpr y))))
               | (have y : ¬ s.1 < s1.1 := c_223
                  exact fin1 (keep z3 (by rw [if_pos (decide_eq_true z2)]; exact Int32.not_lt.mp y))))
            | (have z : ¬ nI t - nI t / nI 2 * nI 2 = 0 := c_217
               have z2 : ¬ t % 2 = 0 := fun e => z (hpar.mpr e)
               have z3 : s.2 ≠ none := fun e => c_211 (hx1.mpr e)
               have z4 : ¬ decide (t % 2 = 0) = true := fun e => z2 (of_decide_eq_true e)
               first
               | (have y : s1.1 < s.1 := c_232
                  exact fin2 (take (Or.inr (by rw [if_neg z4]; exact Int32.not_le.mpr y))))
               | (have y : ¬ s1.1 < s.1 := c_232
                  exact fin1 (keep z3 (by rw [if_neg z4]; exact Int32.not_lt.mp y))))
          · refine j_iload_n dX0_plays_214 rfl ?_
            refine j_iconst (v := nI 2) dX0_plays_215 (by decide +kernel) ?_
            refine j_irem dX0_plays_216 (by decide) ?_
            first | (with_reducible refine j_gB ?_; refine j_if_neB (tgt := 229) dX0_plays_217 (by decide) (fun c_217 => ?_) (fun c_217 => ?_)) | (with_reducible refine j_gC ?_; refine j_if_neC (tgt := 229) dX0_plays_217 (by decide) (fun c_217 => ?_) (fun c_217 => ?_)) | (with_reducible refine j_gN ?_; refine j_if_neN (tgt := 229) dX0_plays_217 (by decide) (by omega) (fun c_217 => ?_) (fun c_217 => ?_)) | refine j_if_ne (tgt := 229) dX0_plays_217 (by decide) (fun c_217 => ?_) (fun c_217 => ?_)
            · refine j_iload dX0_plays_229 rfl ?_
              refine j_iload_n dX0_plays_231 rfl ?_
              first | (with_reducible refine j_gNN ?_; refine j_icmp_ltN (tgt := 238) dX0_plays_232 (by decide) (by omega) (by omega) (fun c_232 => ?_) (fun c_232 => ?_)) | refine j_icmp_lt (tgt := 238) dX0_plays_232 (by decide) (fun c_232 => ?_) (fun c_232 => ?_)
              · refine j_iload dX0_plays_238 rfl ?_
                refine j_istore_n dX0_plays_240 (by decide) ?_
                refine j_iload dX0_plays_241 rfl ?_
                refine j_istore dX0_plays_243 (by decide) ?_
                skip
                have keep : s.2 ≠ none → (if decide (t % 2 = 0) = true then s1.1 ≤ s.1 else s.1 ≤ s1.1) → plPick (decide (t % 2 = 0)) s1.1 k s = s := fun z1 z2 => by unfold plPick; rw [if_pos ⟨z1, z2⟩]
                have take : (s.2 = none ∨ ¬ (if decide (t % 2 = 0) = true then s1.1 ≤ s.1 else s.1 ≤ s1.1)) → plPick (decide (t % 2 = 0)) s1.1 k s = (s1.1, some k) := fun z => by
                  unfold plPick
                  rw [if_neg]
                  rintro ⟨y1, y2⟩
                  rcases z with z | z
                  · exact y1 z
                  · exact z y2
                have fin1 : plPick (decide (t % 2 = 0)) s1.1 k s = s → Tj g l (4 + (f + 1)) MX0_plays [.ref hx, .int (nI t), .int (nI turns)] 0 0 (fun r τ => ∃ s, s = mPlayS W a b (f + 1) (decide (t % 2 = 0)) C ∧ r = some (Value.int s.1) ∧ Gq hx B t τ (put σ (gL B a b t) C) ∧ (f + 1 ≠ 0 → τ.2.1 hx 17 = xmv W s.2)) (fun _ _ _ => False) 0 0 245 [some (.ref hx), some (.int (nI t)), some (.int (nI turns)), some (.int s.1), some (.int (xmv W s.2)), some (.int (nI w)), some (.ref bw), some (.ref bo), some (.int s1.1)] [] τ := fun z => done_ _ _ _ s (by rw [hstep, z]) _ hq2
                have fin2 : plPick (decide (t % 2 = 0)) s1.1 k s = (s1.1, some k) → Tj g l (4 + (f + 1)) MX0_plays [.ref hx, .int (nI t), .int (nI turns)] 0 0 (fun r τ => ∃ s, s = mPlayS W a b (f + 1) (decide (t % 2 = 0)) C ∧ r = some (Value.int s.1) ∧ Gq hx B t τ (put σ (gL B a b t) C) ∧ (f + 1 ≠ 0 → τ.2.1 hx 17 = xmv W s.2)) (fun _ _ _ => False) 0 0 245 [some (.ref hx), some (.int (nI t)), some (.int (nI turns)), some (.int s1.1), some (.int (nI w)), some (.int (nI w)), some (.ref bw), some (.ref bo), some (.int s1.1)] [] τ := fun z => by
                  have y := done_ (some (.ref bw)) (some (.ref bo)) (some (.int s1.1)) (s1.1, some k) (by rw [hstep, z]) τ hq2
                  rw [hkx] at y
                  exact y
                first
                | (have z : xmv W s.2 = -1 := c_211
                   exact fin2 (take (Or.inl (hx1.mp z))))
                | (have z : nI t - nI t / nI 2 * nI 2 = 0 := c_217
                   have z2 := hpar.mp z
                   have z3 : s.2 ≠ none := fun e => c_211 (hx1.mpr e)
                   first
                   | (have y : s.1 < s1.1 := c_223
                      exact fin2 (take (Or.inr (by rw [if_pos (decide_eq_true z2)]; exact Int32.not_le.mpr y))))
                   | (have y : ¬ s.1 < s1.1 := c_223
                      exact fin1 (keep z3 (by rw [if_pos (decide_eq_true z2)]; exact Int32.not_lt.mp y))))
                | (have z : ¬ nI t - nI t / nI 2 * nI 2 = 0 := c_217
                   have z2 : ¬ t % 2 = 0 := fun e => z (hpar.mpr e)
                   have z3 : s.2 ≠ none := fun e => c_211 (hx1.mpr e)
                   have z4 : ¬ decide (t % 2 = 0) = true := fun e => z2 (of_decide_eq_true e)
                   first
                   | (have y : s1.1 < s.1 := c_232
                      exact fin2 (take (Or.inr (by rw [if_neg z4]; exact Int32.not_le.mpr y))))
                   | (have y : ¬ s1.1 < s.1 := c_232
                      exact fin1 (keep z3 (by rw [if_neg z4]; exact Int32.not_lt.mp y))))
              · refine j_goto (tgt := 245) dX0_plays_235 (by decide) ?_
                skip
                have keep : s.2 ≠ none → (if decide (t % 2 = 0) = true then s1.1 ≤ s.1 else s.1 ≤ s1.1) → plPick (decide (t % 2 = 0)) s1.1 k s = s := fun z1 z2 => by unfold plPick; rw [if_pos ⟨z1, z2⟩]
                have take : (s.2 = none ∨ ¬ (if decide (t % 2 = 0) = true then s1.1 ≤ s.1 else s.1 ≤ s1.1)) → plPick (decide (t % 2 = 0)) s1.1 k s = (s1.1, some k) := fun z => by
                  unfold plPick
                  rw [if_neg]
                  rintro ⟨y1, y2⟩
                  rcases z with z | z
                  · exact y1 z
                  · exact z y2
                have fin1 : plPick (decide (t % 2 = 0)) s1.1 k s = s → Tj g l (4 + (f + 1)) MX0_plays [.ref hx, .int (nI t), .int (nI turns)] 0 0 (fun r τ => ∃ s, s = mPlayS W a b (f + 1) (decide (t % 2 = 0)) C ∧ r = some (Value.int s.1) ∧ Gq hx B t τ (put σ (gL B a b t) C) ∧ (f + 1 ≠ 0 → τ.2.1 hx 17 = xmv W s.2)) (fun _ _ _ => False) 0 0 245 [some (.ref hx), some (.int (nI t)), some (.int (nI turns)), some (.int s.1), some (.int (xmv W s.2)), some (.int (nI w)), some (.ref bw), some (.ref bo), some (.int s1.1)] [] τ := fun z => done_ _ _ _ s (by rw [hstep, z]) _ hq2
                have fin2 : plPick (decide (t % 2 = 0)) s1.1 k s = (s1.1, some k) → Tj g l (4 + (f + 1)) MX0_plays [.ref hx, .int (nI t), .int (nI turns)] 0 0 (fun r τ => ∃ s, s = mPlayS W a b (f + 1) (decide (t % 2 = 0)) C ∧ r = some (Value.int s.1) ∧ Gq hx B t τ (put σ (gL B a b t) C) ∧ (f + 1 ≠ 0 → τ.2.1 hx 17 = xmv W s.2)) (fun _ _ _ => False) 0 0 245 [some (.ref hx), some (.int (nI t)), some (.int (nI turns)), some (.int s1.1), some (.int (nI w)), some (.int (nI w)), some (.ref bw), some (.ref bo), some (.int s1.1)] [] τ := fun z => by
                  have y := done_ (some (.ref bw)) (some (.ref bo)) (some (.int s1.1)) (s1.1, some k) (by rw [hstep, z]) τ hq2
                  rw [hkx] at y
                  exact y
                first
                | (have z : xmv W s.2 = -1 := c_211
                   exact fin2 (take (Or.inl (hx1.mp z))))
                | (have z : nI t - nI t / nI 2 * nI 2 = 0 := c_217
                   have z2 := hpar.mp z
                   have z3 : s.2 ≠ none := fun e => c_211 (hx1.mpr e)
                   first
                   | (have y : s.1 < s1.1 := c_223
                      exact fin2 (take (Or.inr (by rw [if_pos (decide_eq_true z2)]; exact Int32.not_le.mpr y))))
                   | (have y : ¬ s.1 < s1.1 := c_223
                      exact fin1 (keep z3 (by rw [if_pos (decide_eq_true z2)]; exact Int32.not_lt.mp y))))
                | (have z : ¬ nI t - nI t / nI 2 * nI 2 = 0 := c_217
                   have z2 : ¬ t % 2 = 0 := fun e => z (hpar.mpr e)
                   have z3 : s.2 ≠ none := fun e => c_211 (hx1.mpr e)
                   have z4 : ¬ decide (t % 2 = 0) = true := fun e => z2 (of_decide_eq_true e)
                   first
                   | (have y : s1.1 < s.1 := c_232
                      exact fin2 (take (Or.inr (by rw [if_neg z4]; exact Int32.not_le.mpr y))))
                   | (have y : ¬ s1.1 < s.1 := c_232
                      exact fin1 (keep z3 (by rw [if_neg z4]; exact Int32.not_lt.mp y))))
            · refine j_iload dX0_plays_220 rfl ?_
              refine j_iload_n dX0_plays_222 rfl ?_
              first | (with_reducible refine j_gNN ?_; refine j_icmp_gtN (tgt := 238) dX0_plays_223 (by decide) (by omega) (by omega) (fun c_223 => ?_) (fun c_223 => ?_)) | refine j_icmp_gt (tgt := 238) dX0_plays_223 (by decide) (fun c_223 => ?_) (fun c_223 => ?_)
              · refine j_iload dX0_plays_238 rfl ?_
                refine j_istore_n dX0_plays_240 (by decide) ?_
                refine j_iload dX0_plays_241 rfl ?_
                refine j_istore dX0_plays_243 (by decide) ?_
                skip
                have keep : s.2 ≠ none → (if decide (t % 2 = 0) = true then s1.1 ≤ s.1 else s.1 ≤ s1.1) → plPick (decide (t % 2 = 0)) s1.1 k s = s := fun z1 z2 => by unfold plPick; rw [if_pos ⟨z1, z2⟩]
                have take : (s.2 = none ∨ ¬ (if decide (t % 2 = 0) = true then s1.1 ≤ s.1 else s.1 ≤ s1.1)) → plPick (decide (t % 2 = 0)) s1.1 k s = (s1.1, some k) := fun z => by
                  unfold plPick
                  rw [if_neg]
                  rintro ⟨y1, y2⟩
                  rcases z with z | z
                  · exact y1 z
                  · exact z y2
                have fin1 : plPick (decide (t % 2 = 0)) s1.1 k s = s → Tj g l (4 + (f + 1)) MX0_plays [.ref hx, .int (nI t), .int (nI turns)] 0 0 (fun r τ => ∃ s, s = mPlayS W a b (f + 1) (decide (t % 2 = 0)) C ∧ r = some (Value.int s.1) ∧ Gq hx B t τ (put σ (gL B a b t) C) ∧ (f + 1 ≠ 0 → τ.2.1 hx 17 = xmv W s.2)) (fun _ _ _ => False) 0 0 245 [some (.ref hx), some (.int (nI t)), some (.int (nI turns)), some (.int s.1), some (.int (xmv W s.2)), some (.int (nI w)), some (.ref bw), some (.ref bo), some (.int s1.1)] [] τ := fun z => done_ _ _ _ s (by rw [hstep, z]) _ hq2
                have fin2 : plPick (decide (t % 2 = 0)) s1.1 k s = (s1.1, some k) → Tj g l (4 + (f + 1)) MX0_plays [.ref hx, .int (nI t), .int (nI turns)] 0 0 (fun r τ => ∃ s, s = mPlayS W a b (f + 1) (decide (t % 2 = 0)) C ∧ r = some (Value.int s.1) ∧ Gq hx B t τ (put σ (gL B a b t) C) ∧ (f + 1 ≠ 0 → τ.2.1 hx 17 = xmv W s.2)) (fun _ _ _ => False) 0 0 245 [some (.ref hx), some (.int (nI t)), some (.int (nI turns)), some (.int s1.1), some (.int (nI w)), some (.int (nI w)), some (.ref bw), some (.ref bo), some (.int s1.1)] [] τ := fun z => by
                  have y := done_ (some (.ref bw)) (some (.ref bo)) (some (.int s1.1)) (s1.1, some k) (by rw [hstep, z]) τ hq2
                  rw [hkx] at y
                  exact y
                first
                | (have z : xmv W s.2 = -1 := c_211
                   exact fin2 (take (Or.inl (hx1.mp z))))
                | (have z : nI t - nI t / nI 2 * nI 2 = 0 := c_217
                   have z2 := hpar.mp z
                   have z3 : s.2 ≠ none := fun e => c_211 (hx1.mpr e)
                   first
                   | (have y : s.1 < s1.1 := c_223
                      exact fin2 (take (Or.inr (by rw [if_pos (decide_eq_true z2)]; exact Int32.not_le.mpr y))))
                   | (have y : ¬ s.1 < s1.1 := c_223
                      exact fin1 (keep z3 (by rw [if_pos (decide_eq_true z2)]; exact Int32.not_lt.mp y))))
                | (have z : ¬ nI t - nI t / nI 2 * nI 2 = 0 := c_217
                   have z2 : ¬ t % 2 = 0 := fun e => z (hpar.mpr e)
                   have z3 : s.2 ≠ none := fun e => c_211 (hx1.mpr e)
                   have z4 : ¬ decide (t % 2 = 0) = true := fun e => z2 (of_decide_eq_true e)
                   first
                   | (have y : s1.1 < s.1 := c_232
                      exact fin2 (take (Or.inr (by rw [if_neg z4]; exact Int32.not_le.mpr y))))
                   | (have y : ¬ s1.1 < s.1 := c_232
                      exact fin1 (keep z3 (by rw [if_neg z4]; exact Int32.not_lt.mp y))))
              · refine j_goto (tgt := 245) dX0_plays_226 (by decide) ?_
                skip
                have keep : s.2 ≠ none → (if decide (t % 2 = 0) = true then s1.1 ≤ s.1 else s.1 ≤ s1.1) → plPick (decide (t % 2 = 0)) s1.1 k s = s := fun z1 z2 => by unfold plPick; rw [if_pos ⟨z1, z2⟩]
                have take : (s.2 = none ∨ ¬ (if decide (t % 2 = 0) = true then s1.1 ≤ s.1 else s.1 ≤ s1.1)) → plPick (decide (t % 2 = 0)) s1.1 k s = (s1.1, some k) := fun z => by
                  unfold plPick
                  rw [if_neg]
                  rintro ⟨y1, y2⟩
                  rcases z with z | z
                  · exact y1 z
                  · exact z y2
                have fin1 : plPick (decide (t % 2 = 0)) s1.1 k s = s → Tj g l (4 + (f + 1)) MX0_plays [.ref hx, .int (nI t), .int (nI turns)] 0 0 (fun r τ => ∃ s, s = mPlayS W a b (f + 1) (decide (t % 2 = 0)) C ∧ r = some (Value.int s.1) ∧ Gq hx B t τ (put σ (gL B a b t) C) ∧ (f + 1 ≠ 0 → τ.2.1 hx 17 = xmv W s.2)) (fun _ _ _ => False) 0 0 245 [some (.ref hx), some (.int (nI t)), some (.int (nI turns)), some (.int s.1), some (.int (xmv W s.2)), some (.int (nI w)), some (.ref bw), some (.ref bo), some (.int s1.1)] [] τ := fun z => done_ _ _ _ s (by rw [hstep, z]) _ hq2
                have fin2 : plPick (decide (t % 2 = 0)) s1.1 k s = (s1.1, some k) → Tj g l (4 + (f + 1)) MX0_plays [.ref hx, .int (nI t), .int (nI turns)] 0 0 (fun r τ => ∃ s, s = mPlayS W a b (f + 1) (decide (t % 2 = 0)) C ∧ r = some (Value.int s.1) ∧ Gq hx B t τ (put σ (gL B a b t) C) ∧ (f + 1 ≠ 0 → τ.2.1 hx 17 = xmv W s.2)) (fun _ _ _ => False) 0 0 245 [some (.ref hx), some (.int (nI t)), some (.int (nI turns)), some (.int s1.1), some (.int (nI w)), some (.int (nI w)), some (.ref bw), some (.ref bo), some (.int s1.1)] [] τ := fun z => by
                  have y := done_ (some (.ref bw)) (some (.ref bo)) (some (.int s1.1)) (s1.1, some k) (by rw [hstep, z]) τ hq2
                  rw [hkx] at y
                  exact y
                first
                | (have z : xmv W s.2 = -1 := c_211
                   exact fin2 (take (Or.inl (hx1.mp z))))
                | (have z : nI t - nI t / nI 2 * nI 2 = 0 := c_217
                   have z2 := hpar.mp z
                   have z3 : s.2 ≠ none := fun e => c_211 (hx1.mpr e)
                   first
                   | (have y : s.1 < s1.1 := c_223
                      exact fin2 (take (Or.inr (by rw [if_pos (decide_eq_true z2)]; exact Int32.not_le.mpr y))))
                   | (have y : ¬ s.1 < s1.1 := c_223
                      exact fin1 (keep z3 (by rw [if_pos (decide_eq_true z2)]; exact Int32.not_lt.mp y))))
                | (have z : ¬ nI t - nI t / nI 2 * nI 2 = 0 := c_217
                   have z2 : ¬ t % 2 = 0 := fun e => z (hpar.mpr e)
                   have z3 : s.2 ≠ none := fun e => c_211 (hx1.mpr e)
                   have z4 : ¬ decide (t % 2 = 0) = true := fun e => z2 (of_decide_eq_true e)
                   first
                   | (have y : s1.1 < s.1 := c_232
                      exact fin2 (take (Or.inr (by rw [if_neg z4]; exact Int32.not_le.mpr y))))
                   | (have y : ¬ s1.1 < s.1 := c_232
                      exact fin1 (keep z3 (by rw [if_neg z4]; exact Int32.not_lt.mp y))))
        -- from the roles on
        have roles : ∀ wh oo, (wh = a ∧ oo = b ∧ t % 2 = 0) ∨ (wh = b ∧ oo = a ∧ ¬ t % 2 = 0) → ∀ bw lw aw bo lo ao, Pe (gL B a b (t + 1)) ρ bw lw aw wh → Pe (gL B a b (t + 1)) ρ bo lo ao oo → ∀ x8, Tj g l (4 + (f + 1)) MX0_plays [.ref hx, .int (nI t), .int (nI turns)] 0 0 (fun r τ => ∃ s, s = mPlayS W a b (f + 1) (decide (t % 2 = 0)) C ∧ r = some (Value.int s.1) ∧ Gq hx B t τ (put σ (gL B a b t) C) ∧ (f + 1 ≠ 0 → τ.2.1 hx 17 = xmv W s.2)) (fun _ _ _ => False) 0 0 135 [some (.ref hx), some (.int (nI t)), some (.int (nI turns)), some (.int s.1), some (.int (xmv W s.2)), some (.int (nI w)), some (.ref bw), some (.ref bo), x8] [] (put ρ (gL B a b (t + 1)) C) := by
          intro wh oo hwo bw lw aw bo lo ao hp hq x8
          have hwh6 : wh < 6 := by omega
          have hoo6 : oo < 6 := by omega
          have hne : wh ≠ oo := by omega
          have hPw : Pp C W wh := by rcases hwo with ⟨e, -⟩ | ⟨e, -⟩ <;> rw [e]; exact h2.2.1; exact h2.2.2.1
          have hPo : Pp C W oo := by rcases hwo with ⟨-, e, -⟩ | ⟨-, e, -⟩ <;> rw [e]; exact h2.2.2.1; exact h2.2.1
          have hf := hfτ
          have s2' : (put ρ (gL B a b (t + 1)) C).1 (B 2) = some (5, 0) := Fa.s2 hfτ
          obtain ⟨sq, tq, y1, y2, y3, y4, y5, y6, y7⟩ := hPo.sets hW8
          have hn2 : mSaysB C wh w oo = true → w < 8 → hs (C (43 + oo)) w = false := fun z3 hw8' => by
            rw [y1, hs_nI y5 (by omega)]
            cases z : sq.testBit w with
            | false => rfl
            | true =>
              have z2 := y7 w z
              unfold mSaysB at z3
              rw [y2, hs_nI y6 (by omega), z2] at z3
              rw [Bool.and_eq_true] at z3
              cases z3.2
          have hwW : mSaysB C wh w oo = true → w < 8 → w < W := fun z3 hw8' => by
            unfold mSaysB at z3
            rw [Bool.and_eq_true, Bool.and_eq_true] at z3
            exact hPw.kw hW8 w hw8' z3.1.2
          refine j_iload dX0_plays_135 rfl ?_
          refine j_bipush (v := nI 8) dX0_plays_137 (by decide +kernel) ?_
          first | (with_reducible refine j_gNN ?_; refine j_icmp_geN (tgt := 174) dX0_plays_139 (by decide) (by omega) (by omega) (fun c_139 => ?_) (fun c_139 => ?_)) | refine j_icmp_ge (tgt := 174) dX0_plays_139 (by decide) (fun c_139 => ?_) (fun c_139 => ?_)
          · first
            | (have z : 8 ≤ w := c_139
               have e8 : w = 8 := by omega
               have y := move W (by rw [if_pos e8]) wh oo hwo (Or.inl rfl) (Or.inl e8) _ _ _ _ _ _ hp hq x8
               rw [show plD C W wh oo W = C from if_pos rfl] at y
               exact y)
            | (have z : w < 8 := c_139
               have z2 := hwW c_155 z
               have y := move w (by rw [if_neg (by omega)]) wh oo hwo (Or.inr ⟨z2, c_155⟩) (Or.inr z2) _ _ _ _ _ _ hp hq x8
               rw [show plD C W wh oo w = mStrand (mSaysC C wh w oo) oo w from if_neg (by omega)] at y
               exact y)
          · first | refine j_aload_n dX0_plays_142 rfl ?_ | refine j_aload_nN dX0_plays_142 rfl ?_
            refine j_getR dX0_plays_143 fl_X0_30 rfl (by first | exact s2' | exact Fa.sh hf | assumption) (by first | exact s2' | exact Fa.f2 hf | assumption) ?_
            first | refine j_aload dX0_plays_146 rfl ?_ | refine j_aloadN dX0_plays_146 rfl ?_
            refine j_iload dX0_plays_148 rfl ?_
            first | refine j_aload dX0_plays_150 rfl ?_ | refine j_aloadN dX0_plays_150 rfl ?_
            refine j_dU1 kl_X0_442_U5 (x_can hL hp hq) dX0_plays_152 rfl rfl (by decide) (by first | exact s2' | assumption) (Nat.le_of_ble_eq_true rfl) (by first | decide | omega) (by omega) (by omega) ?_
            first | (with_reducible refine j_gB ?_; refine j_if_neB (tgt := 161) dX0_plays_155 (by decide) (fun c_155 => ?_) (fun c_155 => ?_)) | (with_reducible refine j_gC ?_; refine j_if_neC (tgt := 161) dX0_plays_155 (by decide) (fun c_155 => ?_) (fun c_155 => ?_)) | (with_reducible refine j_gN ?_; refine j_if_neN (tgt := 161) dX0_plays_155 (by decide) (by omega) (fun c_155 => ?_) (fun c_155 => ?_)) | refine j_if_ne (tgt := 161) dX0_plays_155 (by decide) (fun c_155 => ?_) (fun c_155 => ?_)
            · first | refine j_aload_n dX0_plays_161 rfl ?_ | refine j_aload_nN dX0_plays_161 rfl ?_
              refine j_getR dX0_plays_162 fl_X0_30 rfl (by first | exact s2' | exact Fa.sh hf | assumption) (by first | exact s2' | exact Fa.f2 hf | assumption) ?_
              first | refine j_aload dX0_plays_165 rfl ?_ | refine j_aloadN dX0_plays_165 rfl ?_
              refine j_iload dX0_plays_167 rfl ?_
              first | refine j_aload dX0_plays_169 rfl ?_ | refine j_aloadN dX0_plays_169 rfl ?_
              refine j_dO0 kl_X0_448_O5 (x_tdoes (Fa.s2 (L := gL B a b (t + 1)) (D := C) hfτ) hL hp hq hwh6 hoo6 hne (show w < 8 by omega) y2 y6 (hn2 c_155 (by omega))) dX0_plays_171 rfl rfl (by decide) (by first | exact s2' | assumption) (Nat.le_of_ble_eq_true rfl) (by first | decide | omega) (by omega) (by omega) ?_
              first
              | (have z : 8 ≤ w := c_139
                 have e8 : w = 8 := by omega
                 have y := move W (by rw [if_pos e8]) wh oo hwo (Or.inl rfl) (Or.inl e8) _ _ _ _ _ _ hp hq x8
                 rw [show plD C W wh oo W = C from if_pos rfl] at y
                 exact y)
              | (have z : w < 8 := c_139
                 have z2 := hwW c_155 z
                 have y := move w (by rw [if_neg (by omega)]) wh oo hwo (Or.inr ⟨z2, c_155⟩) (Or.inr z2) _ _ _ _ _ _ hp hq x8
                 rw [show plD C W wh oo w = mStrand (mSaysC C wh w oo) oo w from if_neg (by omega)] at y
                 exact y)
            · refine j_goto (tgt := 245) dX0_plays_158 (by decide) ?_
              first | refine j_iincN dX0_plays_245 rfl (by decide) ?_ | refine j_iinc dX0_plays_245 rfl rfl (by decide) ?_
              refine j_goto (tgt := 38) dX0_plays_248 (by decide) ?_
              refine ih2 (by omega) s _ _ _ _ ?_ ((Gq.put ha hb ht3).tr hq0)
              have z : mSaysB C wh w oo = false := c_155
              by_cases hwW : w < W
              · have e1 : ixw W w = w := by unfold ixw; rw [if_pos (by omega)]; omega
                have e2 : ixw W (w + 1) = w + 1 := by unfold ixw; rw [if_pos (by omega)]; omega
                rw [e1] at hsv
                rw [e2]
                rw [plv_s, ← hsv]
                have ew : (if decide (t % 2 = 0) = true then a else b) = wh := by rcases hwo with ⟨e, -, z⟩ | ⟨e, -, z⟩ <;> simp [e, z]
                have eo : (if decide (t % 2 = 0) = true then b else a) = oo := by rcases hwo with ⟨-, e, z⟩ | ⟨-, e, z⟩ <;> simp [e, z]
                unfold plStep
                rw [ew, eo, if_neg]
                rintro (y | y)
                · omega
                · rw [z] at y; cases y
              · have e1 : ixw W (w + 1) = ixw W w := by unfold ixw; rw [if_pos (by omega), if_pos (by omega)]; omega
                rw [e1]; exact hsv
        refine j_sg hD0.symm ?_
        have hf := hfτ
        have q40 : (put ρ (gL B a b (t + 1)) D0).1 (B (40 + t)) = some (8, 0) := hP1.1.1
        refine j_iload dX0_plays_38 rfl ?_
        refine j_bipush (v := nI 8) dX0_plays_40 (by decide +kernel) ?_
        first | (with_reducible refine j_gNN ?_; refine j_icmp_gtN (tgt := 251) dX0_plays_42 (by decide) (by omega) (by omega) (fun c_42 => ?_) (fun c_42 => ?_)) | refine j_icmp_gt (tgt := 251) dX0_plays_42 (by decide) (fun c_42 => ?_) (fun c_42 => ?_)
        · exact absurd c_42 (by omega)
        · first | refine j_aload_n dX0_plays_45 rfl ?_ | refine j_aload_nN dX0_plays_45 rfl ?_
          refine j_getR dX0_plays_46 fl_X0_69 rfl (by first | exact Fa.on hf (by omega) | exact Fa.tw hf (by omega) | exact Fa.sh hf | assumption) (by first | exact Fa.on hf (by omega) | exact Fa.tw hf (by omega) | exact Fa.f15 hf | assumption) ?_
          refine j_iload_n dX0_plays_49 rfl ?_
          refine j_iconst (v := nI 1) dX0_plays_50 (by decide +kernel) ?_
          first | (with_reducible refine j_gNN ?_; refine j_iaddN dX0_plays_51 ?_) | refine j_iadd dX0_plays_51 ?_
          refine j_aald (t := 27) dX0_plays_52 (fun _ => rfl) (by decide) (by first | exact Fa.on hf (by omega) | exact Fa.tw hf (by omega) | exact Pe.sl hp | exact Pe.sa hp | exact Pe.sl hq | exact Pe.sa hq | exact Fa.s0 hf | exact Fa.s12 hf | exact Fa.s13 hf | exact Fa.s14 hf | exact Fa.s15 hf | exact Fa.s16 hf | exact Fa.s20 hf | exact Fa.s21 hf | exact Fa.s23 hf | assumption) rfl (by omega) (by decide) (by first | exact Fa.on hf (by omega) | exact Fa.tw hf (by omega) | exact Fa.tr hf (by omega) | assumption) ?_
          first | refine j_aload_n dX0_plays_53 rfl ?_ | refine j_aload_nN dX0_plays_53 rfl ?_
          refine j_getR dX0_plays_54 fl_X0_69 rfl (by first | exact Fa.on hf (by omega) | exact Fa.tw hf (by omega) | exact Fa.sh hf | assumption) (by first | exact Fa.on hf (by omega) | exact Fa.tw hf (by omega) | exact Fa.f15 hf | assumption) ?_
          refine j_iload_n dX0_plays_57 rfl ?_
          refine j_aald (t := 27) dX0_plays_58 (fun _ => rfl) (by decide) (by first | exact Fa.on hf (by omega) | exact Fa.tw hf (by omega) | exact Pe.sl hp | exact Pe.sa hp | exact Pe.sl hq | exact Pe.sa hq | exact Fa.s0 hf | exact Fa.s12 hf | exact Fa.s13 hf | exact Fa.s14 hf | exact Fa.s15 hf | exact Fa.s16 hf | exact Fa.s20 hf | exact Fa.s21 hf | exact Fa.s23 hf | assumption) rfl (by omega) (by decide) (by first | exact Fa.on hf (by omega) | exact Fa.tw hf (by omega) | exact Fa.tr hf (by omega) | assumption) ?_
          refine j_dV1 kl_X0_438 (x_takes hL hp hP1 ha h2.2.2.2.1) dX0_plays_59 rfl rfl (by decide) (by first | exact Fa.on hf (by omega) | exact Fa.tw hf (by omega) | exact Pe.sh hp | exact Pe.sh hq | assumption) (Nat.le_of_ble_eq_true rfl) (by first | decide | omega) (by omega) (by omega) ?_
          refine j_pop dX0_plays_62 rfl ?_
          first | refine j_aload_n dX0_plays_63 rfl ?_ | refine j_aload_nN dX0_plays_63 rfl ?_
          refine j_getR dX0_plays_64 fl_X0_73 rfl (by first | exact Fa.on hf (by omega) | exact Fa.tw hf (by omega) | exact Fa.sh hf | assumption) (by first | exact Fa.on hf (by omega) | exact Fa.tw hf (by omega) | exact Fa.f16 hf | assumption) ?_
          refine j_iload_n dX0_plays_67 rfl ?_
          refine j_iconst (v := nI 1) dX0_plays_68 (by decide +kernel) ?_
          first | (with_reducible refine j_gNN ?_; refine j_iaddN dX0_plays_69 ?_) | refine j_iadd dX0_plays_69 ?_
          refine j_aald (t := 27) dX0_plays_70 (fun _ => rfl) (by decide) (by first | exact Fa.on hf (by omega) | exact Fa.tw hf (by omega) | exact Pe.sl hp | exact Pe.sa hp | exact Pe.sl hq | exact Pe.sa hq | exact Fa.s0 hf | exact Fa.s12 hf | exact Fa.s13 hf | exact Fa.s14 hf | exact Fa.s15 hf | exact Fa.s16 hf | exact Fa.s20 hf | exact Fa.s21 hf | exact Fa.s23 hf | assumption) rfl (by omega) (by decide) (by first | exact Fa.on hf (by omega) | exact Fa.tw hf (by omega) | exact Fa.tr hf (by omega) | assumption) ?_
          first | refine j_aload_n dX0_plays_71 rfl ?_ | refine j_aload_nN dX0_plays_71 rfl ?_
          refine j_getR dX0_plays_72 fl_X0_73 rfl (by first | exact Fa.on hf (by omega) | exact Fa.tw hf (by omega) | exact Fa.sh hf | assumption) (by first | exact Fa.on hf (by omega) | exact Fa.tw hf (by omega) | exact Fa.f16 hf | assumption) ?_
          refine j_iload_n dX0_plays_75 rfl ?_
          refine j_aald (t := 27) dX0_plays_76 (fun _ => rfl) (by decide) (by first | exact Fa.on hf (by omega) | exact Fa.tw hf (by omega) | exact Pe.sl hp | exact Pe.sa hp | exact Pe.sl hq | exact Pe.sa hq | exact Fa.s0 hf | exact Fa.s12 hf | exact Fa.s13 hf | exact Fa.s14 hf | exact Fa.s15 hf | exact Fa.s16 hf | exact Fa.s20 hf | exact Fa.s21 hf | exact Fa.s23 hf | assumption) rfl (by omega) (by decide) (by first | exact Fa.on hf (by omega) | exact Fa.tw hf (by omega) | exact Fa.tr hf (by omega) | assumption) ?_
          refine j_dV1 kl_X0_438 (x_takes hL hq hP2 hb h2.2.2.2.2) dX0_plays_77 rfl rfl (by decide) (by first | exact Fa.on hf (by omega) | exact Fa.tw hf (by omega) | exact Pe.sh hp | exact Pe.sh hq | assumption) (Nat.le_of_ble_eq_true rfl) (by first | decide | omega) (by omega) (by omega) ?_
          refine j_pop dX0_plays_80 rfl ?_
          refine j_sg eD ?_
          refine j_iload_n dX0_plays_81 rfl ?_
          refine j_iconst (v := nI 2) dX0_plays_82 (by decide +kernel) ?_
          refine j_irem dX0_plays_83 (by decide) ?_
          first | (with_reducible refine j_gB ?_; refine j_if_neB (tgt := 98) dX0_plays_84 (by decide) (fun c_84 => ?_) (fun c_84 => ?_)) | (with_reducible refine j_gC ?_; refine j_if_neC (tgt := 98) dX0_plays_84 (by decide) (fun c_84 => ?_) (fun c_84 => ?_)) | (with_reducible refine j_gN ?_; refine j_if_neN (tgt := 98) dX0_plays_84 (by decide) (by omega) (fun c_84 => ?_) (fun c_84 => ?_)) | refine j_if_ne (tgt := 98) dX0_plays_84 (by decide) (fun c_84 => ?_) (fun c_84 => ?_)
          · first | refine j_aload_n dX0_plays_98 rfl ?_ | refine j_aload_nN dX0_plays_98 rfl ?_
            refine j_getR dX0_plays_99 fl_X0_73 rfl (by first | exact Fa.on hf (by omega) | exact Fa.tw hf (by omega) | exact Fa.sh hf | assumption) (by first | exact Fa.on hf (by omega) | exact Fa.tw hf (by omega) | exact Fa.f16 hf | assumption) ?_
            refine j_iload_n dX0_plays_102 rfl ?_
            refine j_iconst (v := nI 1) dX0_plays_103 (by decide +kernel) ?_
            first | (with_reducible refine j_gNN ?_; refine j_iaddN dX0_plays_104 ?_) | refine j_iadd dX0_plays_104 ?_
            refine j_aald (t := 27) dX0_plays_105 (fun _ => rfl) (by decide) (by first | exact Fa.on hf (by omega) | exact Fa.tw hf (by omega) | exact Pe.sl hp | exact Pe.sa hp | exact Pe.sl hq | exact Pe.sa hq | exact Fa.s0 hf | exact Fa.s12 hf | exact Fa.s13 hf | exact Fa.s14 hf | exact Fa.s15 hf | exact Fa.s16 hf | exact Fa.s20 hf | exact Fa.s21 hf | exact Fa.s23 hf | assumption) rfl (by omega) (by decide) (by first | exact Fa.on hf (by omega) | exact Fa.tw hf (by omega) | exact Fa.tr hf (by omega) | assumption) ?_
            first | refine j_astore dX0_plays_106 (by decide) ?_ | refine j_astoreN dX0_plays_106 (by decide) ?_
            refine j_iload_n dX0_plays_108 rfl ?_
            refine j_iconst (v := nI 2) dX0_plays_109 (by decide +kernel) ?_
            refine j_irem dX0_plays_110 (by decide) ?_
            first | (with_reducible refine j_gB ?_; refine j_if_neB (tgt := 125) dX0_plays_111 (by decide) (fun c_111 => ?_) (fun c_111 => ?_)) | (with_reducible refine j_gC ?_; refine j_if_neC (tgt := 125) dX0_plays_111 (by decide) (fun c_111 => ?_) (fun c_111 => ?_)) | (with_reducible refine j_gN ?_; refine j_if_neN (tgt := 125) dX0_plays_111 (by decide) (by omega) (fun c_111 => ?_) (fun c_111 => ?_)) | refine j_if_ne (tgt := 125) dX0_plays_111 (by decide) (fun c_111 => ?_) (fun c_111 => ?_)
            · first | refine j_aload_n dX0_plays_125 rfl ?_ | refine j_aload_nN dX0_plays_125 rfl ?_
              refine j_getR dX0_plays_126 fl_X0_69 rfl (by first | exact Fa.on hf (by omega) | exact Fa.tw hf (by omega) | exact Fa.sh hf | assumption) (by first | exact Fa.on hf (by omega) | exact Fa.tw hf (by omega) | exact Fa.f15 hf | assumption) ?_
              refine j_iload_n dX0_plays_129 rfl ?_
              refine j_iconst (v := nI 1) dX0_plays_130 (by decide +kernel) ?_
              first | (with_reducible refine j_gNN ?_; refine j_iaddN dX0_plays_131 ?_) | refine j_iadd dX0_plays_131 ?_
              refine j_aald (t := 27) dX0_plays_132 (fun _ => rfl) (by decide) (by first | exact Fa.on hf (by omega) | exact Fa.tw hf (by omega) | exact Pe.sl hp | exact Pe.sa hp | exact Pe.sl hq | exact Pe.sa hq | exact Fa.s0 hf | exact Fa.s12 hf | exact Fa.s13 hf | exact Fa.s14 hf | exact Fa.s15 hf | exact Fa.s16 hf | exact Fa.s20 hf | exact Fa.s21 hf | exact Fa.s23 hf | assumption) rfl (by omega) (by decide) (by first | exact Fa.on hf (by omega) | exact Fa.tw hf (by omega) | exact Fa.tr hf (by omega) | assumption) ?_
              first | refine j_astore dX0_plays_133 (by decide) ?_ | refine j_astoreN dX0_plays_133 (by decide) ?_
              first
              | (have z : nI t - nI t / nI 2 * nI 2 = 0 := c_84
                 have z2 : nI t - nI t / nI 2 * nI 2 = 0 := c_111
                 exact roles a b (Or.inl ⟨rfl, rfl, hpar.mp z⟩) _ _ _ _ _ _ hp hq _)
              | (have z : ¬ nI t - nI t / nI 2 * nI 2 = 0 := c_84
                 have z2 : ¬ nI t - nI t / nI 2 * nI 2 = 0 := c_111
                 exact roles b a (Or.inr ⟨rfl, rfl, fun e => z (hpar.mpr e)⟩) _ _ _ _ _ _ hq hp _)
              | exact absurd c_84 c_111
              | exact absurd c_111 c_84
            · first | refine j_aload_n dX0_plays_114 rfl ?_ | refine j_aload_nN dX0_plays_114 rfl ?_
              refine j_getR dX0_plays_115 fl_X0_73 rfl (by first | exact Fa.on hf (by omega) | exact Fa.tw hf (by omega) | exact Fa.sh hf | assumption) (by first | exact Fa.on hf (by omega) | exact Fa.tw hf (by omega) | exact Fa.f16 hf | assumption) ?_
              refine j_iload_n dX0_plays_118 rfl ?_
              refine j_iconst (v := nI 1) dX0_plays_119 (by decide +kernel) ?_
              first | (with_reducible refine j_gNN ?_; refine j_iaddN dX0_plays_120 ?_) | refine j_iadd dX0_plays_120 ?_
              refine j_aald (t := 27) dX0_plays_121 (fun _ => rfl) (by decide) (by first | exact Fa.on hf (by omega) | exact Fa.tw hf (by omega) | exact Pe.sl hp | exact Pe.sa hp | exact Pe.sl hq | exact Pe.sa hq | exact Fa.s0 hf | exact Fa.s12 hf | exact Fa.s13 hf | exact Fa.s14 hf | exact Fa.s15 hf | exact Fa.s16 hf | exact Fa.s20 hf | exact Fa.s21 hf | exact Fa.s23 hf | assumption) rfl (by omega) (by decide) (by first | exact Fa.on hf (by omega) | exact Fa.tw hf (by omega) | exact Fa.tr hf (by omega) | assumption) ?_
              refine j_goto (tgt := 133) dX0_plays_122 (by decide) ?_
              first | refine j_astore dX0_plays_133 (by decide) ?_ | refine j_astoreN dX0_plays_133 (by decide) ?_
              first
              | (have z : nI t - nI t / nI 2 * nI 2 = 0 := c_84
                 have z2 : nI t - nI t / nI 2 * nI 2 = 0 := c_111
                 exact roles a b (Or.inl ⟨rfl, rfl, hpar.mp z⟩) _ _ _ _ _ _ hp hq _)
              | (have z : ¬ nI t - nI t / nI 2 * nI 2 = 0 := c_84
                 have z2 : ¬ nI t - nI t / nI 2 * nI 2 = 0 := c_111
                 exact roles b a (Or.inr ⟨rfl, rfl, fun e => z (hpar.mpr e)⟩) _ _ _ _ _ _ hq hp _)
              | exact absurd c_84 c_111
              | exact absurd c_111 c_84
          · first | refine j_aload_n dX0_plays_87 rfl ?_ | refine j_aload_nN dX0_plays_87 rfl ?_
            refine j_getR dX0_plays_88 fl_X0_69 rfl (by first | exact Fa.on hf (by omega) | exact Fa.tw hf (by omega) | exact Fa.sh hf | assumption) (by first | exact Fa.on hf (by omega) | exact Fa.tw hf (by omega) | exact Fa.f15 hf | assumption) ?_
            refine j_iload_n dX0_plays_91 rfl ?_
            refine j_iconst (v := nI 1) dX0_plays_92 (by decide +kernel) ?_
            first | (with_reducible refine j_gNN ?_; refine j_iaddN dX0_plays_93 ?_) | refine j_iadd dX0_plays_93 ?_
            refine j_aald (t := 27) dX0_plays_94 (fun _ => rfl) (by decide) (by first | exact Fa.on hf (by omega) | exact Fa.tw hf (by omega) | exact Pe.sl hp | exact Pe.sa hp | exact Pe.sl hq | exact Pe.sa hq | exact Fa.s0 hf | exact Fa.s12 hf | exact Fa.s13 hf | exact Fa.s14 hf | exact Fa.s15 hf | exact Fa.s16 hf | exact Fa.s20 hf | exact Fa.s21 hf | exact Fa.s23 hf | assumption) rfl (by omega) (by decide) (by first | exact Fa.on hf (by omega) | exact Fa.tw hf (by omega) | exact Fa.tr hf (by omega) | assumption) ?_
            refine j_goto (tgt := 106) dX0_plays_95 (by decide) ?_
            first | refine j_astore dX0_plays_106 (by decide) ?_ | refine j_astoreN dX0_plays_106 (by decide) ?_
            refine j_iload_n dX0_plays_108 rfl ?_
            refine j_iconst (v := nI 2) dX0_plays_109 (by decide +kernel) ?_
            refine j_irem dX0_plays_110 (by decide) ?_
            first | (with_reducible refine j_gB ?_; refine j_if_neB (tgt := 125) dX0_plays_111 (by decide) (fun c_111 => ?_) (fun c_111 => ?_)) | (with_reducible refine j_gC ?_; refine j_if_neC (tgt := 125) dX0_plays_111 (by decide) (fun c_111 => ?_) (fun c_111 => ?_)) | (with_reducible refine j_gN ?_; refine j_if_neN (tgt := 125) dX0_plays_111 (by decide) (by omega) (fun c_111 => ?_) (fun c_111 => ?_)) | refine j_if_ne (tgt := 125) dX0_plays_111 (by decide) (fun c_111 => ?_) (fun c_111 => ?_)
            · first | refine j_aload_n dX0_plays_125 rfl ?_ | refine j_aload_nN dX0_plays_125 rfl ?_
              refine j_getR dX0_plays_126 fl_X0_69 rfl (by first | exact Fa.on hf (by omega) | exact Fa.tw hf (by omega) | exact Fa.sh hf | assumption) (by first | exact Fa.on hf (by omega) | exact Fa.tw hf (by omega) | exact Fa.f15 hf | assumption) ?_
              refine j_iload_n dX0_plays_129 rfl ?_
              refine j_iconst (v := nI 1) dX0_plays_130 (by decide +kernel) ?_
              first | (with_reducible refine j_gNN ?_; refine j_iaddN dX0_plays_131 ?_) | refine j_iadd dX0_plays_131 ?_
              refine j_aald (t := 27) dX0_plays_132 (fun _ => rfl) (by decide) (by first | exact Fa.on hf (by omega) | exact Fa.tw hf (by omega) | exact Pe.sl hp | exact Pe.sa hp | exact Pe.sl hq | exact Pe.sa hq | exact Fa.s0 hf | exact Fa.s12 hf | exact Fa.s13 hf | exact Fa.s14 hf | exact Fa.s15 hf | exact Fa.s16 hf | exact Fa.s20 hf | exact Fa.s21 hf | exact Fa.s23 hf | assumption) rfl (by omega) (by decide) (by first | exact Fa.on hf (by omega) | exact Fa.tw hf (by omega) | exact Fa.tr hf (by omega) | assumption) ?_
              first | refine j_astore dX0_plays_133 (by decide) ?_ | refine j_astoreN dX0_plays_133 (by decide) ?_
              first
              | (have z : nI t - nI t / nI 2 * nI 2 = 0 := c_84
                 have z2 : nI t - nI t / nI 2 * nI 2 = 0 := c_111
                 exact roles a b (Or.inl ⟨rfl, rfl, hpar.mp z⟩) _ _ _ _ _ _ hp hq _)
              | (have z : ¬ nI t - nI t / nI 2 * nI 2 = 0 := c_84
                 have z2 : ¬ nI t - nI t / nI 2 * nI 2 = 0 := c_111
                 exact roles b a (Or.inr ⟨rfl, rfl, fun e => z (hpar.mpr e)⟩) _ _ _ _ _ _ hq hp _)
              | exact absurd c_84 c_111
              | exact absurd c_111 c_84
            · first | refine j_aload_n dX0_plays_114 rfl ?_ | refine j_aload_nN dX0_plays_114 rfl ?_
              refine j_getR dX0_plays_115 fl_X0_73 rfl (by first | exact Fa.on hf (by omega) | exact Fa.tw hf (by omega) | exact Fa.sh hf | assumption) (by first | exact Fa.on hf (by omega) | exact Fa.tw hf (by omega) | exact Fa.f16 hf | assumption) ?_
              refine j_iload_n dX0_plays_118 rfl ?_
              refine j_iconst (v := nI 1) dX0_plays_119 (by decide +kernel) ?_
              first | (with_reducible refine j_gNN ?_; refine j_iaddN dX0_plays_120 ?_) | refine j_iadd dX0_plays_120 ?_
              refine j_aald (t := 27) dX0_plays_121 (fun _ => rfl) (by decide) (by first | exact Fa.on hf (by omega) | exact Fa.tw hf (by omega) | exact Pe.sl hp | exact Pe.sa hp | exact Pe.sl hq | exact Pe.sa hq | exact Fa.s0 hf | exact Fa.s12 hf | exact Fa.s13 hf | exact Fa.s14 hf | exact Fa.s15 hf | exact Fa.s16 hf | exact Fa.s20 hf | exact Fa.s21 hf | exact Fa.s23 hf | assumption) rfl (by omega) (by decide) (by first | exact Fa.on hf (by omega) | exact Fa.tw hf (by omega) | exact Fa.tr hf (by omega) | assumption) ?_
              refine j_goto (tgt := 133) dX0_plays_122 (by decide) ?_
              first | refine j_astore dX0_plays_133 (by decide) ?_ | refine j_astoreN dX0_plays_133 (by decide) ?_
              first
              | (have z : nI t - nI t / nI 2 * nI 2 = 0 := c_84
                 have z2 : nI t - nI t / nI 2 * nI 2 = 0 := c_111
                 exact roles a b (Or.inl ⟨rfl, rfl, hpar.mp z⟩) _ _ _ _ _ _ hp hq _)
              | (have z : ¬ nI t - nI t / nI 2 * nI 2 = 0 := c_84
                 have z2 : ¬ nI t - nI t / nI 2 * nI 2 = 0 := c_111
                 exact roles b a (Or.inr ⟨rfl, rfl, fun e => z (hpar.mpr e)⟩) _ _ _ _ _ _ hq hp _)
              | exact absurd c_84 c_111
              | exact absurd c_111 c_84
    first | refine j_aload_n dX0_plays_0 rfl ?_ | refine j_aload_nN dX0_plays_0 rfl ?_
    refine j_iconst (v := -1) dX0_plays_1 (by decide +kernel) ?_
    refine j_putI dX0_plays_2 fl_X0_435 rfl (by first | exact Fa.on hf (by omega) | exact Fa.tw hf (by omega) | exact Fa.sh hf | assumption) rfl rfl rfl ?_
    refine j_iload_n dX0_plays_5 rfl ?_
    refine j_iload_n dX0_plays_6 rfl ?_
    first | (with_reducible refine j_gNN ?_; refine j_icmp_neN (tgt := 30) dX0_plays_7 (by decide) (by omega) (by omega) (fun c_7 => ?_) (fun c_7 => ?_)) | refine j_icmp_ne (tgt := 30) dX0_plays_7 (by decide) (fun c_7 => ?_) (fun c_7 => ?_)
    · refine j_iconst (v := nI 0) dX0_plays_30 (by decide +kernel) ?_
      refine j_istore_n dX0_plays_31 (by decide) ?_
      refine j_iconst (v := -1) dX0_plays_32 (by decide +kernel) ?_
      refine j_istore dX0_plays_33 (by decide) ?_
      refine j_iconst (v := nI 0) dX0_plays_35 (by decide +kernel) ?_
      refine j_istore dX0_plays_36 (by decide) ?_
      exact key 0 (by omega) (nI 0, none) _ none none none (by unfold ixw plv; rw [if_pos (by omega), Nat.zero_min]; rfl) Gq.i17
    · exact absurd c_7 (by omega)
end X18s
