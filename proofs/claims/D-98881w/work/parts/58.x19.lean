/-! X: A GAME FROM THE FACE; ODDS -/
set_option maxRecDepth 100000
theorem gq_eqx {hx p q : Nat} {B : Nat → Nat} {σ τ : Sg} {C : Nat → Int32} (hp : p < 6) (hq : q < 6) (h : Gq hx B 0 τ (put σ (gL B p q 0) C)) : Eqx hx B τ σ := by
  have hgi : ∀ x, gi x → ∃ i, i < 4 ∧ (x = 40 + i ∨ x = 50 + i ∨ x = 60 + i ∨ x = 70 + i ∨ x = 80 + i ∨ x = 90 + i) := fun x h => ⟨x % 10, h.2.2, by unfold gi at h; omega⟩
  have hsc : ∀ b k, ¬ xsc σ hx B b k → ∀ x, gi x → b ≠ B x := fun b k hn x hx e => by
    apply hn
    obtain ⟨i, hi, h2⟩ := hgi x hx
    refine Or.inr (Or.inr (Or.inr (Or.inr (Or.inr (Or.inr ⟨i, hi, ?_⟩)))))
    rcases h2 with e2 | e2 | e2 | e2 | e2 | e2 <;> rw [e, e2] <;> simp
  refine ⟨fun a _ => by rw [h.1]; rfl, fun b k _ hn => ?_, fun b _ => by rw [h.2.1]; rfl, fun b k _ _ => by rw [h.2.1]; rfl⟩
  rw [h.2.2 b k (fun e => hn (Or.inr (Or.inr (Or.inr (Or.inr (Or.inl ⟨e.1, Or.inl e.2⟩)))))) (fun x hx _ => hsc b k hn x hx), put_at]
  cases e : gL B p q 0 b k with
  | none => rfl
  | some i =>
    obtain ⟨-, x, x1, x2⟩ := gL_c hp hq e
    exact absurd x2 (hsc b k hn x (by unfold gi; omega))
theorem pw_pop {C : Nat → Int32} {P r k m : Nat} (hP : P ≤ 6) (hm : m < 256) (h : mPeopleWith C P r k = nI m) : pop m = pw C P r k := by
  have h1 := (szOf_pw (C := C) (r := r) (k := k) hP)
  rw [h, sz_pop hm] at h1
  have := pop_le (s := m)
  exact (nI_eq (by omega) (by omega)).mp h1.1
theorem mSafe_ab {C : Nat → Int32} {od times : Nat} (ho : C 5 = nI od) (h16 : od ≤ 16) (ht : times ≤ 100) : ∀ j, j ≤ 100 → mSafeBy C (nI times) (times + j) = lN ((16 - od) ^ times * 16 ^ j) := by
  intro j
  induction j with
  | zero => intro _; rw [Nat.add_zero, mSafe_a ho h16 times (Nat.le_refl _) ht, Nat.pow_zero, Nat.mul_one]
  | succ j ih =>
    intro hj
    rw [← Nat.add_assoc, mSafeBy, ih (by omega), sfP, if_neg (fun q => absurd ((nI_ltI (by omega) (by omega)).mp q) (by omega)), show (16 : Int64) = lN 16 from rfl, lN_mul', Nat.pow_succ, Nat.mul_assoc]
/-- x's fraction laid down -/
def frX (σ : Sg) (hx : Nat) : Option (Nat × Nat) → Sg
  | none => σ
  | some (n, d) => sL (sL σ hx 9 (lN (n / n.gcd d))) hx 10 (lN (d / n.gcd d))
section X19s
variable {g : Gx} {l : Launch} {σ τ : Sg} {L : Nat → Nat → Option Nat} {A B : Nat → Nat} {C S M : Nat → Int32} {N : Nat → Int64} {W P Dn Hn k p q d hx : Nat}
theorem x_wrongGame (hf : Fa σ hx B) (hg : Fq σ hx A) (hR : Pv σ L A C W P Dn Hn) (hw : Wx C W P Dn) (a b t m : Int32) : Kd g l 1 MX0_wrongGame [.ref hx, .int a, .int b, .int t, .int m] (put σ L C) (some (.int (mWhyG P a b t m))) (put σ L C) := by
  obtain ⟨⟨⟨hW, hW8⟩, ⟨hP, hP6⟩, ⟨hD, hD6⟩, hdn⟩, hWv, hPp⟩ := id hw
  refine Kt.go (Y := MX0_wrongGame) (ls := [some (.ref hx), some (.int a), some (.int b), some (.int t), some (.int m)]) (by decide) (Nat.le_of_ble_eq_true rfl) rfl ?_
  first | refine j_aload_n dX0_wrongGame_0 rfl ?_ | refine j_aload_nN dX0_wrongGame_0 rfl ?_
  refine j_iload_n dX0_wrongGame_1 rfl ?_
  refine j_dV1 kl_X0_264 (x_isPerson hf hg hR hP hP6 _) dX0_wrongGame_2 rfl rfl (by decide) (by first | exact Fa.sh hf | assumption) (Nat.le_of_ble_eq_true rfl) (by first | decide | omega) (by omega) (by omega) ?_
  first | (with_reducible refine j_gB ?_; refine j_if_eqB (tgt := 16) dX0_wrongGame_5 (by decide) (fun c_5 => ?_) (fun c_5 => ?_)) | (with_reducible refine j_gC ?_; refine j_if_eqC (tgt := 16) dX0_wrongGame_5 (by decide) (fun c_5 => ?_) (fun c_5 => ?_)) | (with_reducible refine j_gN ?_; refine j_if_eqN (tgt := 16) dX0_wrongGame_5 (by decide) (by omega) (fun c_5 => ?_) (fun c_5 => ?_)) | refine j_if_eq (tgt := 16) dX0_wrongGame_5 (by decide) (fun c_5 => ?_) (fun c_5 => ?_)
  · refine j_iconst (v := nI 2) dX0_wrongGame_16 (by decide +kernel) ?_
    refine j_goto (tgt := 44) dX0_wrongGame_17 (by decide) ?_
    refine j_iret dX0_wrongGame_44 ⟨_, rfl, rfl⟩ (by omega) (by omega) ?_
    exact ⟨by simp [mWhyG, *], rfl⟩
  · first | refine j_aload_n dX0_wrongGame_8 rfl ?_ | refine j_aload_nN dX0_wrongGame_8 rfl ?_
    refine j_iload_n dX0_wrongGame_9 rfl ?_
    refine j_dV1 kl_X0_264 (x_isPerson hf hg hR hP hP6 _) dX0_wrongGame_10 rfl rfl (by decide) (by first | exact Fa.sh hf | assumption) (Nat.le_of_ble_eq_true rfl) (by first | decide | omega) (by omega) (by omega) ?_
    first | (with_reducible refine j_gB ?_; refine j_if_neB (tgt := 20) dX0_wrongGame_13 (by decide) (fun c_13 => ?_) (fun c_13 => ?_)) | (with_reducible refine j_gC ?_; refine j_if_neC (tgt := 20) dX0_wrongGame_13 (by decide) (fun c_13 => ?_) (fun c_13 => ?_)) | (with_reducible refine j_gN ?_; refine j_if_neN (tgt := 20) dX0_wrongGame_13 (by decide) (by omega) (fun c_13 => ?_) (fun c_13 => ?_)) | refine j_if_ne (tgt := 20) dX0_wrongGame_13 (by decide) (fun c_13 => ?_) (fun c_13 => ?_)
    · refine j_iload_n dX0_wrongGame_20 rfl ?_
      refine j_iload_n dX0_wrongGame_21 rfl ?_
      first | (with_reducible refine j_gNN ?_; refine j_icmp_eqN (tgt := 39) dX0_wrongGame_22 (by decide) (by omega) (by omega) (fun c_22 => ?_) (fun c_22 => ?_)) | refine j_icmp_eq (tgt := 39) dX0_wrongGame_22 (by decide) (fun c_22 => ?_) (fun c_22 => ?_)
      · refine j_iconst (v := nI 5) dX0_wrongGame_39 (by decide +kernel) ?_
        refine j_goto (tgt := 44) dX0_wrongGame_40 (by decide) ?_
        refine j_iret dX0_wrongGame_44 ⟨_, rfl, rfl⟩ (by omega) (by omega) ?_
        exact ⟨by simp [mWhyG, *], rfl⟩
      · refine j_iload_n dX0_wrongGame_25 rfl ?_
        refine j_i2l dX0_wrongGame_26 ?_
        refine j_iload dX0_wrongGame_27 rfl ?_
        refine j_i2l dX0_wrongGame_29 ?_
        refine j_ldc2 (v := 3) dX0_wrongGame_30 q1485 ?_
        refine j_dS1 kl_X0_162 (k_isFrom _ _ _) dX0_wrongGame_33 rfl rfl (Nat.le_of_ble_eq_true rfl) (by first | decide | omega) (by omega) (by omega) ?_
        first | (with_reducible refine j_gB ?_; refine j_if_neB (tgt := 43) dX0_wrongGame_36 (by decide) (fun c_36 => ?_) (fun c_36 => ?_)) | (with_reducible refine j_gC ?_; refine j_if_neC (tgt := 43) dX0_wrongGame_36 (by decide) (fun c_36 => ?_) (fun c_36 => ?_)) | (with_reducible refine j_gN ?_; refine j_if_neN (tgt := 43) dX0_wrongGame_36 (by decide) (by omega) (fun c_36 => ?_) (fun c_36 => ?_)) | refine j_if_ne (tgt := 43) dX0_wrongGame_36 (by decide) (fun c_36 => ?_) (fun c_36 => ?_)
        · refine j_iconst (v := nI 0) dX0_wrongGame_43 (by decide +kernel) ?_
          refine j_iret dX0_wrongGame_44 ⟨_, rfl, rfl⟩ (by omega) (by omega) ?_
          exact ⟨by simp [mWhyG, *], rfl⟩
        · refine j_iconst (v := nI 5) dX0_wrongGame_39 (by decide +kernel) ?_
          refine j_goto (tgt := 44) dX0_wrongGame_40 (by decide) ?_
          refine j_iret dX0_wrongGame_44 ⟨_, rfl, rfl⟩ (by omega) (by omega) ?_
          exact ⟨by simp [mWhyG, *], rfl⟩
    · refine j_iconst (v := nI 2) dX0_wrongGame_16 (by decide +kernel) ?_
      refine j_goto (tgt := 44) dX0_wrongGame_17 (by decide) ?_
      refine j_iret dX0_wrongGame_44 ⟨_, rfl, rfl⟩ (by omega) (by omega) ?_
      exact ⟨by simp [mWhyG, *], rfl⟩
theorem x_playing (hf : Fa σ hx B) (hg : Fq σ hx A) (hR : Pv σ L A C W P Dn Hn) (hw : Wx C W P Dn) (hb : Bb C P) (hB : Gi B) (hGL : ∀ x, gi x → ∀ k, L (B x) k = none) {turns : Nat} (hp6 : p < P) (hq6 : q < P) (hpq : p ≠ q) (htu : turns ≤ 3) : Kt g l 8 MX0_playing [.ref hx, .int (nI p), .int (nI q), .int (nI turns)] (put σ L C) 0 0 (fun r τ => ∃ s, s = mPlayS W p q turns true C ∧ r = some (Value.int s.1) ∧ Eqx hx B τ (put σ L C) ∧ (turns ≠ 0 → τ.2.1 hx 17 = xmv W s.2)) (fun _ _ _ => False) := by
  obtain ⟨⟨⟨hW, hW8⟩, ⟨hP, hP6⟩, ⟨hD, hD6⟩, hdn⟩, hWv, hPp⟩ := id hw
  have hL0 := hR.inj
  have hp6' : p < 6 := by omega
  have hq6' : q < 6 := by omega
  have hL := gL_inj hB (show 0 < 4 by omega) hp6' hq6' hpq
  have hf1 : Fa (put σ L C) hx B := hf
  have hp := gL_p (p := p) (q := q) hB (show 0 < 4 by omega) hf1
  have hq := gL_q (p := p) (q := q) hB (show 0 < 4 by omega) hf1
  have hdis : ∀ c, (∃ k, L c k ≠ none) → ∀ k, gL B p q 0 c k = none := by
    rintro c ⟨k, hk⟩ k2
    cases e : gL B p q 0 c k2 with
    | none => rfl
    | some i =>
      obtain ⟨-, x, x1, x2⟩ := gL_c hp6' hq6' e
      rw [x2] at hk
      exact absurd (hGL x (by unfold gi; omega) k) hk
  have hP1 := (hR.pe hp6).ps (S := C) hdis
  have hP2 := (hR.pe hq6).ps (S := C) hdis
  obtain ⟨D0, hD0⟩ := put_ex hL (put σ L C)
  have eD : put (put σ L C) (gL B p q 0) (tkP q C (tkP p C D0)) = put (put σ L C) (gL B p q 0) C := put_cg fun c k i h => by
    obtain ⟨h1, -⟩ := gL_c hp6' hq6' h
    rcases h1 with h1 | h1
    · rw [tkP_n (pcell_ne hq6' hp6' (Ne.symm hpq) h1), tkP_y h1]
    · rw [tkP_y h1]
  have hGb : Gb (put σ L C) hx B A C W := ⟨hf, hg, ⟨Pv.sh hR (D := C), Pv.r0 hR (D := C), Pv.sw hR (D := C)⟩, fun k hk => ⟨Pv.rw hR hk (D := C), Pv.ws hR hk (D := C), Pv.w1 hR hk, Pv.w2 hR hk⟩⟩
  have hG2 : G2 C W p q := ⟨hWv, hPp p hp6, hPp q hq6, hb p hp6, hb q hq6⟩
  have rp1 : ∀ D, (put (put σ L C) (gL B p q 0) D).2.2.2 (A 2) p = some (A (20 + p)) := fun D => (show (put σ L C).2.2.2 (A 2) p = _ from Pv.rp hR hp6)
  have rp2 : ∀ D, (put (put σ L C) (gL B p q 0) D).2.2.2 (A 2) q = some (A (20 + q)) := fun D => (show (put σ L C).2.2.2 (A 2) q = _ from Pv.rp hR hq6)
  have sp1 : ∀ D, (put (put σ L C) (gL B p q 0) D).1 (A 2) = some (27, 6) := fun D => (show (put σ L C).1 (A 2) = _ from Pv.sp hR)
  have s60 : ∀ D, (put (put σ L C) (gL B p q 0) D).1 (A 0) = some (6, 0) := fun D => (show (put σ L C).1 (A 0) = _ from Pv.sh hR)
  have r61 : ∀ D, (put (put σ L C) (gL B p q 0) D).2.2.2 (A 0) 1 = some (A 2) := fun D => (show (put σ L C).2.2.2 (A 0) 1 = _ from Pv.r1 hR)
  have q3 : ∀ D, (put (put σ L C) (gL B p q 0) D).2.2.2 hx 3 = some (A 0) := fun D => hg
  refine Kt.go (Y := MX0_playing) (ls := [some (.ref hx), some (.int (nI p)), some (.int (nI q)), some (.int (nI turns))]) (by decide) (Nat.le_of_ble_eq_true rfl) rfl ?_
  refine j_sg hD0.symm ?_
  first | refine j_aload_n dX0_playing_0 rfl ?_ | refine j_aload_nN dX0_playing_0 rfl ?_
  refine j_getR dX0_playing_1 fl_X0_69 rfl (by first | exact Fa.sh hf1 | exact Fa.f15 hf1 | exact Fa.f16 hf1 | exact Fa.s15 hf1 | exact Fa.s16 hf1 | exact Fa.on hf1 (by omega) | exact Fa.tw hf1 (by omega) | exact rp1 _ | exact rp2 _ | exact sp1 _ | exact s60 _ | exact r61 _ | exact q3 _ | exact Fa.sh hf | assumption) (by first | exact Fa.sh hf1 | exact Fa.f15 hf1 | exact Fa.f16 hf1 | exact Fa.s15 hf1 | exact Fa.s16 hf1 | exact Fa.on hf1 (by omega) | exact Fa.tw hf1 (by omega) | exact rp1 _ | exact rp2 _ | exact sp1 _ | exact s60 _ | exact r61 _ | exact q3 _ | exact Fa.f15 hf | assumption) ?_
  refine j_iconst (v := nI 0) dX0_playing_4 (by decide +kernel) ?_
  refine j_aald (t := 27) dX0_playing_5 (fun _ => rfl) (by decide) (by first | exact Fa.sh hf1 | exact Fa.f15 hf1 | exact Fa.f16 hf1 | exact Fa.s15 hf1 | exact Fa.s16 hf1 | exact Fa.on hf1 (by omega) | exact Fa.tw hf1 (by omega) | exact rp1 _ | exact rp2 _ | exact sp1 _ | exact s60 _ | exact r61 _ | exact q3 _ | exact Pe.sl hp | exact Pe.sa hp | exact Pe.sl hq | exact Pe.sa hq | exact Pv.sw hR | exact Pv.sp hR | exact Pv.sd hR | exact Fa.s0 hf | exact Fa.s12 hf | exact Fa.s13 hf | exact Fa.s14 hf | exact Fa.s15 hf | exact Fa.s16 hf | exact Fa.s20 hf | exact Fa.s21 hf | exact Fa.s23 hf | assumption) rfl (by omega) (by decide) (by first | exact Fa.sh hf1 | exact Fa.f15 hf1 | exact Fa.f16 hf1 | exact Fa.s15 hf1 | exact Fa.s16 hf1 | exact Fa.on hf1 (by omega) | exact Fa.tw hf1 (by omega) | exact rp1 _ | exact rp2 _ | exact sp1 _ | exact s60 _ | exact r61 _ | exact q3 _ | exact Pv.rw hR (by omega) | exact Pv.rp hR (by omega) | exact Pv.rd hR (by omega) | exact Fa.tr hf (by omega) | assumption) ?_
  first | refine j_aload_n dX0_playing_6 rfl ?_ | refine j_aload_nN dX0_playing_6 rfl ?_
  refine j_getR dX0_playing_7 fl_X0_38 rfl (by first | exact Fa.sh hf1 | exact Fa.f15 hf1 | exact Fa.f16 hf1 | exact Fa.s15 hf1 | exact Fa.s16 hf1 | exact Fa.on hf1 (by omega) | exact Fa.tw hf1 (by omega) | exact rp1 _ | exact rp2 _ | exact sp1 _ | exact s60 _ | exact r61 _ | exact q3 _ | exact Fa.sh hf | assumption) (by first | exact Fa.sh hf1 | exact Fa.f15 hf1 | exact Fa.f16 hf1 | exact Fa.s15 hf1 | exact Fa.s16 hf1 | exact Fa.on hf1 (by omega) | exact Fa.tw hf1 (by omega) | exact rp1 _ | exact rp2 _ | exact sp1 _ | exact s60 _ | exact r61 _ | exact q3 _ | exact Fq.f3 hg | assumption) ?_
  refine j_getR dX0_playing_10 fl_X0_211 rfl (by first | exact Fa.sh hf1 | exact Fa.f15 hf1 | exact Fa.f16 hf1 | exact Fa.s15 hf1 | exact Fa.s16 hf1 | exact Fa.on hf1 (by omega) | exact Fa.tw hf1 (by omega) | exact rp1 _ | exact rp2 _ | exact sp1 _ | exact s60 _ | exact r61 _ | exact q3 _ | exact Pv.sh hR | assumption) (by first | exact Fa.sh hf1 | exact Fa.f15 hf1 | exact Fa.f16 hf1 | exact Fa.s15 hf1 | exact Fa.s16 hf1 | exact Fa.on hf1 (by omega) | exact Fa.tw hf1 (by omega) | exact rp1 _ | exact rp2 _ | exact sp1 _ | exact s60 _ | exact r61 _ | exact q3 _ | exact Pv.r1 hR | assumption) ?_
  refine j_iload_n dX0_playing_13 rfl ?_
  refine j_aald (t := 27) dX0_playing_14 (fun _ => rfl) (by decide) (by first | exact Fa.sh hf1 | exact Fa.f15 hf1 | exact Fa.f16 hf1 | exact Fa.s15 hf1 | exact Fa.s16 hf1 | exact Fa.on hf1 (by omega) | exact Fa.tw hf1 (by omega) | exact rp1 _ | exact rp2 _ | exact sp1 _ | exact s60 _ | exact r61 _ | exact q3 _ | exact Pe.sl hp | exact Pe.sa hp | exact Pe.sl hq | exact Pe.sa hq | exact Pv.sw hR | exact Pv.sp hR | exact Pv.sd hR | exact Fa.s0 hf | exact Fa.s12 hf | exact Fa.s13 hf | exact Fa.s14 hf | exact Fa.s15 hf | exact Fa.s16 hf | exact Fa.s20 hf | exact Fa.s21 hf | exact Fa.s23 hf | assumption) rfl (by omega) (by decide) (by first | exact Fa.sh hf1 | exact Fa.f15 hf1 | exact Fa.f16 hf1 | exact Fa.s15 hf1 | exact Fa.s16 hf1 | exact Fa.on hf1 (by omega) | exact Fa.tw hf1 (by omega) | exact rp1 _ | exact rp2 _ | exact sp1 _ | exact s60 _ | exact r61 _ | exact q3 _ | exact Pv.rw hR (by omega) | exact Pv.rp hR (by omega) | exact Pv.rd hR (by omega) | exact Fa.tr hf (by omega) | assumption) ?_
  refine j_dV1 kl_X0_438 (x_takes hL hp hP1 hp6' (hb p hp6)) dX0_playing_15 rfl rfl (by decide) (by first | exact Fa.sh hf1 | exact Fa.f15 hf1 | exact Fa.f16 hf1 | exact Fa.s15 hf1 | exact Fa.s16 hf1 | exact Fa.on hf1 (by omega) | exact Fa.tw hf1 (by omega) | exact rp1 _ | exact rp2 _ | exact sp1 _ | exact s60 _ | exact r61 _ | exact q3 _ | exact Pe.sh hp | exact Pe.sh hq | assumption) (Nat.le_of_ble_eq_true rfl) (by first | decide | omega) (by omega) (by omega) ?_
  refine j_pop dX0_playing_18 rfl ?_
  first | refine j_aload_n dX0_playing_19 rfl ?_ | refine j_aload_nN dX0_playing_19 rfl ?_
  refine j_getR dX0_playing_20 fl_X0_73 rfl (by first | exact Fa.sh hf1 | exact Fa.f15 hf1 | exact Fa.f16 hf1 | exact Fa.s15 hf1 | exact Fa.s16 hf1 | exact Fa.on hf1 (by omega) | exact Fa.tw hf1 (by omega) | exact rp1 _ | exact rp2 _ | exact sp1 _ | exact s60 _ | exact r61 _ | exact q3 _ | exact Fa.sh hf | assumption) (by first | exact Fa.sh hf1 | exact Fa.f15 hf1 | exact Fa.f16 hf1 | exact Fa.s15 hf1 | exact Fa.s16 hf1 | exact Fa.on hf1 (by omega) | exact Fa.tw hf1 (by omega) | exact rp1 _ | exact rp2 _ | exact sp1 _ | exact s60 _ | exact r61 _ | exact q3 _ | exact Fa.f16 hf | assumption) ?_
  refine j_iconst (v := nI 0) dX0_playing_23 (by decide +kernel) ?_
  refine j_aald (t := 27) dX0_playing_24 (fun _ => rfl) (by decide) (by first | exact Fa.sh hf1 | exact Fa.f15 hf1 | exact Fa.f16 hf1 | exact Fa.s15 hf1 | exact Fa.s16 hf1 | exact Fa.on hf1 (by omega) | exact Fa.tw hf1 (by omega) | exact rp1 _ | exact rp2 _ | exact sp1 _ | exact s60 _ | exact r61 _ | exact q3 _ | exact Pe.sl hp | exact Pe.sa hp | exact Pe.sl hq | exact Pe.sa hq | exact Pv.sw hR | exact Pv.sp hR | exact Pv.sd hR | exact Fa.s0 hf | exact Fa.s12 hf | exact Fa.s13 hf | exact Fa.s14 hf | exact Fa.s15 hf | exact Fa.s16 hf | exact Fa.s20 hf | exact Fa.s21 hf | exact Fa.s23 hf | assumption) rfl (by omega) (by decide) (by first | exact Fa.sh hf1 | exact Fa.f15 hf1 | exact Fa.f16 hf1 | exact Fa.s15 hf1 | exact Fa.s16 hf1 | exact Fa.on hf1 (by omega) | exact Fa.tw hf1 (by omega) | exact rp1 _ | exact rp2 _ | exact sp1 _ | exact s60 _ | exact r61 _ | exact q3 _ | exact Pv.rw hR (by omega) | exact Pv.rp hR (by omega) | exact Pv.rd hR (by omega) | exact Fa.tr hf (by omega) | assumption) ?_
  first | refine j_aload_n dX0_playing_25 rfl ?_ | refine j_aload_nN dX0_playing_25 rfl ?_
  refine j_getR dX0_playing_26 fl_X0_38 rfl (by first | exact Fa.sh hf1 | exact Fa.f15 hf1 | exact Fa.f16 hf1 | exact Fa.s15 hf1 | exact Fa.s16 hf1 | exact Fa.on hf1 (by omega) | exact Fa.tw hf1 (by omega) | exact rp1 _ | exact rp2 _ | exact sp1 _ | exact s60 _ | exact r61 _ | exact q3 _ | exact Fa.sh hf | assumption) (by first | exact Fa.sh hf1 | exact Fa.f15 hf1 | exact Fa.f16 hf1 | exact Fa.s15 hf1 | exact Fa.s16 hf1 | exact Fa.on hf1 (by omega) | exact Fa.tw hf1 (by omega) | exact rp1 _ | exact rp2 _ | exact sp1 _ | exact s60 _ | exact r61 _ | exact q3 _ | exact Fq.f3 hg | assumption) ?_
  refine j_getR dX0_playing_29 fl_X0_211 rfl (by first | exact Fa.sh hf1 | exact Fa.f15 hf1 | exact Fa.f16 hf1 | exact Fa.s15 hf1 | exact Fa.s16 hf1 | exact Fa.on hf1 (by omega) | exact Fa.tw hf1 (by omega) | exact rp1 _ | exact rp2 _ | exact sp1 _ | exact s60 _ | exact r61 _ | exact q3 _ | exact Pv.sh hR | assumption) (by first | exact Fa.sh hf1 | exact Fa.f15 hf1 | exact Fa.f16 hf1 | exact Fa.s15 hf1 | exact Fa.s16 hf1 | exact Fa.on hf1 (by omega) | exact Fa.tw hf1 (by omega) | exact rp1 _ | exact rp2 _ | exact sp1 _ | exact s60 _ | exact r61 _ | exact q3 _ | exact Pv.r1 hR | assumption) ?_
  refine j_iload_n dX0_playing_32 rfl ?_
  refine j_aald (t := 27) dX0_playing_33 (fun _ => rfl) (by decide) (by first | exact Fa.sh hf1 | exact Fa.f15 hf1 | exact Fa.f16 hf1 | exact Fa.s15 hf1 | exact Fa.s16 hf1 | exact Fa.on hf1 (by omega) | exact Fa.tw hf1 (by omega) | exact rp1 _ | exact rp2 _ | exact sp1 _ | exact s60 _ | exact r61 _ | exact q3 _ | exact Pe.sl hp | exact Pe.sa hp | exact Pe.sl hq | exact Pe.sa hq | exact Pv.sw hR | exact Pv.sp hR | exact Pv.sd hR | exact Fa.s0 hf | exact Fa.s12 hf | exact Fa.s13 hf | exact Fa.s14 hf | exact Fa.s15 hf | exact Fa.s16 hf | exact Fa.s20 hf | exact Fa.s21 hf | exact Fa.s23 hf | assumption) rfl (by omega) (by decide) (by first | exact Fa.sh hf1 | exact Fa.f15 hf1 | exact Fa.f16 hf1 | exact Fa.s15 hf1 | exact Fa.s16 hf1 | exact Fa.on hf1 (by omega) | exact Fa.tw hf1 (by omega) | exact rp1 _ | exact rp2 _ | exact sp1 _ | exact s60 _ | exact r61 _ | exact q3 _ | exact Pv.rw hR (by omega) | exact Pv.rp hR (by omega) | exact Pv.rd hR (by omega) | exact Fa.tr hf (by omega) | assumption) ?_
  refine j_dV1 kl_X0_438 (x_takes hL hq hP2 hq6' (hb q hq6)) dX0_playing_34 rfl rfl (by decide) (by first | exact Fa.sh hf1 | exact Fa.f15 hf1 | exact Fa.f16 hf1 | exact Fa.s15 hf1 | exact Fa.s16 hf1 | exact Fa.on hf1 (by omega) | exact Fa.tw hf1 (by omega) | exact rp1 _ | exact rp2 _ | exact sp1 _ | exact s60 _ | exact r61 _ | exact q3 _ | exact Pe.sh hp | exact Pe.sh hq | assumption) (Nat.le_of_ble_eq_true rfl) (by first | decide | omega) (by omega) (by omega) ?_
  refine j_pop dX0_playing_37 rfl ?_
  refine j_sg eD ?_
  first | refine j_aload_n dX0_playing_38 rfl ?_ | refine j_aload_nN dX0_playing_38 rfl ?_
  refine j_iconst (v := nI 0) dX0_playing_39 (by decide +kernel) ?_
  refine j_iload_n dX0_playing_40 rfl ?_
  refine j_callV kl_X0_455 (x_plays (turns := turns) hB hp6' hq6' hpq htu turns 0 (Nat.zero_add _) hGb hG2) dX0_playing_41 rfl rfl (by decide) (by first | exact Fa.sh hf1 | exact Fa.f15 hf1 | exact Fa.f16 hf1 | exact Fa.s15 hf1 | exact Fa.s16 hf1 | exact Fa.on hf1 (by omega) | exact Fa.tw hf1 (by omega) | exact rp1 _ | exact rp2 _ | exact sp1 _ | exact s60 _ | exact r61 _ | exact q3 _ | exact Fa.sh hf | assumption) (Nat.le_of_ble_eq_true rfl) (by first | decide | omega) (by omega) (by omega) (fun v τ hq => ?_) (fun _ _ _ hq => hq.elim)
  obtain ⟨s, hs, rfl, hq1, hq2⟩ := hq
  refine j_eq (st' := [.int s.1]) rfl rfl rfl ?_
  refine j_iret dX0_playing_44 ⟨_, rfl, rfl⟩ (by omega) (by omega) ?_
  exact ⟨s, hs, rfl, gq_eqx hp6' hq6' hq1, hq2⟩
theorem q_game (hf : Fa σ hx B) (hg : Fq σ hx A) (hR : Pv σ L A C W P Dn Hn) (hw : Wx C W P Dn) (hb : Bb C P) (hB : Gi B) (hGL : ∀ x, gi x → ∀ k, L (B x) k = none) (p0 q0 t0 : Int32) : Kx g l hx B 9 MX0_game [.ref hx, .int p0, .int q0, .int t0] (put σ L C) 0 0 (some (.int (oGame C W P p0 q0 t0).1)) (put (xS σ hx (oGame C W P p0 q0 t0).2) L C) := by
  have hn := hR.nf hf
  rcases mWhyG_nn (P := P) (a := p0) (b := q0) (t := t0) (m := 0) with h0 | h0
  · obtain ⟨p, q, n, rfl, rfl, rfl, hp, hq, hpq, hn3, -⟩ := mWhyG_0 (by decide) h0
    have hP6 := hw.1.2.1.2
    refine Kt.go (Y := MX0_game) (ls := [some (.ref hx), some (.int (nI p)), some (.int (nI q)), some (.int (nI n)), none]) (by decide) (Nat.le_of_ble_eq_true rfl) rfl ?_
    first | refine j_aload_n dX0_game_0 rfl ?_ | refine j_aload_nN dX0_game_0 rfl ?_
    refine j_iload_n dX0_game_1 rfl ?_
    refine j_iload_n dX0_game_2 rfl ?_
    refine j_iload_n dX0_game_3 rfl ?_
    refine j_iconst (v := nI 0) dX0_game_4 (by decide +kernel) ?_
    refine j_dV1 kl_X0_460 (x_wrongGame hf hg hR hw _ _ _ _) dX0_game_5 rfl rfl (by decide) (by first | exact Fa.sh hf1 | exact Fa.f15 hf1 | exact Fa.f16 hf1 | exact Fa.s15 hf1 | exact Fa.s16 hf1 | exact Fa.on hf1 (by omega) | exact Fa.tw hf1 (by omega) | exact rp1 _ | exact rp2 _ | exact sp1 _ | exact s60 _ | exact r61 _ | exact q3 _ | exact Fa.sh hf | assumption) (Nat.le_of_ble_eq_true rfl) (by first | decide | omega) (by omega) (by omega) ?_
    refine j_eq (st' := [.int (nI 0)]) rfl (by rw [show nI 0 = (0 : Int32) from nI_0]; rw [h0]; rfl) rfl ?_
    refine j_istore dX0_game_8 (by decide) ?_
    refine j_iload dX0_game_10 rfl ?_
    first | (with_reducible refine j_gC ?_; refine j_if_leC (tgt := 24) dX0_game_12 (by decide) (fun c_12 => ?_) (fun c_12 => ?_)) | refine j_if_le (tgt := 24) dX0_game_12 (by decide) (fun c_12 => ?_) (fun c_12 => ?_)
    · first | refine j_aload_n dX0_game_24 rfl ?_ | refine j_aload_nN dX0_game_24 rfl ?_
      first | refine j_aload_n dX0_game_25 rfl ?_ | refine j_aload_nN dX0_game_25 rfl ?_
      refine j_iload_n dX0_game_26 rfl ?_
      refine j_iload_n dX0_game_27 rfl ?_
      refine j_iload_n dX0_game_28 rfl ?_
      refine j_callV kl_X0_464 (x_playing hf hg hR hw hb hB hGL hp hq hpq hn3) dX0_game_29 rfl rfl (by decide) (by first | exact Fa.sh hf1 | exact Fa.f15 hf1 | exact Fa.f16 hf1 | exact Fa.s15 hf1 | exact Fa.s16 hf1 | exact Fa.on hf1 (by omega) | exact Fa.tw hf1 (by omega) | exact rp1 _ | exact rp2 _ | exact sp1 _ | exact s60 _ | exact r61 _ | exact q3 _ | exact Fa.sh hf | assumption) (Nat.le_of_ble_eq_true rfl) (by first | decide | omega) (by omega) (by omega) (fun v τ hq => ?_) (fun _ _ _ hq => hq.elim)
      obtain ⟨s, hs, rfl, hq1, hq2⟩ := hq
      refine j_eq (st' := [.int s.1, .ref hx]) rfl rfl rfl ?_
      have hsx : τ.1 hx = some (0, 0) := (hq1.1 hx (by rw [show (put σ L C).1 hx = some (0, 0) from hf.1]; simp)).trans hf.1
      refine j_dV1 kl_X0_102 (x_gives hsx _) dX0_game_32 rfl rfl (by decide) (by first | exact Fa.sh hf1 | exact Fa.f15 hf1 | exact Fa.f16 hf1 | exact Fa.s15 hf1 | exact Fa.s16 hf1 | exact Fa.on hf1 (by omega) | exact Fa.tw hf1 (by omega) | exact rp1 _ | exact rp2 _ | exact sp1 _ | exact s60 _ | exact r61 _ | exact q3 _ | exact Fa.sh hf | assumption) (Nat.le_of_ble_eq_true rfl) (by first | decide | omega) (by omega) (by omega) ?_
      refine j_iret dX0_game_35 ⟨_, rfl, rfl⟩ (by omega) (by omega) ?_
      exact pyR hn (by unfold oGame; rw [if_pos h0, ixn_nI (by omega), ixn_nI (by omega), ixn_nI (by omega), ← hs]) hq1
    · exact absurd c_12 (by decide)
  · have h1 : ¬ mWhyG P p0 q0 t0 0 = nI 0 := fun e => by rw [e] at h0; exact absurd h0 (by decide)
    refine Kt.go (Y := MX0_game) (ls := [some (.ref hx), some (.int p0), some (.int q0), some (.int t0), none]) (by decide) (Nat.le_of_ble_eq_true rfl) rfl ?_
    first | refine j_aload_n dX0_game_0 rfl ?_ | refine j_aload_nN dX0_game_0 rfl ?_
    refine j_iload_n dX0_game_1 rfl ?_
    refine j_iload_n dX0_game_2 rfl ?_
    refine j_iload_n dX0_game_3 rfl ?_
    refine j_iconst (v := nI 0) dX0_game_4 (by decide +kernel) ?_
    refine j_dV1 kl_X0_460 (x_wrongGame hf hg hR hw _ _ _ _) dX0_game_5 rfl rfl (by decide) (by first | exact Fa.sh hf1 | exact Fa.f15 hf1 | exact Fa.f16 hf1 | exact Fa.s15 hf1 | exact Fa.s16 hf1 | exact Fa.on hf1 (by omega) | exact Fa.tw hf1 (by omega) | exact rp1 _ | exact rp2 _ | exact sp1 _ | exact s60 _ | exact r61 _ | exact q3 _ | exact Fa.sh hf | assumption) (Nat.le_of_ble_eq_true rfl) (by first | decide | omega) (by omega) (by omega) ?_
    refine j_istore dX0_game_8 (by decide) ?_
    refine j_iload dX0_game_10 rfl ?_
    first | (with_reducible refine j_gC ?_; refine j_if_leC (tgt := 24) dX0_game_12 (by decide) (fun c_12 => ?_) (fun c_12 => ?_)) | refine j_if_le (tgt := 24) dX0_game_12 (by decide) (fun c_12 => ?_) (fun c_12 => ?_)
    · exact absurd h0 (Int32.not_lt.mpr c_12)
    · first | refine j_aload_n dX0_game_15 rfl ?_ | refine j_aload_nN dX0_game_15 rfl ?_
      refine j_iload dX0_game_16 rfl ?_
      refine j_dV1 kl_X0_98 (x_none (Fa.sh hf) _) dX0_game_18 rfl rfl (by decide) (by first | exact Fa.sh hf1 | exact Fa.f15 hf1 | exact Fa.f16 hf1 | exact Fa.s15 hf1 | exact Fa.s16 hf1 | exact Fa.on hf1 (by omega) | exact Fa.tw hf1 (by omega) | exact rp1 _ | exact rp2 _ | exact sp1 _ | exact s60 _ | exact r61 _ | exact q3 _ | exact Fa.sh hf | assumption) (Nat.le_of_ble_eq_true rfl) (by first | decide | omega) (by omega) (by omega) ?_
      refine j_goto (tgt := 35) dX0_game_21 (by decide) ?_
      refine j_iret dX0_game_35 ⟨_, rfl, rfl⟩ (by omega) (by omega) ?_
      exact pyR hn (by unfold oGame; rw [if_neg h1]; rfl) Eqx.rf
theorem q_moveOf (hf : Fa σ hx B) (hg : Fq σ hx A) (hR : Pv σ L A C W P Dn Hn) (hw : Wx C W P Dn) (hb : Bb C P) (hB : Gi B) (hGL : ∀ x, gi x → ∀ k, L (B x) k = none) (p0 q0 t0 : Int32) : Kx g l hx B 9 MX0_moveOf [.ref hx, .int p0, .int q0, .int t0] (put σ L C) 0 0 (some (.int (oMoveOf C W P p0 q0 t0).1)) (put (xS σ hx (oMoveOf C W P p0 q0 t0).2) L C) := by
  have hn := hR.nf hf
  rcases mWhyG_nn (P := P) (a := p0) (b := q0) (t := t0) (m := nI 1) with h0 | h0
  · obtain ⟨p, q, n, rfl, rfl, rfl, hp, hq, hpq, hn3, hn1⟩ := mWhyG_0 (by decide) h0
    have hn0 : n ≠ 0 := by
      have : (nI 1).toInt = 1 := by decide
      omega
    have hP6 := hw.1.2.1.2
    have hW8 := hw.2.1.1
    refine Kt.go (Y := MX0_moveOf) (ls := [some (.ref hx), some (.int (nI p)), some (.int (nI q)), some (.int (nI n)), none]) (by decide) (Nat.le_of_ble_eq_true rfl) rfl ?_
    first | refine j_aload_n dX0_moveOf_0 rfl ?_ | refine j_aload_nN dX0_moveOf_0 rfl ?_
    refine j_iload_n dX0_moveOf_1 rfl ?_
    refine j_iload_n dX0_moveOf_2 rfl ?_
    refine j_iload_n dX0_moveOf_3 rfl ?_
    refine j_iconst (v := nI 1) dX0_moveOf_4 (by decide +kernel) ?_
    refine j_dV1 kl_X0_460 (x_wrongGame hf hg hR hw _ _ _ _) dX0_moveOf_5 rfl rfl (by decide) (by first | exact Fa.sh hf1 | exact Fa.f15 hf1 | exact Fa.f16 hf1 | exact Fa.s15 hf1 | exact Fa.s16 hf1 | exact Fa.on hf1 (by omega) | exact Fa.tw hf1 (by omega) | exact rp1 _ | exact rp2 _ | exact sp1 _ | exact s60 _ | exact r61 _ | exact q3 _ | exact Fa.sh hf | assumption) (Nat.le_of_ble_eq_true rfl) (by first | decide | omega) (by omega) (by omega) ?_
    rw [h0]
    refine j_istore dX0_moveOf_8 (by decide) ?_
    refine j_iload dX0_moveOf_10 rfl ?_
    first | (with_reducible refine j_gC ?_; refine j_if_leC (tgt := 22) dX0_moveOf_12 (by decide) (fun c_12 => ?_) (fun c_12 => ?_)) | refine j_if_le (tgt := 22) dX0_moveOf_12 (by decide) (fun c_12 => ?_) (fun c_12 => ?_)
    · first | refine j_aload_n dX0_moveOf_22 rfl ?_ | refine j_aload_nN dX0_moveOf_22 rfl ?_
      refine j_iload_n dX0_moveOf_23 rfl ?_
      refine j_iload_n dX0_moveOf_24 rfl ?_
      refine j_iload_n dX0_moveOf_25 rfl ?_
      refine j_callV kl_X0_464 (x_playing hf hg hR hw hb hB hGL hp hq hpq hn3) dX0_moveOf_26 rfl rfl (by decide) (by first | exact Fa.sh hf1 | exact Fa.f15 hf1 | exact Fa.f16 hf1 | exact Fa.s15 hf1 | exact Fa.s16 hf1 | exact Fa.on hf1 (by omega) | exact Fa.tw hf1 (by omega) | exact rp1 _ | exact rp2 _ | exact sp1 _ | exact s60 _ | exact r61 _ | exact q3 _ | exact Fa.sh hf | assumption) (Nat.le_of_ble_eq_true rfl) (by first | decide | omega) (by omega) (by omega) (fun v τ hq => ?_) (fun _ _ _ hq => hq.elim)
      obtain ⟨s, hs, rfl, hq1, hq2⟩ := hq
      refine j_eq (st' := [.int s.1]) rfl rfl rfl ?_
      have hsx : τ.1 hx = some (0, 0) := (hq1.1 hx (by rw [show (put σ L C).1 hx = some (0, 0) from hf.1]; simp)).trans hf.1
      have h17 := hq2 hn0
      have hle : ∀ k, s.2 = some k → k ≤ W := fun k hk => by
        rw [hs] at hk
        cases n with
        | zero => exact absurd rfl hn0
        | succ n => have := plS_lt _ _ hk; omega
      have e8 : xmv W s.2 = nI 8 ↔ s.2 = some W := by
        cases z : s.2 with
        | none => exact ⟨fun e => absurd e (by show ¬ (-1 : Int32) = nI 8; decide), fun e => by cases e⟩
        | some k =>
          have := hle k z
          unfold xmv
          dsimp only
          by_cases y : k = W
          · rw [if_pos y]; exact ⟨fun _ => by rw [y], fun _ => rfl⟩
          · rw [if_neg y]
            exact ⟨fun e => by have := (nI_eq (by omega) (by omega)).mp e; omega, fun e => by cases e; exact absurd rfl y⟩
      refine j_pop dX0_moveOf_29 rfl ?_
      first | refine j_aload_n dX0_moveOf_30 rfl ?_ | refine j_aload_nN dX0_moveOf_30 rfl ?_
      refine j_getI dX0_moveOf_31 fl_X0_435 rfl (by first | exact Fa.sh hf1 | exact Fa.f15 hf1 | exact Fa.f16 hf1 | exact Fa.s15 hf1 | exact Fa.s16 hf1 | exact Fa.on hf1 (by omega) | exact Fa.tw hf1 (by omega) | exact rp1 _ | exact rp2 _ | exact sp1 _ | exact s60 _ | exact r61 _ | exact q3 _ | exact Fa.sh hf | assumption) (by first | exact Fa.sh hf1 | exact Fa.f15 hf1 | exact Fa.f16 hf1 | exact Fa.s15 hf1 | exact Fa.s16 hf1 | exact Fa.on hf1 (by omega) | exact Fa.tw hf1 (by omega) | exact rp1 _ | exact rp2 _ | exact sp1 _ | exact s60 _ | exact r61 _ | exact q3 _ | assumption) ?_
      refine j_bipush (v := nI 8) dX0_moveOf_34 (by decide +kernel) ?_
      first | (with_reducible refine j_gNN ?_; refine j_icmp_neN (tgt := 48) dX0_moveOf_36 (by decide) (by omega) (by omega) (fun c_36 => ?_) (fun c_36 => ?_)) | refine j_icmp_ne (tgt := 48) dX0_moveOf_36 (by decide) (fun c_36 => ?_) (fun c_36 => ?_)
      · first | refine j_aload_n dX0_moveOf_48 rfl ?_ | refine j_aload_nN dX0_moveOf_48 rfl ?_
        first | refine j_aload_n dX0_moveOf_49 rfl ?_ | refine j_aload_nN dX0_moveOf_49 rfl ?_
        refine j_getI dX0_moveOf_50 fl_X0_435 rfl (by first | exact Fa.sh hf1 | exact Fa.f15 hf1 | exact Fa.f16 hf1 | exact Fa.s15 hf1 | exact Fa.s16 hf1 | exact Fa.on hf1 (by omega) | exact Fa.tw hf1 (by omega) | exact rp1 _ | exact rp2 _ | exact sp1 _ | exact s60 _ | exact r61 _ | exact q3 _ | exact Fa.sh hf | assumption) (by first | exact Fa.sh hf1 | exact Fa.f15 hf1 | exact Fa.f16 hf1 | exact Fa.s15 hf1 | exact Fa.s16 hf1 | exact Fa.on hf1 (by omega) | exact Fa.tw hf1 (by omega) | exact rp1 _ | exact rp2 _ | exact sp1 _ | exact s60 _ | exact r61 _ | exact q3 _ | assumption) ?_
        refine j_dV1 kl_X0_102 (x_gives hsx _) dX0_moveOf_53 rfl rfl (by decide) (by first | exact Fa.sh hf1 | exact Fa.f15 hf1 | exact Fa.f16 hf1 | exact Fa.s15 hf1 | exact Fa.s16 hf1 | exact Fa.on hf1 (by omega) | exact Fa.tw hf1 (by omega) | exact rp1 _ | exact rp2 _ | exact sp1 _ | exact s60 _ | exact r61 _ | exact q3 _ | exact Fa.sh hf | assumption) (Nat.le_of_ble_eq_true rfl) (by first | decide | omega) (by omega) (by omega) ?_
        refine j_iret dX0_moveOf_56 ⟨_, rfl, rfl⟩ (by omega) (by omega) ?_
        first
        | (have z : xmv W s.2 = nI 8 := c_36
           exact pyR hn (by unfold oMoveOf; rw [if_pos h0, ixn_nI (by omega), ixn_nI (by omega), ixn_nI (by omega), ← hs, if_pos (e8.mp z)]) hq1)
        | (have z : ¬ xmv W s.2 = nI 8 := c_36
           have z2 : ¬ s.2 = some W := fun e => z (e8.mpr e)
           have z3 : xmv W s.2 = oI s.2 := by
             cases y : s.2 with
             | none => rfl
             | some k =>
               unfold xmv
               dsimp only
               rw [if_neg (fun e => z2 (by rw [y, e]))]
               rfl
           rw [z3]
           exact pyR hn (by unfold oMoveOf; rw [if_pos h0, ixn_nI (by omega), ixn_nI (by omega), ixn_nI (by omega), ← hs, if_neg z2]) hq1)
      · first | refine j_aload_n dX0_moveOf_39 rfl ?_ | refine j_aload_nN dX0_moveOf_39 rfl ?_
        refine j_bipush (v := nI 8) dX0_moveOf_40 (by decide +kernel) ?_
        refine j_dV1 kl_X0_98 (x_none hsx _) dX0_moveOf_42 rfl rfl (by decide) (by first | exact Fa.sh hf1 | exact Fa.f15 hf1 | exact Fa.f16 hf1 | exact Fa.s15 hf1 | exact Fa.s16 hf1 | exact Fa.on hf1 (by omega) | exact Fa.tw hf1 (by omega) | exact rp1 _ | exact rp2 _ | exact sp1 _ | exact s60 _ | exact r61 _ | exact q3 _ | exact Fa.sh hf | assumption) (Nat.le_of_ble_eq_true rfl) (by first | decide | omega) (by omega) (by omega) ?_
        refine j_goto (tgt := 56) dX0_moveOf_45 (by decide) ?_
        refine j_iret dX0_moveOf_56 ⟨_, rfl, rfl⟩ (by omega) (by omega) ?_
        first
        | (have z : xmv W s.2 = nI 8 := c_36
           exact pyR hn (by unfold oMoveOf; rw [if_pos h0, ixn_nI (by omega), ixn_nI (by omega), ixn_nI (by omega), ← hs, if_pos (e8.mp z)]) hq1)
        | (have z : ¬ xmv W s.2 = nI 8 := c_36
           have z2 : ¬ s.2 = some W := fun e => z (e8.mpr e)
           have z3 : xmv W s.2 = oI s.2 := by
             cases y : s.2 with
             | none => rfl
             | some k =>
               unfold xmv
               dsimp only
               rw [if_neg (fun e => z2 (by rw [y, e]))]
               rfl
           rw [z3]
           exact pyR hn (by unfold oMoveOf; rw [if_pos h0, ixn_nI (by omega), ixn_nI (by omega), ixn_nI (by omega), ← hs, if_neg z2]) hq1)
    · exact absurd c_12 (by decide)
  · have h1 : ¬ mWhyG P p0 q0 t0 (nI 1) = nI 0 := fun e => by rw [e] at h0; exact absurd h0 (by decide)
    refine Kt.go (Y := MX0_moveOf) (ls := [some (.ref hx), some (.int p0), some (.int q0), some (.int t0), none]) (by decide) (Nat.le_of_ble_eq_true rfl) rfl ?_
    first | refine j_aload_n dX0_moveOf_0 rfl ?_ | refine j_aload_nN dX0_moveOf_0 rfl ?_
    refine j_iload_n dX0_moveOf_1 rfl ?_
    refine j_iload_n dX0_moveOf_2 rfl ?_
    refine j_iload_n dX0_moveOf_3 rfl ?_
    refine j_iconst (v := nI 1) dX0_moveOf_4 (by decide +kernel) ?_
    refine j_dV1 kl_X0_460 (x_wrongGame hf hg hR hw _ _ _ _) dX0_moveOf_5 rfl rfl (by decide) (by first | exact Fa.sh hf1 | exact Fa.f15 hf1 | exact Fa.f16 hf1 | exact Fa.s15 hf1 | exact Fa.s16 hf1 | exact Fa.on hf1 (by omega) | exact Fa.tw hf1 (by omega) | exact rp1 _ | exact rp2 _ | exact sp1 _ | exact s60 _ | exact r61 _ | exact q3 _ | exact Fa.sh hf | assumption) (Nat.le_of_ble_eq_true rfl) (by first | decide | omega) (by omega) (by omega) ?_
    refine j_istore dX0_moveOf_8 (by decide) ?_
    refine j_iload dX0_moveOf_10 rfl ?_
    first | (with_reducible refine j_gC ?_; refine j_if_leC (tgt := 22) dX0_moveOf_12 (by decide) (fun c_12 => ?_) (fun c_12 => ?_)) | refine j_if_le (tgt := 22) dX0_moveOf_12 (by decide) (fun c_12 => ?_) (fun c_12 => ?_)
    · exact absurd h0 (Int32.not_lt.mpr c_12)
    · first | refine j_aload_n dX0_moveOf_15 rfl ?_ | refine j_aload_nN dX0_moveOf_15 rfl ?_
      refine j_iload dX0_moveOf_16 rfl ?_
      refine j_dV1 kl_X0_98 (x_none (Fa.sh hf) _) dX0_moveOf_18 rfl rfl (by decide) (by first | exact Fa.sh hf1 | exact Fa.f15 hf1 | exact Fa.f16 hf1 | exact Fa.s15 hf1 | exact Fa.s16 hf1 | exact Fa.on hf1 (by omega) | exact Fa.tw hf1 (by omega) | exact rp1 _ | exact rp2 _ | exact sp1 _ | exact s60 _ | exact r61 _ | exact q3 _ | exact Fa.sh hf | assumption) (Nat.le_of_ble_eq_true rfl) (by first | decide | omega) (by omega) (by omega) ?_
      refine j_iret dX0_moveOf_21 ⟨_, rfl, rfl⟩ (by omega) (by omega) ?_
      exact pyR hn (by unfold oMoveOf; rw [if_neg h1]) Eqx.rf
theorem x_powerOf {b n : Nat} (hb : b ≤ 16) (hn : n ≤ 100) : Kd g l 0 MX0_powerOf [.int (nI b), .int (nI n)] τ (some (.long (lN (b ^ n)))) τ := by
  refine Kt.go (Y := MX0_powerOf) (ls := [some (.int (nI b)), some (.int (nI n)), none, none, none]) (by decide) (Nat.le_of_ble_eq_true rfl) rfl ?_
  have key : ∀ j, j ≤ n → Td g l 0 MX0_powerOf [.int (nI b), .int (nI n)] τ (some (.long (lN (b ^ n)))) 5 [some (.int (nI b)), some (.int (nI n)), some (.long (lN (b ^ j))), none, some (.int (nI j))] [] τ := by
    refine loop_up fun j hj ih => ?_
    refine j_iload dX0_powerOf_5 rfl ?_
    refine j_iload_n dX0_powerOf_7 rfl ?_
    first | (with_reducible refine j_gNN ?_; refine j_icmp_geN (tgt := 22) dX0_powerOf_8 (by decide) (by omega) (by omega) (fun c_8 => ?_) (fun c_8 => ?_)) | refine j_icmp_ge (tgt := 22) dX0_powerOf_8 (by decide) (fun c_8 => ?_) (fun c_8 => ?_)
    · refine j_lload_n dX0_powerOf_22 rfl ?_
      refine j_lret dX0_powerOf_23 rfl (by omega) (by omega) ?_
      exact ⟨by rw [show j = n by omega], rfl⟩
    · refine j_lload_n dX0_powerOf_11 rfl ?_
      refine j_iload_n dX0_powerOf_12 rfl ?_
      refine j_i2l dX0_powerOf_13 ?_
      rw [nI_64 (by omega)]
      refine j_lmul dX0_powerOf_14 ?_
      rw [lN_mul', ← Nat.pow_succ]
      refine j_lstore_n dX0_powerOf_15 (by decide) ?_
      first | refine j_iincN dX0_powerOf_16 rfl (by decide) ?_ | refine j_iinc dX0_powerOf_16 rfl rfl (by decide) ?_
      refine j_goto (tgt := 5) dX0_powerOf_19 (by decide) ?_
      exact ih (by omega)
  refine j_lconst (v := 1) dX0_powerOf_0 (by decide +kernel) ?_
  refine j_lstore_n dX0_powerOf_1 (by decide) ?_
  refine j_iconst (v := nI 0) dX0_powerOf_2 (by decide +kernel) ?_
  refine j_istore dX0_powerOf_3 (by decide) ?_
  exact key 0 (by omega)
theorem x_tell (hs0 : τ.1 hx = some (0, 0)) {n d : Nat} (hn : n < 2 ^ 62) (hd : d < 2 ^ 62) (hd1 : 1 ≤ d) : Kd g l 1 MX0_tell [.ref hx, .long (lN n), .long (lN d)] τ (some (.int (bI true))) (sI (frX τ hx (some (n, d))) hx 6 (nI 0)) := by
  refine Kt.go (Y := MX0_tell) (ls := [some (.ref hx), some (.long (lN n)), none, some (.long (lN d)), none, none, none, none, none, none, none]) (by decide) (Nat.le_of_ble_eq_true rfl) rfl ?_
  have key : ∀ b a x y, a < 2 ^ 62 → b < 2 ^ 62 → (a.gcd b = n.gcd d) → (0 < a ∨ 0 < b) → Td g l 1 MX0_tell [.ref hx, .long (lN n), .long (lN d)] (sI (frX τ hx (some (n, d))) hx 6 (nI 0)) (some (.int (bI true))) 6 [some (.ref hx), some (.long (lN n)), none, some (.long (lN d)), none, some (.long (lN a)), none, some (.long (lN b)), none, x, y] [] τ := by
    refine loop_dn fun b ih => ?_
    intro a x y ha hb hg hp
    by_cases hb0 : b = 0
    · subst hb0
      have ea : a = n.gcd d := by rw [← hg, Nat.gcd_zero_right]
      have hne : ¬ lN a = 0 := fun q => by
        have := lN_inj (by omega) (by decide) (q.trans lN_0.symm)
        omega
      have hs1 : ∀ x, (sL τ hx 9 x).1 hx = some (0, 0) := fun x => hs0
      have hs2 : ∀ x y, (sL (sL τ hx 9 x) hx 10 y).1 hx = some (0, 0) := fun x y => hs0
      refine j_lload dX0_tell_6 rfl ?_
      refine j_lconst (v := 0) dX0_tell_8 (by decide +kernel) ?_
      refine j_lcmp dX0_tell_9 ?_
      first | (with_reducible refine j_gB ?_; refine j_if_eqB (tgt := 31) dX0_tell_10 (by decide) (fun c_10 => ?_) (fun c_10 => ?_)) | (with_reducible refine j_gC ?_; refine j_if_eqC (tgt := 31) dX0_tell_10 (by decide) (fun c_10 => ?_) (fun c_10 => ?_)) | (with_reducible refine j_gN ?_; refine j_if_eqN (tgt := 31) dX0_tell_10 (by decide) (by omega) (fun c_10 => ?_) (fun c_10 => ?_)) | refine j_if_eq (tgt := 31) dX0_tell_10 (by decide) (fun c_10 => ?_) (fun c_10 => ?_)
      · first | refine j_aload_n dX0_tell_31 rfl ?_ | refine j_aload_nN dX0_tell_31 rfl ?_
        refine j_lload_n dX0_tell_32 rfl ?_
        refine j_lload dX0_tell_33 rfl ?_
        refine j_ldiv dX0_tell_35 hne ?_
        refine j_putL dX0_tell_36 fl_X0_95 rfl (by first | exact hs1 _ | exact hs2 _ _ | exact Fa.sh hf | assumption) rfl rfl rfl ?_
        first | refine j_aload_n dX0_tell_39 rfl ?_ | refine j_aload_nN dX0_tell_39 rfl ?_
        refine j_lload_n dX0_tell_40 rfl ?_
        refine j_lload dX0_tell_41 rfl ?_
        refine j_ldiv dX0_tell_43 hne ?_
        refine j_putL dX0_tell_44 fl_X0_49 rfl (by first | exact hs1 _ | exact hs2 _ _ | exact Fa.sh hf | assumption) rfl rfl rfl ?_
        first | refine j_aload_n dX0_tell_47 rfl ?_ | refine j_aload_nN dX0_tell_47 rfl ?_
        refine j_iconst (v := nI 0) dX0_tell_48 (by decide +kernel) ?_
        refine j_dV1 kl_X0_105 (x_is (hs2 _ _) _) dX0_tell_49 rfl rfl (by decide) (by first | exact hs1 _ | exact hs2 _ _ | exact Fa.sh hf | assumption) (Nat.le_of_ble_eq_true rfl) (by first | decide | omega) (by omega) (by omega) ?_
        refine j_iret dX0_tell_52 ⟨_, rfl, bI_nar _⟩ (by omega) (by omega) ?_
        exact ⟨rfl, by rw [lN_div hn (by omega), lN_div hd (by omega), ea]; rfl⟩
      · exact absurd lN_0 c_10
    · have hne : ¬ lN b = 0 := fun q => hb0 (lN_inj (by omega) (by decide) (q.trans lN_0.symm))
      have hm : a % b < b := Nat.mod_lt _ (by omega)
      refine j_lload dX0_tell_6 rfl ?_
      refine j_lconst (v := 0) dX0_tell_8 (by decide +kernel) ?_
      refine j_lcmp dX0_tell_9 ?_
      first | (with_reducible refine j_gB ?_; refine j_if_eqB (tgt := 31) dX0_tell_10 (by decide) (fun c_10 => ?_) (fun c_10 => ?_)) | (with_reducible refine j_gC ?_; refine j_if_eqC (tgt := 31) dX0_tell_10 (by decide) (fun c_10 => ?_) (fun c_10 => ?_)) | (with_reducible refine j_gN ?_; refine j_if_eqN (tgt := 31) dX0_tell_10 (by decide) (by omega) (fun c_10 => ?_) (fun c_10 => ?_)) | refine j_if_eq (tgt := 31) dX0_tell_10 (by decide) (fun c_10 => ?_) (fun c_10 => ?_)
      · exact absurd c_10 hne
      · refine j_lload dX0_tell_13 rfl ?_
        refine j_lload dX0_tell_15 rfl ?_
        refine j_lrem dX0_tell_17 hne ?_
        refine j_topL (lN_rem ha hb) ?_
        refine j_lstore dX0_tell_18 (by decide) ?_
        refine j_lload dX0_tell_20 rfl ?_
        refine j_lstore dX0_tell_22 (by decide) ?_
        refine j_lload dX0_tell_24 rfl ?_
        refine j_lstore dX0_tell_26 (by decide) ?_
        refine j_goto (tgt := 6) dX0_tell_28 (by decide) ?_
        exact ih (a % b) hm b _ _ hb (by omega) (by rw [← hg, Nat.gcd_comm b, ← Nat.gcd_rec, Nat.gcd_comm]) (Or.inl (by omega))
  refine j_lload_n dX0_tell_0 rfl ?_
  refine j_lstore dX0_tell_1 (by decide) ?_
  refine j_lload_n dX0_tell_3 rfl ?_
  refine j_lstore dX0_tell_4 (by decide) ?_
  exact key d n none none hn hd rfl (Or.inr hd1)
theorem pow12 {a n : Nat} (ha : a ≤ 16) (hn : n ≤ 12) : a ^ n < 2 ^ 62 := by
  have h1 : a ^ n ≤ 16 ^ n := Nat.pow_le_pow_left ha n
  have h2 : 16 ^ n ≤ 16 ^ 12 := Nat.pow_le_pow_right (by decide) hn
  have h3 : (16 : Nat) ^ 12 < 2 ^ 62 := by decide
  omega
theorem frX_put {n d : Nat} (w : Int32) (hn : ∀ k, L hx k = none) : sI (frX (put σ L C) hx (some (n, d))) hx 6 w = put (xS (frX σ hx (some (n, d))) hx w) L C := by
  show sI (put (frX σ hx (some (n, d))) L C) hx 6 w = _
  rw [put_n (hn 6)]
  rfl
theorem q_safe (hf : Fa σ hx B) (hg : Fq σ hx A) (hR : Pv σ L A C W P Dn Hn) (hw : Wx C W P Dn) {od : Nat} (ho : C 5 = nI od) (h16 : od ≤ 16) (k0 n0 : Int32) : Kd g l 3 MX0_safe [.ref hx, .int k0, .int n0] (put σ L C) (some (.int (bI (oSafe C W P od k0 n0).1))) (put (xS (frX σ hx (oSafe C W P od k0 n0).2.2) hx (oSafe C W P od k0 n0).2.1) L C) := by
  obtain ⟨⟨⟨hW, hW8⟩, ⟨hP, hP6⟩, ⟨hD, hD6⟩, hdn⟩, hWv, hPp⟩ := id hw
  have hn := hR.nf hf
  by_cases hk : okN k0 W = true
  · by_cases hn0 : okN n0 3 = true
    · obtain ⟨k, hk2, rfl⟩ := okN_nI hk
      obtain ⟨n, hn2, rfl⟩ := okN_nI hn0
      obtain ⟨m, m1, m2, -⟩ := mPeopleWith_nI (C := C) (r := 43) (k := k) hP6
      have hm : m < 256 := Nat.lt_of_lt_of_le m1 (pw_le (n := 8) (by omega))
      have epw := pw_pop hP6 hm m2
      have hpw6 := (szOf_pw (C := C) (r := 43) (k := k) hP6).2
      have hnp : n * pop m ≤ 12 := by rw [epw]; exact Nat.mul_le_mul (show n ≤ 2 by omega) hpw6
      have eo : oSafe C W P od (nI k) (nI n) = (true, nI 0, some ((16 - od) ^ (n * pop m), 16 ^ (n * pop m))) := by
        unfold oSafe
        rw [if_pos hk, if_pos hn0, ixn_nI (by omega), ixn_nI (by omega), epw]
      rw [eo]
      refine Kt.go (Y := MX0_safe) (ls := [some (.ref hx), some (.int (nI k)), some (.int (nI n)), none]) (by decide) (Nat.le_of_ble_eq_true rfl) rfl ?_
      first | refine j_aload_n dX0_safe_0 rfl ?_ | refine j_aload_nN dX0_safe_0 rfl ?_
      refine j_iload_n dX0_safe_1 rfl ?_
      refine j_dV1 kl_X0_242 (x_isWord hf hg hR hW hW8 _) dX0_safe_2 rfl rfl (by decide) (by first | exact Fa.sh hf | assumption) (Nat.le_of_ble_eq_true rfl) (by first | decide | omega) (by omega) (by omega) ?_
      first | (with_reducible refine j_gB ?_; refine j_if_neB (tgt := 14) dX0_safe_5 (by decide) (fun c_5 => ?_) (fun c_5 => ?_)) | (with_reducible refine j_gC ?_; refine j_if_neC (tgt := 14) dX0_safe_5 (by decide) (fun c_5 => ?_) (fun c_5 => ?_)) | (with_reducible refine j_gN ?_; refine j_if_neN (tgt := 14) dX0_safe_5 (by decide) (by omega) (fun c_5 => ?_) (fun c_5 => ?_)) | refine j_if_ne (tgt := 14) dX0_safe_5 (by decide) (fun c_5 => ?_) (fun c_5 => ?_)
      · refine j_iload_n dX0_safe_14 rfl ?_
        refine j_i2l dX0_safe_15 ?_
        refine j_lconst (v := 0) dX0_safe_16 (by decide +kernel) ?_
        refine j_ldc2 (v := 2) dX0_safe_17 q1364 ?_
        refine j_dS1 kl_X0_162 (k_isFrom _ _ _) dX0_safe_20 rfl rfl (Nat.le_of_ble_eq_true rfl) (by first | decide | omega) (by omega) (by omega) ?_
        rw [inL_ok (n := 3) (by decide +kernel)]
        first | (with_reducible refine j_gB ?_; refine j_if_neB (tgt := 32) dX0_safe_23 (by decide) (fun c_23 => ?_) (fun c_23 => ?_)) | (with_reducible refine j_gC ?_; refine j_if_neC (tgt := 32) dX0_safe_23 (by decide) (fun c_23 => ?_) (fun c_23 => ?_)) | (with_reducible refine j_gN ?_; refine j_if_neN (tgt := 32) dX0_safe_23 (by decide) (by omega) (fun c_23 => ?_) (fun c_23 => ?_)) | refine j_if_ne (tgt := 32) dX0_safe_23 (by decide) (fun c_23 => ?_) (fun c_23 => ?_)
        · refine j_iload_n dX0_safe_32 rfl ?_
          first | refine j_aload_n dX0_safe_33 rfl ?_ | refine j_aload_nN dX0_safe_33 rfl ?_
          refine j_getR dX0_safe_34 fl_X0_38 rfl (by first | exact Fa.sh hf | assumption) (by first | exact Fq.f3 hg | assumption) ?_
          refine j_iload_n dX0_safe_37 rfl ?_
          refine j_iconst (v := nI 1) dX0_safe_38 (by decide +kernel) ?_
          refine j_dV1 kl_X0_257 (x_peopleS hR hP hP6) dX0_safe_39 rfl rfl (by decide) (by first | exact Pv.sh hR | assumption) (Nat.le_of_ble_eq_true rfl) (by first | decide | omega) (by omega) (by omega) ?_
          rw [m2]
          refine j_dS1 kl_X0_326 (k_bits hm) dX0_safe_42 rfl rfl (Nat.le_of_ble_eq_true rfl) (by first | decide | omega) (by omega) (by omega) ?_
          first | (with_reducible refine j_gNN ?_; refine j_imulN dX0_safe_45 ?_) | refine j_imul dX0_safe_45 ?_
          refine j_istore_n dX0_safe_46 (by decide) ?_
          first | refine j_aload_n dX0_safe_47 rfl ?_ | refine j_aload_nN dX0_safe_47 rfl ?_
          refine j_bipush (v := nI 16) dX0_safe_48 (by decide +kernel) ?_
          first | refine j_aload_n dX0_safe_50 rfl ?_ | refine j_aload_nN dX0_safe_50 rfl ?_
          refine j_getR dX0_safe_51 fl_X0_38 rfl (by first | exact Fa.sh hf | assumption) (by first | exact Fq.f3 hg | assumption) ?_
          refine j_getI dX0_safe_54 fl_X0_224 rfl (by first | exact Pv.sh hR | assumption) (by first | exact pg (Pv.li hR 9 5 rfl (by decide)) | assumption) ?_
          rw [ho]
          refine j_isub dX0_safe_57 ?_
          rw [nI_sub h16]
          refine j_iload_n dX0_safe_58 rfl ?_
          refine j_dS1 kl_X0_467 (x_powerOf (by omega) (by omega)) dX0_safe_59 rfl rfl (Nat.le_of_ble_eq_true rfl) (by first | decide | omega) (by omega) (by omega) ?_
          refine j_bipush (v := nI 16) dX0_safe_62 (by decide +kernel) ?_
          refine j_iload_n dX0_safe_64 rfl ?_
          refine j_dS1 kl_X0_467 (x_powerOf (by omega) (by omega)) dX0_safe_65 rfl rfl (Nat.le_of_ble_eq_true rfl) (by first | decide | omega) (by omega) (by omega) ?_
          refine j_dV1 kl_X0_471 (x_tell (Fa.sh hf) (pow12 (by omega) hnp) (pow12 (by omega) hnp) (Nat.one_le_pow _ _ (by decide))) dX0_safe_68 rfl rfl (by decide) (by first | exact Fa.sh hf | assumption) (Nat.le_of_ble_eq_true rfl) (by first | decide | omega) (by omega) (by omega) ?_
          refine j_iret dX0_safe_71 ⟨_, rfl, bI_nar _⟩ (by omega) (by omega) ?_
          exact ⟨rfl, frX_put _ hn⟩
        · rw [hn0] at c_23; cases c_23
      · rw [hk] at c_5; cases c_5
    · have e3 := Bool.eq_false_iff.mpr hn0
      refine Kt.go (Y := MX0_safe) (ls := [some (.ref hx), some (.int k0), some (.int n0), none]) (by decide) (Nat.le_of_ble_eq_true rfl) rfl ?_
      first | refine j_aload_n dX0_safe_0 rfl ?_ | refine j_aload_nN dX0_safe_0 rfl ?_
      refine j_iload_n dX0_safe_1 rfl ?_
      refine j_dV1 kl_X0_242 (x_isWord hf hg hR hW hW8 _) dX0_safe_2 rfl rfl (by decide) (by first | exact Fa.sh hf | assumption) (Nat.le_of_ble_eq_true rfl) (by first | decide | omega) (by omega) (by omega) ?_
      first | (with_reducible refine j_gB ?_; refine j_if_neB (tgt := 14) dX0_safe_5 (by decide) (fun c_5 => ?_) (fun c_5 => ?_)) | (with_reducible refine j_gC ?_; refine j_if_neC (tgt := 14) dX0_safe_5 (by decide) (fun c_5 => ?_) (fun c_5 => ?_)) | (with_reducible refine j_gN ?_; refine j_if_neN (tgt := 14) dX0_safe_5 (by decide) (by omega) (fun c_5 => ?_) (fun c_5 => ?_)) | refine j_if_ne (tgt := 14) dX0_safe_5 (by decide) (fun c_5 => ?_) (fun c_5 => ?_)
      · refine j_iload_n dX0_safe_14 rfl ?_
        refine j_i2l dX0_safe_15 ?_
        refine j_lconst (v := 0) dX0_safe_16 (by decide +kernel) ?_
        refine j_ldc2 (v := 2) dX0_safe_17 q1364 ?_
        refine j_dS1 kl_X0_162 (k_isFrom _ _ _) dX0_safe_20 rfl rfl (Nat.le_of_ble_eq_true rfl) (by first | decide | omega) (by omega) (by omega) ?_
        rw [inL_ok (n := 3) (by decide +kernel)]
        first | (with_reducible refine j_gB ?_; refine j_if_neB (tgt := 32) dX0_safe_23 (by decide) (fun c_23 => ?_) (fun c_23 => ?_)) | (with_reducible refine j_gC ?_; refine j_if_neC (tgt := 32) dX0_safe_23 (by decide) (fun c_23 => ?_) (fun c_23 => ?_)) | (with_reducible refine j_gN ?_; refine j_if_neN (tgt := 32) dX0_safe_23 (by decide) (by omega) (fun c_23 => ?_) (fun c_23 => ?_)) | refine j_if_ne (tgt := 32) dX0_safe_23 (by decide) (fun c_23 => ?_) (fun c_23 => ?_)
        · rw [e3] at c_23; cases c_23
        · first | refine j_aload_n dX0_safe_26 rfl ?_ | refine j_aload_nN dX0_safe_26 rfl ?_
          refine j_iconst (v := nI 5) dX0_safe_27 (by decide +kernel) ?_
          refine j_dV1 kl_X0_105 (x_is (Fa.sh hf) _) dX0_safe_28 rfl rfl (by decide) (by first | exact Fa.sh hf | assumption) (Nat.le_of_ble_eq_true rfl) (by first | decide | omega) (by omega) (by omega) ?_
          refine j_iret dX0_safe_31 ⟨_, rfl, bI_nar _⟩ (by omega) (by omega) ?_
          exact ⟨by unfold oSafe; rw [if_pos hk, if_neg hn0]; rfl, by unfold oSafe; rw [if_pos hk, if_neg hn0]; exact put_n (hn 6)⟩
      · rw [hk] at c_5; cases c_5
  · have e3 := Bool.eq_false_iff.mpr hk
    refine Kt.go (Y := MX0_safe) (ls := [some (.ref hx), some (.int k0), some (.int n0), none]) (by decide) (Nat.le_of_ble_eq_true rfl) rfl ?_
    first | refine j_aload_n dX0_safe_0 rfl ?_ | refine j_aload_nN dX0_safe_0 rfl ?_
    refine j_iload_n dX0_safe_1 rfl ?_
    refine j_dV1 kl_X0_242 (x_isWord hf hg hR hW hW8 _) dX0_safe_2 rfl rfl (by decide) (by first | exact Fa.sh hf | assumption) (Nat.le_of_ble_eq_true rfl) (by first | decide | omega) (by omega) (by omega) ?_
    first | (with_reducible refine j_gB ?_; refine j_if_neB (tgt := 14) dX0_safe_5 (by decide) (fun c_5 => ?_) (fun c_5 => ?_)) | (with_reducible refine j_gC ?_; refine j_if_neC (tgt := 14) dX0_safe_5 (by decide) (fun c_5 => ?_) (fun c_5 => ?_)) | (with_reducible refine j_gN ?_; refine j_if_neN (tgt := 14) dX0_safe_5 (by decide) (by omega) (fun c_5 => ?_) (fun c_5 => ?_)) | refine j_if_ne (tgt := 14) dX0_safe_5 (by decide) (fun c_5 => ?_) (fun c_5 => ?_)
    · rw [e3] at c_5; cases c_5
    · first | refine j_aload_n dX0_safe_8 rfl ?_ | refine j_aload_nN dX0_safe_8 rfl ?_
      refine j_iconst (v := nI 2) dX0_safe_9 (by decide +kernel) ?_
      refine j_dV1 kl_X0_105 (x_is (Fa.sh hf) _) dX0_safe_10 rfl rfl (by decide) (by first | exact Fa.sh hf | assumption) (Nat.le_of_ble_eq_true rfl) (by first | decide | omega) (by omega) (by omega) ?_
      refine j_iret dX0_safe_13 ⟨_, rfl, bI_nar _⟩ (by omega) (by omega) ?_
      exact ⟨by unfold oSafe; rw [if_neg hk]; rfl, by unfold oSafe; rw [if_neg hk]; exact put_n (hn 6)⟩
theorem rk_lt {C : Nat → Int32} {P : Nat} : ∀ n k, itr (rkF C P) n none = some k → k < n := by
  intro n
  induction n with
  | zero => intro k h; cases h
  | succ n ih =>
    intro k h
    rw [itr] at h
    cases e : itr (rkF C P) n none with
    | none => rw [e] at h; cases h; omega
    | some b =>
      rw [e] at h
      have := ih b e
      unfold rkF at h
      dsimp only at h
      split at h <;> cases h <;> omega
theorem q_riskiest (hf : Fa σ hx B) (hg : Fq σ hx A) (hR : Pv σ L A C W P Dn Hn) (hw : Wx C W P Dn) {od : Nat} (ho : C 5 = nI od) (h16 : od ≤ 16) : Kd g l 3 MX0_riskiest [.ref hx] (put σ L C) (some (.int (oRiskiest C W P).1)) (put (xS σ hx (oRiskiest C W P).2) L C) := by
  obtain ⟨⟨⟨hW, hW8⟩, ⟨hP, hP6⟩, ⟨hD, hD6⟩, hdn⟩, hWv, hPp⟩ := id hw
  have hn := hR.nf hf
  refine Kt.go (Y := MX0_riskiest) (ls := [some (.ref hx), none, none, none, none, none, none, none]) (by decide) (Nat.le_of_ble_eq_true rfl) rfl ?_
  have key : ∀ j, j ≤ W → ∀ o le x5 x6, o = itr (rkF C P) j none → (∀ b, o = some b → le = riskF C P b) → Td g l 3 MX0_riskiest [.ref hx] (put (xS σ hx (oRiskiest C W P).2) L C) (some (.int (oRiskiest C W P).1)) 7 [some (.ref hx), some (.int (oI o)), some (.long le), none, some (.int (nI j)), x5, x6, none] [] (put σ L C) := by
    refine loop_up fun j hj ih => ?_
    intro o le x5 x6 ho2 hle
    obtain ⟨m, m1, m2, -⟩ := mPeopleWith_nI (C := C) (r := 43) (k := j) hP6
    have hm : m < 256 := Nat.lt_of_lt_of_le m1 (pw_le (n := 8) (by omega))
    have epw := pw_pop hP6 hm m2
    have hpw6 := (szOf_pw (C := C) (r := 43) (k := j) hP6).2
    have erk : lN ((16 - od) ^ pop m) * lN (16 ^ (6 - pop m)) = riskF C P j := by
      unfold riskF
      rw [lN_mul', epw]
      have := mSafe_ab (C := C) (times := pw C P 43 j) ho h16 (by omega) (6 - pw C P 43 j) (by omega)
      rw [show pw C P 43 j + (6 - pw C P 43 j) = 6 by omega] at this
      rw [this]
    have hst : itr (rkF C P) (j + 1) none = rkF C P j o := by rw [itr, ← ho2]
    refine j_iload dX0_riskiest_7 rfl ?_
    first | refine j_aload_n dX0_riskiest_9 rfl ?_ | refine j_aload_nN dX0_riskiest_9 rfl ?_
    refine j_getR dX0_riskiest_10 fl_X0_38 rfl (by first | exact Fa.sh hf | assumption) (by first | exact Fq.f3 hg | assumption) ?_
    refine j_getI dX0_riskiest_13 fl_X0_147 rfl (by first | exact Pv.sh hR | assumption) (by first | exact pg (Pv.li hR 4 0 rfl (by decide)) | assumption) ?_
    rw [hW]
    first | (with_reducible refine j_gNN ?_; refine j_icmp_geN (tgt := 89) dX0_riskiest_16 (by decide) (by omega) (by omega) (fun c_16 => ?_) (fun c_16 => ?_)) | refine j_icmp_ge (tgt := 89) dX0_riskiest_16 (by decide) (fun c_16 => ?_) (fun c_16 => ?_)
    · first | refine j_aload_n dX0_riskiest_89 rfl ?_ | refine j_aload_nN dX0_riskiest_89 rfl ?_
      refine j_iload_n dX0_riskiest_90 rfl ?_
      refine j_dV1 kl_X0_309 (x_orNothing (Fa.sh hf) _) dX0_riskiest_91 rfl rfl (by decide) (by first | exact Fa.sh hf | assumption) (Nat.le_of_ble_eq_true rfl) (by first | decide | omega) (by omega) (by omega) ?_
      refine j_iret dX0_riskiest_94 ⟨_, rfl, rfl⟩ (by omega) (by omega) ?_
      have e : j = W := by omega
      subst e
      refine pxR hn ?_
      unfold oRiskiest
      rw [← ho2]
      cases ho3 : o with
      | none => rfl
      | some b =>
        rw [ho3] at ho2
        have hbj := rk_lt _ _ ho2.symm
        show (nI (b + 0), nI 0) = (nI b, if nI b = -1 then nI 8 else nI 0)
        rw [if_neg (nI_m1 (by omega))]
        rfl
    · first | refine j_aload_n dX0_riskiest_19 rfl ?_ | refine j_aload_nN dX0_riskiest_19 rfl ?_
      refine j_getR dX0_riskiest_20 fl_X0_38 rfl (by first | exact Fa.sh hf | assumption) (by first | exact Fq.f3 hg | assumption) ?_
      refine j_iload dX0_riskiest_23 rfl ?_
      refine j_iconst (v := nI 1) dX0_riskiest_25 (by decide +kernel) ?_
      refine j_dV1 kl_X0_257 (x_peopleS hR hP hP6) dX0_riskiest_26 rfl rfl (by decide) (by first | exact Pv.sh hR | assumption) (Nat.le_of_ble_eq_true rfl) (by first | decide | omega) (by omega) (by omega) ?_
      rw [m2]
      refine j_dS1 kl_X0_326 (k_bits hm) dX0_riskiest_29 rfl rfl (Nat.le_of_ble_eq_true rfl) (by first | decide | omega) (by omega) (by omega) ?_
      refine j_istore dX0_riskiest_32 (by decide) ?_
      refine j_bipush (v := nI 16) dX0_riskiest_34 (by decide +kernel) ?_
      first | refine j_aload_n dX0_riskiest_36 rfl ?_ | refine j_aload_nN dX0_riskiest_36 rfl ?_
      refine j_getR dX0_riskiest_37 fl_X0_38 rfl (by first | exact Fa.sh hf | assumption) (by first | exact Fq.f3 hg | assumption) ?_
      refine j_getI dX0_riskiest_40 fl_X0_224 rfl (by first | exact Pv.sh hR | assumption) (by first | exact pg (Pv.li hR 9 5 rfl (by decide)) | assumption) ?_
      rw [ho]
      refine j_isub dX0_riskiest_43 ?_
      rw [nI_sub h16]
      refine j_iload dX0_riskiest_44 rfl ?_
      refine j_dS1 kl_X0_467 (x_powerOf (by omega) (by omega)) dX0_riskiest_46 rfl rfl (Nat.le_of_ble_eq_true rfl) (by first | decide | omega) (by omega) (by omega) ?_
      refine j_bipush (v := nI 16) dX0_riskiest_49 (by decide +kernel) ?_
      refine j_bipush (v := nI 6) dX0_riskiest_51 (by decide +kernel) ?_
      refine j_iload dX0_riskiest_53 rfl ?_
      refine j_isub dX0_riskiest_55 ?_
      rw [nI_sub (show pop m ≤ 6 by omega)]
      refine j_dS1 kl_X0_467 (x_powerOf (by omega) (by omega)) dX0_riskiest_56 rfl rfl (Nat.le_of_ble_eq_true rfl) (by first | decide | omega) (by omega) (by omega) ?_
      refine j_lmul dX0_riskiest_59 ?_
      rw [erk]
      refine j_lstore dX0_riskiest_60 (by decide) ?_
      refine j_iload_n dX0_riskiest_62 rfl ?_
      refine j_iconst (v := -1) dX0_riskiest_63 (by decide +kernel) ?_
      first | (with_reducible refine j_gNN ?_; refine j_icmp_eqN (tgt := 77) dX0_riskiest_64 (by decide) (by omega) (by omega) (fun c_64 => ?_) (fun c_64 => ?_)) | refine j_icmp_eq (tgt := 77) dX0_riskiest_64 (by decide) (fun c_64 => ?_) (fun c_64 => ?_)
      · refine j_lload dX0_riskiest_77 rfl ?_
        refine j_lstore_n dX0_riskiest_79 (by decide) ?_
        refine j_iload dX0_riskiest_80 rfl ?_
        refine j_istore_n dX0_riskiest_82 (by decide) ?_
        cases ho3 : o with
        | none =>
          subst ho3
          first | refine j_iincN dX0_riskiest_83 rfl (by decide) ?_ | refine j_iinc dX0_riskiest_83 rfl rfl (by decide) ?_
          refine j_goto (tgt := 7) dX0_riskiest_86 (by decide) ?_
          first
          | exact absurd rfl c_64
          | exact ih (by omega) (some j) (riskF C P j) _ _ (by rw [hst]; rfl) (fun b hb => by cases hb; rfl)
        | some b =>
          subst ho3
          have hlb := hle b rfl
          have hbj := rk_lt _ _ ho2.symm
          first | refine j_iincN dX0_riskiest_83 rfl (by decide) ?_ | refine j_iinc dX0_riskiest_83 rfl rfl (by decide) ?_
          refine j_goto (tgt := 7) dX0_riskiest_86 (by decide) ?_
          first
          | (have z : oI (some b) = -1 := c_64
             exact absurd z (nI_m1 (by omega)))
          | (have z : riskF C P j < le := c_71
             exact ih (by omega) (some j) (riskF C P j) _ _ (by rw [hst, rkF, if_pos (by rw [← hlb]; exact z)]) (fun b hb => by cases hb; rfl))
          | (have z : ¬ riskF C P j < le := c_71
             exact ih (by omega) (some b) le _ _ (by rw [hst, rkF, if_neg (by rw [← hlb]; exact z)]) (fun b2 hb => by cases hb; exact hlb))
      · refine j_lload dX0_riskiest_67 rfl ?_
        refine j_lload_n dX0_riskiest_69 rfl ?_
        refine j_lcmp dX0_riskiest_70 ?_
        first | (with_reducible refine j_gC ?_; refine j_if_ltC (tgt := 77) dX0_riskiest_71 (by decide) (fun c_71 => ?_) (fun c_71 => ?_)) | refine j_if_lt (tgt := 77) dX0_riskiest_71 (by decide) (fun c_71 => ?_) (fun c_71 => ?_)
        · refine j_lload dX0_riskiest_77 rfl ?_
          refine j_lstore_n dX0_riskiest_79 (by decide) ?_
          refine j_iload dX0_riskiest_80 rfl ?_
          refine j_istore_n dX0_riskiest_82 (by decide) ?_
          cases ho3 : o with
          | none =>
            subst ho3
            first | refine j_iincN dX0_riskiest_83 rfl (by decide) ?_ | refine j_iinc dX0_riskiest_83 rfl rfl (by decide) ?_
            refine j_goto (tgt := 7) dX0_riskiest_86 (by decide) ?_
            first
            | exact absurd rfl c_64
            | exact ih (by omega) (some j) (riskF C P j) _ _ (by rw [hst]; rfl) (fun b hb => by cases hb; rfl)
          | some b =>
            subst ho3
            have hlb := hle b rfl
            have hbj := rk_lt _ _ ho2.symm
            first | refine j_iincN dX0_riskiest_83 rfl (by decide) ?_ | refine j_iinc dX0_riskiest_83 rfl rfl (by decide) ?_
            refine j_goto (tgt := 7) dX0_riskiest_86 (by decide) ?_
            first
            | (have z : oI (some b) = -1 := c_64
               exact absurd z (nI_m1 (by omega)))
            | (have z : riskF C P j < le := c_71
               exact ih (by omega) (some j) (riskF C P j) _ _ (by rw [hst, rkF, if_pos (by rw [← hlb]; exact z)]) (fun b hb => by cases hb; rfl))
            | (have z : ¬ riskF C P j < le := c_71
               exact ih (by omega) (some b) le _ _ (by rw [hst, rkF, if_neg (by rw [← hlb]; exact z)]) (fun b2 hb => by cases hb; exact hlb))
        · refine j_goto (tgt := 83) dX0_riskiest_74 (by decide) ?_
          cases ho3 : o with
          | none =>
            subst ho3
            first | refine j_iincN dX0_riskiest_83 rfl (by decide) ?_ | refine j_iinc dX0_riskiest_83 rfl rfl (by decide) ?_
            refine j_goto (tgt := 7) dX0_riskiest_86 (by decide) ?_
            first
            | exact absurd rfl c_64
            | exact ih (by omega) (some j) (riskF C P j) _ _ (by rw [hst]; rfl) (fun b hb => by cases hb; rfl)
          | some b =>
            subst ho3
            have hlb := hle b rfl
            have hbj := rk_lt _ _ ho2.symm
            first | refine j_iincN dX0_riskiest_83 rfl (by decide) ?_ | refine j_iinc dX0_riskiest_83 rfl rfl (by decide) ?_
            refine j_goto (tgt := 7) dX0_riskiest_86 (by decide) ?_
            first
            | (have z : oI (some b) = -1 := c_64
               exact absurd z (nI_m1 (by omega)))
            | (have z : riskF C P j < le := c_71
               exact ih (by omega) (some j) (riskF C P j) _ _ (by rw [hst, rkF, if_pos (by rw [← hlb]; exact z)]) (fun b hb => by cases hb; rfl))
            | (have z : ¬ riskF C P j < le := c_71
               exact ih (by omega) (some b) le _ _ (by rw [hst, rkF, if_neg (by rw [← hlb]; exact z)]) (fun b2 hb => by cases hb; exact hlb))
  refine j_iconst (v := -1) dX0_riskiest_0 (by decide +kernel) ?_
  refine j_istore_n dX0_riskiest_1 (by decide) ?_
  refine j_lconst (v := 0) dX0_riskiest_2 (by decide +kernel) ?_
  refine j_lstore_n dX0_riskiest_3 (by decide) ?_
  refine j_iconst (v := nI 0) dX0_riskiest_4 (by decide +kernel) ?_
  refine j_istore dX0_riskiest_5 (by decide) ?_
  exact key 0 (by omega) none 0 _ _ rfl (fun b hb => by cases hb)
end X19s
