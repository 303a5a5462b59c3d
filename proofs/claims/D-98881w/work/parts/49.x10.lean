/-! X: SCRATCH; ASK -/
set_option maxRecDepth 100000
/-- what is scratch in x -/
def xsc (σ : Sg) (hx : Nat) (B : Nat → Nat) (b k : Nat) : Prop := b = B 12 ∨ b = B 13 ∨ b = B 14 ∨ b = B 20 ∨ (b = hx ∧ (k = 17 ∨ k = 18 ∨ k = 19)) ∨ (σ.1 b = some (12, 0) ∧ k = 7) ∨ ∃ i, i < 4 ∧ (b = B (40 + i) ∨ b = B (50 + i) ∨ b = B (60 + i) ∨ b = B (70 + i) ∨ b = B (80 + i) ∨ b = B (90 + i))
/-- alike but for scratch, and for new cells -/
def Eqx (hx : Nat) (B : Nat → Nat) (τ σ : Sg) : Prop := (∀ a, σ.1 a ≠ none → τ.1 a = σ.1 a) ∧ (∀ b k, σ.1 b ≠ none → ¬ xsc σ hx B b k → τ.2.1 b k = σ.2.1 b k) ∧ (∀ b, σ.1 b ≠ none → τ.2.2.1 b = σ.2.2.1 b) ∧ ∀ b k, σ.1 b ≠ none → ¬ (b = hx ∧ k = 11) → τ.2.2.2 b k = σ.2.2.2 b k
theorem Eqx.rf {hx : Nat} {B : Nat → Nat} {σ : Sg} : Eqx hx B σ σ := ⟨fun _ _ => rfl, fun _ _ _ _ => rfl, fun _ _ => rfl, fun _ _ _ _ => rfl⟩
theorem Eqx.tr {hx : Nat} {B : Nat → Nat} {ρ τ σ : Sg} (h1 : Eqx hx B ρ τ) (h2 : Eqx hx B τ σ) : Eqx hx B ρ σ := by
  have e : ∀ b, σ.1 b ≠ none → τ.1 b ≠ none := fun b hb => by rw [h2.1 b hb]; exact hb
  refine ⟨fun a ha => (h1.1 a (e a ha)).trans (h2.1 a ha), fun b k hb hn => (h1.2.1 b k (e b hb) ?_).trans (h2.2.1 b k hb hn), fun b hb => (h1.2.2.1 b (e b hb)).trans (h2.2.2.1 b hb), fun b k hb hn => (h1.2.2.2 b k (e b hb) hn).trans (h2.2.2.2 b k hb hn)⟩
  intro q
  apply hn
  unfold xsc at q ⊢
  rwa [h2.1 b hb] at q
theorem Eqx.su {hx : Nat} {B : Nat → Nat} {σ : Sg} {a : Nat} {F : Nat → Int32} (h : ∀ k, xsc σ hx B a k) : Eqx hx B (sU σ a F) σ := by
  refine ⟨fun _ _ => rfl, fun b k _ hn => ?_, fun _ _ => rfl, fun _ _ _ _ => rfl⟩
  have : b ≠ a := fun e => hn (by rw [e]; exact h k)
  rw [sU_n this]
theorem Eqx.si {hx : Nat} {B : Nat → Nat} {σ : Sg} {a i : Nat} {x : Int32} (h : xsc σ hx B a i) : Eqx hx B (sI σ a i x) σ := by
  refine ⟨fun _ _ => rfl, fun b k _ hn => ?_, fun _ _ => rfl, fun _ _ _ _ => rfl⟩
  rw [sI_at, if_neg]
  rintro ⟨rfl, rfl⟩
  exact hn h
theorem Eqx.i {hx : Nat} {B : Nat → Nat} {τ σ : Sg} {a i : Nat} {x : Int32} (h : Eqx hx B τ σ) : Eqx hx B (sI τ a i x) (sI σ a i x) := by
  refine ⟨h.1, fun b k hb hn => ?_, h.2.2.1, h.2.2.2⟩
  rw [sI_at, sI_at]
  split
  · rfl
  · exact h.2.1 b k hb hn
/-- a contract: it answers v and leaves σ' but for scratch and new cells -/
def Kx (g : Gx) (l : Launch) (hx : Nat) (B : Nat → Nat) (d : Nat) (Y : Mi) (av : List Value) (σ : Sg) (mc ms : Nat) (v : Option Value) (σ' : Sg) : Prop := Kt g l d Y av σ mc ms (fun r τ => r = v ∧ Eqx hx B τ σ') (fun _ _ _ => False)
theorem pyR {σ ρ : Sg} {hx : Nat} {B : Nat → Nat} {L : Nat → Nat → Option Nat} {C : Nat → Int32} (hn : ∀ k, L hx k = none) {o : Int32 × Int32} {v w : Int32} (e : o = (v, w)) (hq : Eqx hx B ρ (put σ L C)) : some (Value.int v) = some (Value.int o.1) ∧ Eqx hx B (sI ρ hx 6 w) (put (xS σ hx o.2) L C) := by
  rw [e]
  refine ⟨rfl, ?_⟩
  have : put (xS σ hx w) L C = sI (put σ L C) hx 6 w := (put_n (hn 6)).symm
  rw [this]
  exact hq.i
/-- the lengths of sets -/
theorem grown_b {C : Nat → Int32} {W : Nat} (hW : Wv C W) (s : Int32) {n : Nat} (hn : n < 1000) : ∀ j, j ≤ W → ∃ v, v ≤ 9 * 99 * j ∧ sumTo (grF C s (nI n)) j = nI v := by
  have h8 := hW.1
  intro j
  induction j with
  | zero => intro _; exact ⟨0, by omega, rfl⟩
  | succ j ih =>
    intro hj
    obtain ⟨v, h1, h2⟩ := ih (by omega)
    obtain ⟨r, y, w1, w2, w3, w4⟩ := hW.2 j (by omega)
    rw [sumTo, h2, grF]
    split
    · rw [w1, w3, mn_nI (by omega) (by omega), nI_mul, nI_add]
      refine ⟨v + r * min n y, ?_, rfl⟩
      have : r * min n y ≤ 9 * 99 := Nat.mul_le_mul w2 (by omega)
      omega
    · exact ⟨v, by omega, by rw [nI_0, Int32.add_zero]⟩
/-- not seen before s: no set that fits has the length v -/
def sn (C : Nat → Int32) (W : Nat) (days : Int32) (f : Nat → Bool) (v s : Nat) : Bool := allB (fun e => !(f e && decide (mGrown C W (nI e) days = nI v))) s
theorem ul_pos {C : Nat → Int32} {W : Nat} {days : Int32} {f : Nat → Bool} : ∀ n, 1 ≤ cntB f n → 1 ≤ cntB (ulB C W days f) n := by
  intro n
  induction n with
  | zero => intro h; exact h
  | succ n ih =>
    intro h
    rw [cntB] at h ⊢
    by_cases z : 1 ≤ cntB f n
    · have := ih z
      split <;> omega
    · have hz : cntB f n = 0 := by omega
      have hf : f n = true := by
        split at h
        · assumption
        · omega
      have ha : ∀ m, cntB f m = 0 → ∀ e, e < m → f e = false := by
        intro m
        induction m with
        | zero => intro _ e he; omega
        | succ m ihm =>
          intro hm e he
          rw [cntB] at hm
          split at hm
          · omega
          · next q =>
            by_cases e1 : e = m
            · subst e1; exact Bool.eq_false_iff.mpr q
            · exact ihm hm e (by omega)
      have hb : ∀ m, m ≤ n → allB (ulF C W days f n) m = true := by
        intro m
        induction m with
        | zero => intro _; rfl
        | succ m ihm =>
          intro hm
          rw [allB, ihm (by omega), ulF, ha n hz m (by omega)]
          rfl
      have : ulB C W days f n = true := by unfold ulB; rw [hf, hb n (Nat.le_refl _)]; rfl
      rw [if_pos this]
      omega
section X10s
variable {g : Gx} {l : Launch} {σ τ : Sg} {L : Nat → Nat → Option Nat} {A B : Nat → Nat} {C S M : Nat → Int32} {N : Nat → Int64} {W P Dn Hn k p q hx : Nat}
theorem Fa.l12 (hf : Fa σ hx B) (hR : Pv σ L A C W P Dn Hn) : ∀ k, L (B 12) k = none := hR.noL (Fa.s12 (L := L) (D := C) hf) (by decide) (by decide) (by decide)
theorem x_unlikeIn (hf0 : Fa σ hx B) (hg0 : Fq σ hx A) (hR0 : Pv σ L A C W P Dn Hn) (hw : Wx C W P Dn) (hT0 : Tr σ L B S M N) {t c m d : Nat} (ht : t < 4) (hM : M t = nI m) (hm : m ≤ 60) (hc : 2 * c ≤ m) (hd : d ≤ 99) (G0 : Nat → Int32) :
    Kt g l 4 MX0_unlikeIn [.ref hx, .int (nI t), .int (nI c), .int (nI d)] (put (sU σ (B 12) G0) L C) 0 0 (fun r τ => r = some (.int (nI (mUnlike C W (nI d) (wU C W N t c)))) ∧ ∃ G, τ = put (sU σ (B 12) G) L C) (fun _ _ _ => False) := by
  obtain ⟨⟨⟨hW, hW8⟩, ⟨hP, hP6⟩, ⟨hD, hD6⟩, hdn⟩, hWv, hPp⟩ := id hw
  have h8 := pw8 hW8
  have h1p := @pw_pos W
  have s12 : σ.1 (B 12) = some (24, 7200) := Fa.s12 (L := L) (D := C) hf0
  have hR' : ∀ G, Pv (sU σ (B 12) G) L A C W P Dn Hn := fun G => hR0.su s12 (by decide) (by decide)
  have hT' : ∀ G, Tr (sU σ (B 12) G) L B S M N := fun G => hT0.su (fun t ht e => by
    have := Fa.ts (L := L) (D := C) hf0 ht
    rw [e] at this
    exact absurd (this.symm.trans (Fa.s12 (L := L) (D := C) hf0)) (by decide)) (hT0.ns s12 (Or.inl (Or.inr (by decide))))
  have hl12 := hf0.l12 hR0
  have hlen : ∀ s, ∃ v, v < 7200 ∧ mGrown C W (nI s) (nI d) = nI v := fun s => by
    obtain ⟨v, v1, v2⟩ := grown_b hWv (nI s) (n := d) (by omega) W (Nat.le_refl _)
    exact ⟨v, by omega, v2⟩
  refine Kt.go (Y := MX0_unlikeIn) (ls := [some (.ref hx), some (.int (nI t)), some (.int (nI c)), some (.int (nI d)), none, none]) (by decide) (Nat.le_of_ble_eq_true rfl) rfl ?_
  have key2 : ∀ j, j ≤ 2 ^ W → ∀ G, (∀ v, v < 7200 → G v = bI (!sn C W (nI d) (wU C W N t c) v j)) → Tj g l 4 MX0_unlikeIn [.ref hx, .int (nI t), .int (nI c), .int (nI d)] 0 0 (fun r τ => r = some (.int (nI (mUnlike C W (nI d) (wU C W N t c)))) ∧ ∃ G, τ = put (sU σ (B 12) G) L C) (fun _ _ _ => False) 0 0 33 [some (.ref hx), some (.int (nI t)), some (.int (nI c)), some (.int (nI d)), some (.int (nI (cntB (ulB C W (nI d) (wU C W N t c)) j))), some (.int (nI j))] [] (put (sU σ (B 12) G) L C) := by
    refine loop_up fun j hj ih => ?_
    intro G hG
    have hf : Fa (sU σ (B 12) G) hx B := hf0
    have hg : Fq (sU σ (B 12) G) hx A := hg0
    have hR := hR' G
    have hT := hT' G
    obtain ⟨v, v1, v2⟩ := hlen j
    have hcn := cntB_le (f := ulB C W (nI d) (wU C W N t c)) j
    have hGv : (put (sU σ (B 12) G) L C).2.1 (B 12) v = bI (!sn C W (nI d) (wU C W N t c) v j) := (pgn (hl12 v)).trans ((congrFun sU_e v).trans (hG v v1))
    have hu : wU C W N t c j = mIsU C W N t c (nI j) := rfl
    have hul : ulB C W (nI d) (wU C W N t c) j = (wU C W N t c j && sn C W (nI d) (wU C W N t c) v j) := by
      unfold ulB sn
      congr 2
      funext e
      unfold ulF
      rw [v2]
    have hsn : ∀ v', sn C W (nI d) (wU C W N t c) v' (j + 1) = (sn C W (nI d) (wU C W N t c) v' j && !(wU C W N t c j && decide (nI v = nI v'))) := fun v' => by unfold sn; rw [allB, v2]
    have hvv : ∀ v', v' < 7200 → (nI v = nI v' ↔ v = v') := fun v' h => nI_eq (by omega) (by omega)
    refine j_iload dX0_unlikeIn_33 rfl ?_
    first | refine j_aload_n dX0_unlikeIn_35 rfl ?_ | refine j_aload_nN dX0_unlikeIn_35 rfl ?_
    refine j_getR dX0_unlikeIn_36 fl_X0_38 rfl (by first | exact Fa.sh hf | assumption) (by first | exact Fq.f3 hg | assumption) ?_
    refine j_dV1 kl_X0_158 (x_allWords hR hW hW8) dX0_unlikeIn_39 rfl rfl (by decide) (by first | exact Pv.sh hR | assumption) (Nat.le_of_ble_eq_true rfl) (by first | decide | omega) (by omega) (by omega) ?_
    first | (with_reducible refine j_gNN ?_; refine j_icmp_gtN (tgt := 96) dX0_unlikeIn_42 (by decide) (by omega) (by omega) (fun c_42 => ?_) (fun c_42 => ?_)) | refine j_icmp_gt (tgt := 96) dX0_unlikeIn_42 (by decide) (fun c_42 => ?_) (fun c_42 => ?_)
    · refine j_iload dX0_unlikeIn_96 rfl ?_
      refine j_iret dX0_unlikeIn_98 ⟨_, rfl, rfl⟩ (by omega) (by omega) ?_
      exact ⟨by rw [mUnlike, show j = 2 ^ W by omega], G, rfl⟩
    · first | refine j_aload_n dX0_unlikeIn_45 rfl ?_ | refine j_aload_nN dX0_unlikeIn_45 rfl ?_
      refine j_iload_n dX0_unlikeIn_46 rfl ?_
      refine j_iload_n dX0_unlikeIn_47 rfl ?_
      refine j_iload dX0_unlikeIn_48 rfl ?_
      refine j_dV1 kl_X0_381 (x_canBe hf hg hR hw hT ht hM hm hc _) dX0_unlikeIn_50 rfl rfl (by decide) (by first | exact Fa.sh hf | assumption) (Nat.le_of_ble_eq_true rfl) (by first | decide | omega) (by omega) (by omega) ?_
      first | (with_reducible refine j_gB ?_; refine j_if_eqB (tgt := 90) dX0_unlikeIn_53 (by decide) (fun c_53 => ?_) (fun c_53 => ?_)) | (with_reducible refine j_gC ?_; refine j_if_eqC (tgt := 90) dX0_unlikeIn_53 (by decide) (fun c_53 => ?_) (fun c_53 => ?_)) | (with_reducible refine j_gN ?_; refine j_if_eqN (tgt := 90) dX0_unlikeIn_53 (by decide) (by omega) (fun c_53 => ?_) (fun c_53 => ?_)) | refine j_if_eq (tgt := 90) dX0_unlikeIn_53 (by decide) (fun c_53 => ?_) (fun c_53 => ?_)
      · first | refine j_iincN dX0_unlikeIn_90 rfl (by decide) ?_ | refine j_iinc dX0_unlikeIn_90 rfl rfl (by decide) ?_
        refine j_goto (tgt := 33) dX0_unlikeIn_93 (by decide) ?_
        have z := ih (by omega)
        rw [cntB, hul, hu] at z
        first
        | (rw [c_53] at z
           exact z G (fun v' hv' => by rw [hG v' hv', hsn, hu, c_53, Bool.false_and, Bool.not_false, Bool.and_true]))
        | (have c2 : sn C W (nI d) (wU C W N t c) v j = true := by
             cases y : sn C W (nI d) (wU C W N t c) v j with
             | true => rfl
             | false => rw [y] at c_68; exact absurd c_68 (by decide)
           rw [c_53, c2] at z
           exact z _ (fun v' hv' => by
             rw [hsn, hu, c_53, Bool.true_and]
             by_cases e : v = v'
             · subst e
               rw [up_eq, decide_eq_true rfl, Bool.not_true, Bool.and_false]
               rfl
             · rw [up_ne (fun q => e q.symm), hG v' hv', decide_eq_false (fun q => e ((hvv v' hv').mp q)), Bool.not_false, Bool.and_true]))
        | (have c2 : sn C W (nI d) (wU C W N t c) v j = false := by
             cases y : sn C W (nI d) (wU C W N t c) v j with
             | false => rfl
             | true => rw [y] at c_68; exact absurd c_68 (by decide)
           rw [c_53, c2] at z
           exact z G (fun v' hv' => by
             rw [hsn, hu, c_53, Bool.true_and, hG v' hv']
             by_cases e : v = v'
             · subst e
               rw [c2, Bool.false_and]
             · rw [decide_eq_false (fun q => e ((hvv v' hv').mp q)), Bool.not_false, Bool.and_true]))
      · first | refine j_aload_n dX0_unlikeIn_56 rfl ?_ | refine j_aload_nN dX0_unlikeIn_56 rfl ?_
        refine j_getR dX0_unlikeIn_57 fl_X0_56 rfl (by first | exact Fa.sh hf | assumption) (by first | exact Fa.f12 hf | assumption) ?_
        first | refine j_aload_n dX0_unlikeIn_60 rfl ?_ | refine j_aload_nN dX0_unlikeIn_60 rfl ?_
        refine j_iload dX0_unlikeIn_61 rfl ?_
        refine j_iload_n dX0_unlikeIn_63 rfl ?_
        refine j_dV1 kl_X0_378 (x_lengthBy hf hg hR hw _ _) dX0_unlikeIn_64 rfl rfl (by decide) (by first | exact Fa.sh hf | assumption) (Nat.le_of_ble_eq_true rfl) (by first | decide | omega) (by omega) (by omega) ?_
        rw [v2]
        refine j_zald dX0_unlikeIn_67 (Fa.s12 hf) rfl v1 (by decide) hGv ?_
        first | (with_reducible refine j_gB ?_; refine j_if_eqB (tgt := 74) dX0_unlikeIn_68 (by decide) (fun c_68 => ?_) (fun c_68 => ?_)) | (with_reducible refine j_gC ?_; refine j_if_eqC (tgt := 74) dX0_unlikeIn_68 (by decide) (fun c_68 => ?_) (fun c_68 => ?_)) | (with_reducible refine j_gN ?_; refine j_if_eqN (tgt := 74) dX0_unlikeIn_68 (by decide) (by omega) (fun c_68 => ?_) (fun c_68 => ?_)) | refine j_if_eq (tgt := 74) dX0_unlikeIn_68 (by decide) (fun c_68 => ?_) (fun c_68 => ?_)
        · first | refine j_aload_n dX0_unlikeIn_74 rfl ?_ | refine j_aload_nN dX0_unlikeIn_74 rfl ?_
          refine j_getR dX0_unlikeIn_75 fl_X0_56 rfl (by first | exact Fa.sh hf | assumption) (by first | exact Fa.f12 hf | assumption) ?_
          first | refine j_aload_n dX0_unlikeIn_78 rfl ?_ | refine j_aload_nN dX0_unlikeIn_78 rfl ?_
          refine j_iload dX0_unlikeIn_79 rfl ?_
          refine j_iload_n dX0_unlikeIn_81 rfl ?_
          refine j_dV1 kl_X0_378 (x_lengthBy hf hg hR hw _ _) dX0_unlikeIn_82 rfl rfl (by decide) (by first | exact Fa.sh hf | assumption) (Nat.le_of_ble_eq_true rfl) (by first | decide | omega) (by omega) (by omega) ?_
          rw [v2]
          refine j_iconst (v := nI 1) dX0_unlikeIn_85 (by decide +kernel) ?_
          refine j_zast dX0_unlikeIn_86 (Fa.s12 hf) rfl v1 (by decide) (Or.inr rfl) ?_
          rw [put_n (hl12 v), sU_I]
          first | refine j_iincN dX0_unlikeIn_87 rfl (by decide) ?_ | refine j_iinc dX0_unlikeIn_87 rfl rfl (by decide) ?_
          first | refine j_iincN dX0_unlikeIn_90 rfl (by decide) ?_ | refine j_iinc dX0_unlikeIn_90 rfl rfl (by decide) ?_
          refine j_goto (tgt := 33) dX0_unlikeIn_93 (by decide) ?_
          have z := ih (by omega)
          rw [cntB, hul, hu] at z
          first
          | (rw [c_53] at z
             exact z G (fun v' hv' => by rw [hG v' hv', hsn, hu, c_53, Bool.false_and, Bool.not_false, Bool.and_true]))
          | (have c2 : sn C W (nI d) (wU C W N t c) v j = true := by
               cases y : sn C W (nI d) (wU C W N t c) v j with
               | true => rfl
               | false => rw [y] at c_68; exact absurd c_68 (by decide)
             rw [c_53, c2] at z
             exact z _ (fun v' hv' => by
               rw [hsn, hu, c_53, Bool.true_and]
               by_cases e : v = v'
               · subst e
                 rw [up_eq, decide_eq_true rfl, Bool.not_true, Bool.and_false]
                 rfl
               · rw [up_ne (fun q => e q.symm), hG v' hv', decide_eq_false (fun q => e ((hvv v' hv').mp q)), Bool.not_false, Bool.and_true]))
          | (have c2 : sn C W (nI d) (wU C W N t c) v j = false := by
               cases y : sn C W (nI d) (wU C W N t c) v j with
               | false => rfl
               | true => rw [y] at c_68; exact absurd c_68 (by decide)
             rw [c_53, c2] at z
             exact z G (fun v' hv' => by
               rw [hsn, hu, c_53, Bool.true_and, hG v' hv']
               by_cases e : v = v'
               · subst e
                 rw [c2, Bool.false_and]
               · rw [decide_eq_false (fun q => e ((hvv v' hv').mp q)), Bool.not_false, Bool.and_true]))
        · refine j_goto (tgt := 90) dX0_unlikeIn_71 (by decide) ?_
          first | refine j_iincN dX0_unlikeIn_90 rfl (by decide) ?_ | refine j_iinc dX0_unlikeIn_90 rfl rfl (by decide) ?_
          refine j_goto (tgt := 33) dX0_unlikeIn_93 (by decide) ?_
          have z := ih (by omega)
          rw [cntB, hul, hu] at z
          first
          | (rw [c_53] at z
             exact z G (fun v' hv' => by rw [hG v' hv', hsn, hu, c_53, Bool.false_and, Bool.not_false, Bool.and_true]))
          | (have c2 : sn C W (nI d) (wU C W N t c) v j = true := by
               cases y : sn C W (nI d) (wU C W N t c) v j with
               | true => rfl
               | false => rw [y] at c_68; exact absurd c_68 (by decide)
             rw [c_53, c2] at z
             exact z _ (fun v' hv' => by
               rw [hsn, hu, c_53, Bool.true_and]
               by_cases e : v = v'
               · subst e
                 rw [up_eq, decide_eq_true rfl, Bool.not_true, Bool.and_false]
                 rfl
               · rw [up_ne (fun q => e q.symm), hG v' hv', decide_eq_false (fun q => e ((hvv v' hv').mp q)), Bool.not_false, Bool.and_true]))
          | (have c2 : sn C W (nI d) (wU C W N t c) v j = false := by
               cases y : sn C W (nI d) (wU C W N t c) v j with
               | false => rfl
               | true => rw [y] at c_68; exact absurd c_68 (by decide)
             rw [c_53, c2] at z
             exact z G (fun v' hv' => by
               rw [hsn, hu, c_53, Bool.true_and, hG v' hv']
               by_cases e : v = v'
               · subst e
                 rw [c2, Bool.false_and]
               · rw [decide_eq_false (fun q => e ((hvv v' hv').mp q)), Bool.not_false, Bool.and_true]))
  have key1 : ∀ j, j ≤ 7200 → ∀ G, (∀ v, v < j → G v = nI 0) → Tj g l 4 MX0_unlikeIn [.ref hx, .int (nI t), .int (nI c), .int (nI d)] 0 0 (fun r τ => r = some (.int (nI (mUnlike C W (nI d) (wU C W N t c)))) ∧ ∃ G, τ = put (sU σ (B 12) G) L C) (fun _ _ _ => False) 0 0 3 [some (.ref hx), some (.int (nI t)), some (.int (nI c)), some (.int (nI d)), some (.int (nI j)), none] [] (put (sU σ (B 12) G) L C) := by
    refine loop_up fun j hj ih => ?_
    intro G hG
    have hf : Fa (sU σ (B 12) G) hx B := hf0
    have hg : Fq (sU σ (B 12) G) hx A := hg0
    have hR := hR' G
    refine j_iload dX0_unlikeIn_3 rfl ?_
    first | refine j_aload_n dX0_unlikeIn_5 rfl ?_ | refine j_aload_nN dX0_unlikeIn_5 rfl ?_
    refine j_getR dX0_unlikeIn_6 fl_X0_56 rfl (by first | exact Fa.sh hf | assumption) (by first | exact Fa.f12 hf | assumption) ?_
    refine j_alen (t := 24) dX0_unlikeIn_9 (fun _ => rfl) (by decide) (Fa.s12 hf) ?_
    first | (with_reducible refine j_gNN ?_; refine j_icmp_geN (tgt := 27) dX0_unlikeIn_10 (by decide) (by omega) (by omega) (fun c_10 => ?_) (fun c_10 => ?_)) | refine j_icmp_ge (tgt := 27) dX0_unlikeIn_10 (by decide) (fun c_10 => ?_) (fun c_10 => ?_)
    · refine j_iconst (v := nI 0) dX0_unlikeIn_27 (by decide +kernel) ?_
      refine j_istore dX0_unlikeIn_28 (by decide) ?_
      refine j_iconst (v := nI 0) dX0_unlikeIn_30 (by decide +kernel) ?_
      refine j_istore dX0_unlikeIn_31 (by decide) ?_
      exact key2 0 (by omega) G (fun v hv => hG v (by omega))
    · first | refine j_aload_n dX0_unlikeIn_13 rfl ?_ | refine j_aload_nN dX0_unlikeIn_13 rfl ?_
      refine j_getR dX0_unlikeIn_14 fl_X0_56 rfl (by first | exact Fa.sh hf | assumption) (by first | exact Fa.f12 hf | assumption) ?_
      refine j_iload dX0_unlikeIn_17 rfl ?_
      refine j_iconst (v := nI 0) dX0_unlikeIn_19 (by decide +kernel) ?_
      refine j_zast dX0_unlikeIn_20 (Fa.s12 hf) rfl (show j < 7200 by omega) (by decide) (Or.inl rfl) ?_
      rw [put_n (hl12 j), sU_I]
      first | refine j_iincN dX0_unlikeIn_21 rfl (by decide) ?_ | refine j_iinc dX0_unlikeIn_21 rfl rfl (by decide) ?_
      refine j_goto (tgt := 3) dX0_unlikeIn_24 (by decide) ?_
      exact ih (by omega) _ (fun v hv => by
        by_cases e : v = j
        · subst e; rw [up_eq]
        · rw [up_ne e]; exact hG v (by omega))
  refine j_iconst (v := nI 0) dX0_unlikeIn_0 (by decide +kernel) ?_
  refine j_istore dX0_unlikeIn_1 (by decide) ?_
  exact key1 0 (by omega) G0 (fun v hv => by omega)
theorem q_ask (hf : Fa σ hx B) (hg : Fq σ hx A) (hR : Pv σ L A C W P Dn Hn) (hw : Wx C W P Dn) (hT : Tr σ L B S M N) (t0 n : Int32) : Kx g l hx B 5 MX0_ask [.ref hx, .int t0, .int n] (put σ L C) 0 0 (some (.int (oAsk C W M N t0 n).1)) (put (xS σ hx (oAsk C W M N t0 n).2) L C) := by
  obtain ⟨⟨⟨hW, hW8⟩, ⟨hP, hP6⟩, ⟨hD, hD6⟩, hdn⟩, hWv, hPp⟩ := id hw
  have hn := hR.nf hf
  have hl12 := hf.l12 hR
  have heq : ∀ G, Eqx hx B (put (sU σ (B 12) G) L C) (put σ L C) := fun G => by
    rw [← put_nU hl12]
    exact Eqx.su (fun k => Or.inl rfl)
  rcases mWhyU_nn (M := M) (N := N) (tray := t0) (n := n) with h0 | h0
  · obtain ⟨t, c, m, ht, rfl, rfl, hc, hM, hm, hcm⟩ := mWhyU_0 hT.wm h0
    have et : ixn (nI t) = t := ixn_nI (by omega)
    have ec : ixn (nI c) = c := ixn_nI (by omega)
    have h8 := pw8 hW8
    have hcn := cntB_le (f := wU C W N t c) (2 ^ W)
    have hul : ∀ dd, mUnlike C W dd (wU C W N t c) ≤ 256 := fun dd => Nat.le_trans (cntB_le _) h8
    refine Kt.go (Y := MX0_ask) (ls := [some (.ref hx), some (.int (nI t)), some (.int (nI c)), none, none, none, none, none]) (by decide) (Nat.le_of_ble_eq_true rfl) rfl ?_
    have key : 2 ≤ cntB (wU C W N t c) (2 ^ W) → ∀ j, j ≤ 99 → ∀ s G x7, s = itr (askF C W (wU C W N t c)) j (0, 0) → s.1 ≤ j → s.2 ≤ 256 → (1 ≤ j → s.1 ≠ 0) → Tj g l 5 MX0_ask [.ref hx, .int (nI t), .int (nI c)] 0 0 (fun r τ => r = some (.int (oAsk C W M N (nI t) (nI c)).1) ∧ Eqx hx B τ (put (xS σ hx (oAsk C W M N (nI t) (nI c)).2) L C)) (fun _ _ _ => False) 0 0 43 [some (.ref hx), some (.int (nI t)), some (.int (nI c)), some (.int (nI 0)), some (.int (if s.1 = 0 then -1 else nI s.1)), some (.int (nI s.2)), some (.int (nI (j + 1))), x7] [] (put (sU σ (B 12) G) L C) := by
      intro h2
      refine loop_up fun j hj ih => ?_
      intro s G x7 hs hs1 hs2 hs0
      have hst : itr (askF C W (wU C W N t c)) (j + 1) (0, 0) = askF C W (wU C W N t c) j s := by rw [itr, ← hs]
      have hu1 := hul (nI (j + 1))
      have hf0 := hf
      have hR0 := hR
      refine j_iload dX0_ask_43 rfl ?_
      refine j_bipush (v := nI 99) dX0_ask_45 (by decide +kernel) ?_
      first | (with_reducible refine j_gNN ?_; refine j_icmp_gtN (tgt := 84) dX0_ask_47 (by decide) (by omega) (by omega) (fun c_47 => ?_) (fun c_47 => ?_)) | refine j_icmp_gt (tgt := 84) dX0_ask_47 (by decide) (fun c_47 => ?_) (fun c_47 => ?_)
      · first | refine j_aload_n dX0_ask_84 rfl ?_ | refine j_aload_nN dX0_ask_84 rfl ?_
        refine j_iload dX0_ask_85 rfl ?_
        refine j_dV1 kl_X0_102 (x_gives (Fa.sh (σ := sU σ (B 12) G) hf) _) dX0_ask_87 rfl rfl (by decide) (by first | exact Fa.sh hf | assumption) (Nat.le_of_ble_eq_true rfl) (by first | decide | omega) (by omega) (by omega) ?_
        refine j_iret dX0_ask_90 ⟨_, rfl, rfl⟩ (by omega) (by omega) ?_
        exact pyR hn (by
          have e : j = 99 := by omega
          subst e
          rw [if_neg (hs0 (by omega))]
          unfold oAsk
          rw [if_pos h0, et, ec, if_neg (by omega), ← hs]) (heq G)
      · first | refine j_aload_n dX0_ask_50 rfl ?_ | refine j_aload_nN dX0_ask_50 rfl ?_
        refine j_iload_n dX0_ask_51 rfl ?_
        refine j_iload_n dX0_ask_52 rfl ?_
        refine j_iload dX0_ask_53 rfl ?_
        refine j_callV kl_X0_390 (x_unlikeIn hf hg hR hw hT ht hM hm hcm (by omega) G) dX0_ask_55 rfl rfl (by decide) (by first | exact Fa.sh hf | assumption) (Nat.le_of_ble_eq_true rfl) (by first | decide | omega) (by omega) (by omega) (fun v τ hq => ?_) (fun _ _ _ hq => hq.elim)
        obtain ⟨rfl, G', rfl⟩ := hq
        refine j_eq (st' := [.int (nI (mUnlike C W (nI (j + 1)) (wU C W N t c)))]) rfl rfl rfl ?_
        refine j_istore dX0_ask_58 (by decide) ?_
        refine j_iload dX0_ask_60 rfl ?_
        refine j_iload dX0_ask_62 rfl ?_
        first | (with_reducible refine j_gNN ?_; refine j_icmp_gtN (tgt := 70) dX0_ask_64 (by decide) (by omega) (by omega) (fun c_64 => ?_) (fun c_64 => ?_)) | refine j_icmp_gt (tgt := 70) dX0_ask_64 (by decide) (fun c_64 => ?_) (fun c_64 => ?_)
        · refine j_iload dX0_ask_70 rfl ?_
          refine j_istore dX0_ask_72 (by decide) ?_
          refine j_iload dX0_ask_74 rfl ?_
          refine j_istore dX0_ask_76 (by decide) ?_
          first | refine j_iincN dX0_ask_78 rfl (by decide) ?_ | refine j_iinc dX0_ask_78 rfl rfl (by decide) ?_
          refine j_goto (tgt := 43) dX0_ask_81 (by decide) ?_
          first
          | (have e : askF C W (wU C W N t c) j s = s := by rw [askF, if_pos c_64]
             refine ih (by omega) s G' _ (by rw [hst, e]) (by omega) hs2 (fun _ => ?_)
             rcases Nat.eq_zero_or_pos j with e0 | e0
             · subst e0
               have : s = (0, 0) := hs
               have y := ul_pos (C := C) (W := W) (days := nI (0 + 1)) (f := wU C W N t c) (2 ^ W) (by omega)
               rw [this] at c_64
               exact absurd c_64 (by show ¬ mUnlike C W (nI (0 + 1)) (wU C W N t c) ≤ 0; unfold mUnlike; omega)
             · exact hs0 e0)
          | (have e : askF C W (wU C W N t c) j s = (j + 1, mUnlike C W (nI (j + 1)) (wU C W N t c)) := by rw [askF, if_neg (by omega)]
             have z := ih (by omega) (j + 1, mUnlike C W (nI (j + 1)) (wU C W N t c)) G' (some (.int (nI (mUnlike C W (nI (j + 1)) (wU C W N t c))))) (by rw [hst, e]) (Nat.le_refl _) hu1 (fun _ => by show j + 1 ≠ 0; omega)
             rw [if_neg (show ¬ j + 1 = 0 by omega)] at z
             exact z)
        · refine j_goto (tgt := 78) dX0_ask_67 (by decide) ?_
          first | refine j_iincN dX0_ask_78 rfl (by decide) ?_ | refine j_iinc dX0_ask_78 rfl rfl (by decide) ?_
          refine j_goto (tgt := 43) dX0_ask_81 (by decide) ?_
          first
          | (have e : askF C W (wU C W N t c) j s = s := by rw [askF, if_pos c_64]
             refine ih (by omega) s G' _ (by rw [hst, e]) (by omega) hs2 (fun _ => ?_)
             rcases Nat.eq_zero_or_pos j with e0 | e0
             · subst e0
               have : s = (0, 0) := hs
               have y := ul_pos (C := C) (W := W) (days := nI (0 + 1)) (f := wU C W N t c) (2 ^ W) (by omega)
               rw [this] at c_64
               exact absurd c_64 (by show ¬ mUnlike C W (nI (0 + 1)) (wU C W N t c) ≤ 0; unfold mUnlike; omega)
             · exact hs0 e0)
          | (have e : askF C W (wU C W N t c) j s = (j + 1, mUnlike C W (nI (j + 1)) (wU C W N t c)) := by rw [askF, if_neg (by omega)]
             have z := ih (by omega) (j + 1, mUnlike C W (nI (j + 1)) (wU C W N t c)) G' (some (.int (nI (mUnlike C W (nI (j + 1)) (wU C W N t c))))) (by rw [hst, e]) (Nat.le_refl _) hu1 (fun _ => by show j + 1 ≠ 0; omega)
             rw [if_neg (show ¬ j + 1 = 0 by omega)] at z
             exact z)
    first | refine j_aload_n dX0_ask_0 rfl ?_ | refine j_aload_nN dX0_ask_0 rfl ?_
    refine j_iload_n dX0_ask_1 rfl ?_
    refine j_iload_n dX0_ask_2 rfl ?_
    refine j_dV1 kl_X0_384 (x_wrongUnsaid hf hg hR hw hT _ _) dX0_ask_3 rfl rfl (by decide) (by first | exact Fa.sh hf | assumption) (Nat.le_of_ble_eq_true rfl) (by first | decide | omega) (by omega) (by omega) ?_
    rw [h0]
    refine j_istore_n dX0_ask_6 (by decide) ?_
    refine j_iload_n dX0_ask_7 rfl ?_
    first | (with_reducible refine j_gC ?_; refine j_if_leC (tgt := 17) dX0_ask_8 (by decide) (fun c_8 => ?_) (fun c_8 => ?_)) | refine j_if_le (tgt := 17) dX0_ask_8 (by decide) (fun c_8 => ?_) (fun c_8 => ?_)
    · first | refine j_aload_n dX0_ask_17 rfl ?_ | refine j_aload_nN dX0_ask_17 rfl ?_
      refine j_iload_n dX0_ask_18 rfl ?_
      refine j_iload_n dX0_ask_19 rfl ?_
      refine j_dV1 kl_X0_387 (x_setsOf hf hg hR hw hT ht hM hm hcm) dX0_ask_20 rfl rfl (by decide) (by first | exact Fa.sh hf | assumption) (Nat.le_of_ble_eq_true rfl) (by first | decide | omega) (by omega) (by omega) ?_
      refine j_iconst (v := nI 2) dX0_ask_23 (by decide +kernel) ?_
      first | (with_reducible refine j_gNN ?_; refine j_icmp_geN (tgt := 34) dX0_ask_24 (by decide) (by omega) (by omega) (fun c_24 => ?_) (fun c_24 => ?_)) | refine j_icmp_ge (tgt := 34) dX0_ask_24 (by decide) (fun c_24 => ?_) (fun c_24 => ?_)
      · refine j_iconst (v := -1) dX0_ask_34 (by decide +kernel) ?_
        refine j_istore dX0_ask_35 (by decide) ?_
        refine j_iconst (v := nI 0) dX0_ask_37 (by decide +kernel) ?_
        refine j_istore dX0_ask_38 (by decide) ?_
        refine j_iconst (v := nI 1) dX0_ask_40 (by decide +kernel) ?_
        refine j_istore dX0_ask_41 (by decide) ?_
        have z := key c_24 0 (by omega) (0, 0) (σ.2.1 (B 12)) none rfl (by omega) (by omega) (fun q => by omega)
        rw [sU_self] at z
        exact z
      · first | refine j_aload_n dX0_ask_27 rfl ?_ | refine j_aload_nN dX0_ask_27 rfl ?_
        refine j_bipush (v := nI 8) dX0_ask_28 (by decide +kernel) ?_
        refine j_dV1 kl_X0_98 (x_none (Fa.sh hf) _) dX0_ask_30 rfl rfl (by decide) (by first | exact Fa.sh hf | assumption) (Nat.le_of_ble_eq_true rfl) (by first | decide | omega) (by omega) (by omega) ?_
        refine j_iret dX0_ask_33 ⟨_, rfl, rfl⟩ (by omega) (by omega) ?_
        exact pyR hn (by unfold oAsk; rw [if_pos h0, et, ec, if_pos c_24]) Eqx.rf
    · exact absurd c_8 (by decide)
  · have h1 : ¬ mWhyU M N t0 n = nI 0 := fun e => by rw [e] at h0; exact absurd h0 (by decide)
    refine Kt.go (Y := MX0_ask) (ls := [some (.ref hx), some (.int t0), some (.int n), none, none, none, none, none]) (by decide) (Nat.le_of_ble_eq_true rfl) rfl ?_
    first | refine j_aload_n dX0_ask_0 rfl ?_ | refine j_aload_nN dX0_ask_0 rfl ?_
    refine j_iload_n dX0_ask_1 rfl ?_
    refine j_iload_n dX0_ask_2 rfl ?_
    refine j_dV1 kl_X0_384 (x_wrongUnsaid hf hg hR hw hT _ _) dX0_ask_3 rfl rfl (by decide) (by first | exact Fa.sh hf | assumption) (Nat.le_of_ble_eq_true rfl) (by first | decide | omega) (by omega) (by omega) ?_
    refine j_istore_n dX0_ask_6 (by decide) ?_
    refine j_iload_n dX0_ask_7 rfl ?_
    first | (with_reducible refine j_gC ?_; refine j_if_leC (tgt := 17) dX0_ask_8 (by decide) (fun c_8 => ?_) (fun c_8 => ?_)) | refine j_if_le (tgt := 17) dX0_ask_8 (by decide) (fun c_8 => ?_) (fun c_8 => ?_)
    · exact absurd h0 (Int32.not_lt.mpr c_8)
    · first | refine j_aload_n dX0_ask_11 rfl ?_ | refine j_aload_nN dX0_ask_11 rfl ?_
      refine j_iload_n dX0_ask_12 rfl ?_
      refine j_dV1 kl_X0_98 (x_none (Fa.sh hf) _) dX0_ask_13 rfl rfl (by decide) (by first | exact Fa.sh hf | assumption) (Nat.le_of_ble_eq_true rfl) (by first | decide | omega) (by omega) (by omega) ?_
      refine j_iret dX0_ask_16 ⟨_, rfl, rfl⟩ (by omega) (by omega) ?_
      exact pyR hn (by unfold oAsk; rw [if_neg h1]) Eqx.rf
end X10s
