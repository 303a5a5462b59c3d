/-! X: TRAYS read; WHAT IS UNSAID -/
set_option maxRecDepth 100000
def tg : Nat → Nat
  | 0 => 22
  | 1 => 23
  | 2 => 20
  | _ => 21
def tv (σ : Sg) (k r i : Nat) : Int64 := if k = 3 then σ.2.2.1 r i else (σ.2.1 r i).toInt64
/-- tray t: none yet, or a row of sort k, of n numbers -/
def Tr (σ : Sg) (L : Nat → Nat → Option Nat) (B : Nat → Nat) (S M : Nat → Int32) (N : Nat → Int64) : Prop := ∀ t, t < 4 → (M t = -1 ∧ σ.2.2.2 (B (30 + t)) 0 = none ∧ σ.2.1 (B (30 + t)) 1 = nI 0) ∨
  ∃ k n r, k < 4 ∧ n ≤ 60 ∧ M t = nI n ∧ S t = nI k ∧ σ.2.1 (B (30 + t)) 1 = nI k ∧ σ.2.2.2 (B (30 + t)) 0 = some r ∧ σ.1 r = some (tg k, n) ∧ (∀ j, L r j = none) ∧ ∀ i, i < n → tv σ k r i = N (60 * t + i)
theorem Tr.wm {σ : Sg} {L : Nat → Nat → Option Nat} {B : Nat → Nat} {S M : Nat → Int32} {N : Nat → Int64} (h : Tr σ L B S M N) : Wm M := fun t ht => by
  rcases h t ht with q | ⟨k, n, r, h1, h2, h3, -⟩
  · exact Or.inl q.1
  · exact Or.inr ⟨n, h2, h3⟩
theorem Tr.su {σ : Sg} {L : Nat → Nat → Option Nat} {B : Nat → Nat} {S M : Nat → Int32} {N : Nat → Int64} (h : Tr σ L B S M N) {a : Nat} {F : Nat → Int32} (h1 : ∀ t, t < 4 → B (30 + t) ≠ a) (h2 : ∀ t r, t < 4 → σ.2.2.2 (B (30 + t)) 0 = some r → r ≠ a) : Tr (sU σ a F) L B S M N := by
  intro t ht
  rcases h t ht with ⟨q1, q2, q3⟩ | ⟨k, n, r, q1, q2, q3, q4, q5, q6, q7, q8, q9⟩
  · exact Or.inl ⟨q1, q2, by rw [sU_n (h1 t ht)]; exact q3⟩
  · refine Or.inr ⟨k, n, r, q1, q2, q3, q4, by rw [sU_n (h1 t ht)]; exact q5, q6, q7, q8, fun i hi => ?_⟩
    rw [← q9 i hi]
    unfold tv
    rw [sU_n (h2 t r ht q6)]
    rfl
/-- a row has not this shape -/
theorem Tr.ns {σ : Sg} {L : Nat → Nat → Option Nat} {B : Nat → Nat} {S M : Nat → Int32} {N : Nat → Int64} (h : Tr σ L B S M N) {a tt n : Nat} (ha : σ.1 a = some (tt, n)) (hs : (tt < 20 ∨ 23 < tt) ∨ 60 < n) : ∀ t r, t < 4 → σ.2.2.2 (B (30 + t)) 0 = some r → r ≠ a := by
  intro t r ht hr e
  subst e
  rcases h t ht with ⟨q1, q2, q3⟩ | ⟨k, n', r', q1, q2, q3, q4, q5, q6, q7, q8, q9⟩
  · rw [q2] at hr; cases hr
  · rw [q6] at hr
    cases hr
    rw [ha] at q7
    have e1 := congrArg Prod.fst (Option.some.inj q7)
    have e2 := congrArg Prod.snd (Option.some.inj q7)
    have : tg k = 20 ∨ tg k = 21 ∨ tg k = 22 ∨ tg k = 23 := by
      unfold tg; split <;> simp
    omega
theorem Pv.su {σ : Sg} {L : Nat → Nat → Option Nat} {A : Nat → Nat} {C : Nat → Int32} {W P Dn Hn : Nat} (h : Pv σ L A C W P Dn Hn) {a tt n : Nat} {F : Nat → Int32} (ha : σ.1 a = some (tt, n)) (h10 : tt ≠ 10) (h11 : tt ≠ 11) : Pv (sU σ a F) L A C W P Dn Hn := by
  obtain ⟨h1, h2, h3, h4, h5, h6, h7, h8, h9⟩ := h
  have e10 : ∀ b, σ.1 b = some (10, 0) → b ≠ a := fun b hb e => by
    rw [e, ha] at hb
    exact h10 (congrArg Prod.fst (Option.some.inj hb))
  have e11 : ∀ b, σ.1 b = some (11, 0) → b ≠ a := fun b hb e => by
    rw [e, ha] at hb
    exact h11 (congrArg Prod.fst (Option.some.inj hb))
  refine ⟨h1, ⟨h2.1, fun k hk => ?_⟩, h3, h4, h5, fun k hk => ?_, h7, fun d hd => ?_, h9⟩
  · obtain ⟨q1, q2, q3, q4, q5⟩ := h2.2 k hk
    exact ⟨q1, q2, by rw [sU_n (e10 _ q2)]; exact q3, by rw [sU_n (e10 _ q2)]; exact q4, q5⟩
  · rw [sU_n (e10 _ (h2.2 k hk).2.1)]; exact h6 k hk
  · obtain ⟨q1, q2, q3, q4, q5, q6⟩ := h8 d hd
    exact ⟨q1, q2, by rw [sU_n (e11 _ q2)]; exact q3, by rw [sU_n (e11 _ q2)]; exact q4, by rw [sU_n (e11 _ q2)]; exact q5, q6⟩
section X9s
variable {g : Gx} {l : Launch} {σ τ : Sg} {L : Nat → Nat → Option Nat} {A B : Nat → Nat} {C S M : Nat → Int32} {N : Nat → Int64} {W P Dn Hn k p q hx : Nat}
theorem x_get0 {b r n i : Nat} (hs7 : τ.1 b = some (7, 0)) (hk : τ.2.1 b 1 = nI 0) (hr : τ.2.2.2 b 0 = some r) (hsr : τ.1 r = some (22, n)) (hi : i < n) (hn : n ≤ 60) {v : Int32} (hv : τ.2.1 r i = v) : Kd g l 0 MX7_get [.ref b, .int (nI i)] τ (some (.long v.toInt64)) τ := by
  refine Kt.go (Y := MX7_get) (ls := [some (.ref b), some (.int (nI i))]) (by decide) (Nat.le_of_ble_eq_true rfl) rfl ?_
  first | refine j_aload_n dX7_get_0 rfl ?_ | refine j_aload_nN dX7_get_0 rfl ?_
  refine j_getI dX7_get_1 fl_X7_13 rfl (by first | exact Fa.ts hf (by omega) | assumption) (by first | assumption) ?_
  first | (with_reducible refine j_gB ?_; refine j_if_neB (tgt := 20) dX7_get_4 (by decide) (fun c_4 => ?_) (fun c_4 => ?_)) | (with_reducible refine j_gC ?_; refine j_if_neC (tgt := 20) dX7_get_4 (by decide) (fun c_4 => ?_) (fun c_4 => ?_)) | (with_reducible refine j_gN ?_; refine j_if_neN (tgt := 20) dX7_get_4 (by decide) (by omega) (fun c_4 => ?_) (fun c_4 => ?_)) | refine j_if_ne (tgt := 20) dX7_get_4 (by decide) (fun c_4 => ?_) (fun c_4 => ?_)
  · exact absurd rfl c_4
  · first | refine j_aload_n dX7_get_7 rfl ?_ | refine j_aload_nN dX7_get_7 rfl ?_
    refine j_getR dX7_get_8 fl_X7_7 rfl (by first | exact Fa.ts hf (by omega) | assumption) (by first | assumption) ?_
    refine j_castA (t := 22) (n := n) dX7_get_11 q714 (fun _ => rfl) (by decide) (fun _ _ h => h) hsr ?_
    refine j_iload_n dX7_get_14 rfl ?_
    refine j_bald dX7_get_15 hsr rfl hi (by omega) hv ?_
    refine j_i2l dX7_get_16 ?_
    refine j_goto (tgt := 71) dX7_get_17 (by decide) ?_
    refine j_lret dX7_get_71 rfl (by omega) (by omega) ?_
    exact ⟨rfl, rfl⟩
theorem x_many0 {b r n : Nat} (hs7 : τ.1 b = some (7, 0)) (hk : τ.2.1 b 1 = nI 0) (hr : τ.2.2.2 b 0 = some r) (hsr : τ.1 r = some (22, n)) : Kd g l 0 MX7_many [.ref b] τ (some (.int (nI n))) τ := by
  refine Kt.go (Y := MX7_many) (ls := [some (.ref b)]) (by decide) (Nat.le_of_ble_eq_true rfl) rfl ?_
  first | refine j_aload_n dX7_many_0 rfl ?_ | refine j_aload_nN dX7_many_0 rfl ?_
  refine j_getI dX7_many_1 fl_X7_13 rfl (by first | exact Fa.ts hf (by omega) | assumption) (by first | assumption) ?_
  first | (with_reducible refine j_gB ?_; refine j_if_neB (tgt := 18) dX7_many_4 (by decide) (fun c_4 => ?_) (fun c_4 => ?_)) | (with_reducible refine j_gC ?_; refine j_if_neC (tgt := 18) dX7_many_4 (by decide) (fun c_4 => ?_) (fun c_4 => ?_)) | (with_reducible refine j_gN ?_; refine j_if_neN (tgt := 18) dX7_many_4 (by decide) (by omega) (fun c_4 => ?_) (fun c_4 => ?_)) | refine j_if_ne (tgt := 18) dX7_many_4 (by decide) (fun c_4 => ?_) (fun c_4 => ?_)
  · exact absurd rfl c_4
  · first | refine j_aload_n dX7_many_7 rfl ?_ | refine j_aload_nN dX7_many_7 rfl ?_
    refine j_getR dX7_many_8 fl_X7_7 rfl (by first | exact Fa.ts hf (by omega) | assumption) (by first | assumption) ?_
    refine j_castA (t := 22) (n := n) dX7_many_11 q714 (fun _ => rfl) (by decide) (fun _ _ h => h) hsr ?_
    refine j_alen (t := 22) dX7_many_14 (fun _ => rfl) (by decide) hsr ?_
    refine j_goto (tgt := 64) dX7_many_15 (by decide) ?_
    refine j_iret dX7_many_64 ⟨_, rfl, rfl⟩ (by omega) (by omega) ?_
    exact ⟨rfl, rfl⟩
theorem x_get1 {b r n i : Nat} (hs7 : τ.1 b = some (7, 0)) (hk : τ.2.1 b 1 = nI 1) (hr : τ.2.2.2 b 0 = some r) (hsr : τ.1 r = some (23, n)) (hi : i < n) (hn : n ≤ 60) {v : Int32} (hv : τ.2.1 r i = v) : Kd g l 0 MX7_get [.ref b, .int (nI i)] τ (some (.long v.toInt64)) τ := by
  refine Kt.go (Y := MX7_get) (ls := [some (.ref b), some (.int (nI i))]) (by decide) (Nat.le_of_ble_eq_true rfl) rfl ?_
  first | refine j_aload_n dX7_get_0 rfl ?_ | refine j_aload_nN dX7_get_0 rfl ?_
  refine j_getI dX7_get_1 fl_X7_13 rfl (by first | exact Fa.ts hf (by omega) | assumption) (by first | assumption) ?_
  first | (with_reducible refine j_gB ?_; refine j_if_neB (tgt := 20) dX7_get_4 (by decide) (fun c_4 => ?_) (fun c_4 => ?_)) | (with_reducible refine j_gC ?_; refine j_if_neC (tgt := 20) dX7_get_4 (by decide) (fun c_4 => ?_) (fun c_4 => ?_)) | (with_reducible refine j_gN ?_; refine j_if_neN (tgt := 20) dX7_get_4 (by decide) (by omega) (fun c_4 => ?_) (fun c_4 => ?_)) | refine j_if_ne (tgt := 20) dX7_get_4 (by decide) (fun c_4 => ?_) (fun c_4 => ?_)
  · first | refine j_aload_n dX7_get_20 rfl ?_ | refine j_aload_nN dX7_get_20 rfl ?_
    refine j_getI dX7_get_21 fl_X7_13 rfl (by first | exact Fa.ts hf (by omega) | assumption) (by first | assumption) ?_
    refine j_iconst (v := nI 1) dX7_get_24 (by decide +kernel) ?_
    first | (with_reducible refine j_gNN ?_; refine j_icmp_neN (tgt := 41) dX7_get_25 (by decide) (by omega) (by omega) (fun c_25 => ?_) (fun c_25 => ?_)) | refine j_icmp_ne (tgt := 41) dX7_get_25 (by decide) (fun c_25 => ?_) (fun c_25 => ?_)
    · exact absurd rfl c_25
    · first | refine j_aload_n dX7_get_28 rfl ?_ | refine j_aload_nN dX7_get_28 rfl ?_
      refine j_getR dX7_get_29 fl_X7_7 rfl (by first | exact Fa.ts hf (by omega) | assumption) (by first | assumption) ?_
      refine j_castA (t := 23) (n := n) dX7_get_32 q715 (fun _ => rfl) (by decide) (fun _ _ h => h) hsr ?_
      refine j_iload_n dX7_get_35 rfl ?_
      refine j_sald dX7_get_36 hsr rfl hi (by omega) hv ?_
      refine j_i2l dX7_get_37 ?_
      refine j_goto (tgt := 71) dX7_get_38 (by decide) ?_
      refine j_lret dX7_get_71 rfl (by omega) (by omega) ?_
      exact ⟨rfl, rfl⟩
  · exact absurd c_4 (by decide)
theorem x_many1 {b r n : Nat} (hs7 : τ.1 b = some (7, 0)) (hk : τ.2.1 b 1 = nI 1) (hr : τ.2.2.2 b 0 = some r) (hsr : τ.1 r = some (23, n)) : Kd g l 0 MX7_many [.ref b] τ (some (.int (nI n))) τ := by
  refine Kt.go (Y := MX7_many) (ls := [some (.ref b)]) (by decide) (Nat.le_of_ble_eq_true rfl) rfl ?_
  first | refine j_aload_n dX7_many_0 rfl ?_ | refine j_aload_nN dX7_many_0 rfl ?_
  refine j_getI dX7_many_1 fl_X7_13 rfl (by first | exact Fa.ts hf (by omega) | assumption) (by first | assumption) ?_
  first | (with_reducible refine j_gB ?_; refine j_if_neB (tgt := 18) dX7_many_4 (by decide) (fun c_4 => ?_) (fun c_4 => ?_)) | (with_reducible refine j_gC ?_; refine j_if_neC (tgt := 18) dX7_many_4 (by decide) (fun c_4 => ?_) (fun c_4 => ?_)) | (with_reducible refine j_gN ?_; refine j_if_neN (tgt := 18) dX7_many_4 (by decide) (by omega) (fun c_4 => ?_) (fun c_4 => ?_)) | refine j_if_ne (tgt := 18) dX7_many_4 (by decide) (fun c_4 => ?_) (fun c_4 => ?_)
  · first | refine j_aload_n dX7_many_18 rfl ?_ | refine j_aload_nN dX7_many_18 rfl ?_
    refine j_getI dX7_many_19 fl_X7_13 rfl (by first | exact Fa.ts hf (by omega) | assumption) (by first | assumption) ?_
    refine j_iconst (v := nI 1) dX7_many_22 (by decide +kernel) ?_
    first | (with_reducible refine j_gNN ?_; refine j_icmp_neN (tgt := 37) dX7_many_23 (by decide) (by omega) (by omega) (fun c_23 => ?_) (fun c_23 => ?_)) | refine j_icmp_ne (tgt := 37) dX7_many_23 (by decide) (fun c_23 => ?_) (fun c_23 => ?_)
    · exact absurd rfl c_23
    · first | refine j_aload_n dX7_many_26 rfl ?_ | refine j_aload_nN dX7_many_26 rfl ?_
      refine j_getR dX7_many_27 fl_X7_7 rfl (by first | exact Fa.ts hf (by omega) | assumption) (by first | assumption) ?_
      refine j_castA (t := 23) (n := n) dX7_many_30 q715 (fun _ => rfl) (by decide) (fun _ _ h => h) hsr ?_
      refine j_alen (t := 23) dX7_many_33 (fun _ => rfl) (by decide) hsr ?_
      refine j_goto (tgt := 64) dX7_many_34 (by decide) ?_
      refine j_iret dX7_many_64 ⟨_, rfl, rfl⟩ (by omega) (by omega) ?_
      exact ⟨rfl, rfl⟩
  · exact absurd c_4 (by decide)
theorem x_get2 {b r n i : Nat} (hs7 : τ.1 b = some (7, 0)) (hk : τ.2.1 b 1 = nI 2) (hr : τ.2.2.2 b 0 = some r) (hsr : τ.1 r = some (20, n)) (hi : i < n) (hn : n ≤ 60) {v : Int32} (hv : τ.2.1 r i = v) : Kd g l 0 MX7_get [.ref b, .int (nI i)] τ (some (.long v.toInt64)) τ := by
  refine Kt.go (Y := MX7_get) (ls := [some (.ref b), some (.int (nI i))]) (by decide) (Nat.le_of_ble_eq_true rfl) rfl ?_
  first | refine j_aload_n dX7_get_0 rfl ?_ | refine j_aload_nN dX7_get_0 rfl ?_
  refine j_getI dX7_get_1 fl_X7_13 rfl (by first | exact Fa.ts hf (by omega) | assumption) (by first | assumption) ?_
  first | (with_reducible refine j_gB ?_; refine j_if_neB (tgt := 20) dX7_get_4 (by decide) (fun c_4 => ?_) (fun c_4 => ?_)) | (with_reducible refine j_gC ?_; refine j_if_neC (tgt := 20) dX7_get_4 (by decide) (fun c_4 => ?_) (fun c_4 => ?_)) | (with_reducible refine j_gN ?_; refine j_if_neN (tgt := 20) dX7_get_4 (by decide) (by omega) (fun c_4 => ?_) (fun c_4 => ?_)) | refine j_if_ne (tgt := 20) dX7_get_4 (by decide) (fun c_4 => ?_) (fun c_4 => ?_)
  · first | refine j_aload_n dX7_get_20 rfl ?_ | refine j_aload_nN dX7_get_20 rfl ?_
    refine j_getI dX7_get_21 fl_X7_13 rfl (by first | exact Fa.ts hf (by omega) | assumption) (by first | assumption) ?_
    refine j_iconst (v := nI 1) dX7_get_24 (by decide +kernel) ?_
    first | (with_reducible refine j_gNN ?_; refine j_icmp_neN (tgt := 41) dX7_get_25 (by decide) (by omega) (by omega) (fun c_25 => ?_) (fun c_25 => ?_)) | refine j_icmp_ne (tgt := 41) dX7_get_25 (by decide) (fun c_25 => ?_) (fun c_25 => ?_)
    · first | refine j_aload_n dX7_get_41 rfl ?_ | refine j_aload_nN dX7_get_41 rfl ?_
      refine j_getI dX7_get_42 fl_X7_13 rfl (by first | exact Fa.ts hf (by omega) | assumption) (by first | assumption) ?_
      refine j_iconst (v := nI 2) dX7_get_45 (by decide +kernel) ?_
      first | (with_reducible refine j_gNN ?_; refine j_icmp_neN (tgt := 62) dX7_get_46 (by decide) (by omega) (by omega) (fun c_46 => ?_) (fun c_46 => ?_)) | refine j_icmp_ne (tgt := 62) dX7_get_46 (by decide) (fun c_46 => ?_) (fun c_46 => ?_)
      · exact absurd rfl c_46
      · first | refine j_aload_n dX7_get_49 rfl ?_ | refine j_aload_nN dX7_get_49 rfl ?_
        refine j_getR dX7_get_50 fl_X7_7 rfl (by first | exact Fa.ts hf (by omega) | assumption) (by first | assumption) ?_
        refine j_castA (t := 20) (n := n) dX7_get_53 q716 (fun _ => rfl) (by decide) (fun _ _ h => h) hsr ?_
        refine j_iload_n dX7_get_56 rfl ?_
        refine j_iald dX7_get_57 hsr rfl hi (by omega) hv ?_
        refine j_i2l dX7_get_58 ?_
        refine j_goto (tgt := 71) dX7_get_59 (by decide) ?_
        refine j_lret dX7_get_71 rfl (by omega) (by omega) ?_
        exact ⟨rfl, rfl⟩
    · exact absurd c_25 (by decide)
  · exact absurd c_4 (by decide)
theorem x_many2 {b r n : Nat} (hs7 : τ.1 b = some (7, 0)) (hk : τ.2.1 b 1 = nI 2) (hr : τ.2.2.2 b 0 = some r) (hsr : τ.1 r = some (20, n)) : Kd g l 0 MX7_many [.ref b] τ (some (.int (nI n))) τ := by
  refine Kt.go (Y := MX7_many) (ls := [some (.ref b)]) (by decide) (Nat.le_of_ble_eq_true rfl) rfl ?_
  first | refine j_aload_n dX7_many_0 rfl ?_ | refine j_aload_nN dX7_many_0 rfl ?_
  refine j_getI dX7_many_1 fl_X7_13 rfl (by first | exact Fa.ts hf (by omega) | assumption) (by first | assumption) ?_
  first | (with_reducible refine j_gB ?_; refine j_if_neB (tgt := 18) dX7_many_4 (by decide) (fun c_4 => ?_) (fun c_4 => ?_)) | (with_reducible refine j_gC ?_; refine j_if_neC (tgt := 18) dX7_many_4 (by decide) (fun c_4 => ?_) (fun c_4 => ?_)) | (with_reducible refine j_gN ?_; refine j_if_neN (tgt := 18) dX7_many_4 (by decide) (by omega) (fun c_4 => ?_) (fun c_4 => ?_)) | refine j_if_ne (tgt := 18) dX7_many_4 (by decide) (fun c_4 => ?_) (fun c_4 => ?_)
  · first | refine j_aload_n dX7_many_18 rfl ?_ | refine j_aload_nN dX7_many_18 rfl ?_
    refine j_getI dX7_many_19 fl_X7_13 rfl (by first | exact Fa.ts hf (by omega) | assumption) (by first | assumption) ?_
    refine j_iconst (v := nI 1) dX7_many_22 (by decide +kernel) ?_
    first | (with_reducible refine j_gNN ?_; refine j_icmp_neN (tgt := 37) dX7_many_23 (by decide) (by omega) (by omega) (fun c_23 => ?_) (fun c_23 => ?_)) | refine j_icmp_ne (tgt := 37) dX7_many_23 (by decide) (fun c_23 => ?_) (fun c_23 => ?_)
    · first | refine j_aload_n dX7_many_37 rfl ?_ | refine j_aload_nN dX7_many_37 rfl ?_
      refine j_getI dX7_many_38 fl_X7_13 rfl (by first | exact Fa.ts hf (by omega) | assumption) (by first | assumption) ?_
      refine j_iconst (v := nI 2) dX7_many_41 (by decide +kernel) ?_
      first | (with_reducible refine j_gNN ?_; refine j_icmp_neN (tgt := 56) dX7_many_42 (by decide) (by omega) (by omega) (fun c_42 => ?_) (fun c_42 => ?_)) | refine j_icmp_ne (tgt := 56) dX7_many_42 (by decide) (fun c_42 => ?_) (fun c_42 => ?_)
      · exact absurd rfl c_42
      · first | refine j_aload_n dX7_many_45 rfl ?_ | refine j_aload_nN dX7_many_45 rfl ?_
        refine j_getR dX7_many_46 fl_X7_7 rfl (by first | exact Fa.ts hf (by omega) | assumption) (by first | assumption) ?_
        refine j_castA (t := 20) (n := n) dX7_many_49 q716 (fun _ => rfl) (by decide) (fun _ _ h => h) hsr ?_
        refine j_alen (t := 20) dX7_many_52 (fun _ => rfl) (by decide) hsr ?_
        refine j_goto (tgt := 64) dX7_many_53 (by decide) ?_
        refine j_iret dX7_many_64 ⟨_, rfl, rfl⟩ (by omega) (by omega) ?_
        exact ⟨rfl, rfl⟩
    · exact absurd c_23 (by decide)
  · exact absurd c_4 (by decide)
theorem x_get3 {b r n i : Nat} (hs7 : τ.1 b = some (7, 0)) (hk : τ.2.1 b 1 = nI 3) (hr : τ.2.2.2 b 0 = some r) (hsr : τ.1 r = some (21, n)) (hi : i < n) (hn : n ≤ 60) {v : Int64} (hv : τ.2.2.1 r i = v) : Kd g l 0 MX7_get [.ref b, .int (nI i)] τ (some (.long v)) τ := by
  refine Kt.go (Y := MX7_get) (ls := [some (.ref b), some (.int (nI i))]) (by decide) (Nat.le_of_ble_eq_true rfl) rfl ?_
  first | refine j_aload_n dX7_get_0 rfl ?_ | refine j_aload_nN dX7_get_0 rfl ?_
  refine j_getI dX7_get_1 fl_X7_13 rfl (by first | exact Fa.ts hf (by omega) | assumption) (by first | assumption) ?_
  first | (with_reducible refine j_gB ?_; refine j_if_neB (tgt := 20) dX7_get_4 (by decide) (fun c_4 => ?_) (fun c_4 => ?_)) | (with_reducible refine j_gC ?_; refine j_if_neC (tgt := 20) dX7_get_4 (by decide) (fun c_4 => ?_) (fun c_4 => ?_)) | (with_reducible refine j_gN ?_; refine j_if_neN (tgt := 20) dX7_get_4 (by decide) (by omega) (fun c_4 => ?_) (fun c_4 => ?_)) | refine j_if_ne (tgt := 20) dX7_get_4 (by decide) (fun c_4 => ?_) (fun c_4 => ?_)
  · first | refine j_aload_n dX7_get_20 rfl ?_ | refine j_aload_nN dX7_get_20 rfl ?_
    refine j_getI dX7_get_21 fl_X7_13 rfl (by first | exact Fa.ts hf (by omega) | assumption) (by first | assumption) ?_
    refine j_iconst (v := nI 1) dX7_get_24 (by decide +kernel) ?_
    first | (with_reducible refine j_gNN ?_; refine j_icmp_neN (tgt := 41) dX7_get_25 (by decide) (by omega) (by omega) (fun c_25 => ?_) (fun c_25 => ?_)) | refine j_icmp_ne (tgt := 41) dX7_get_25 (by decide) (fun c_25 => ?_) (fun c_25 => ?_)
    · first | refine j_aload_n dX7_get_41 rfl ?_ | refine j_aload_nN dX7_get_41 rfl ?_
      refine j_getI dX7_get_42 fl_X7_13 rfl (by first | exact Fa.ts hf (by omega) | assumption) (by first | assumption) ?_
      refine j_iconst (v := nI 2) dX7_get_45 (by decide +kernel) ?_
      first | (with_reducible refine j_gNN ?_; refine j_icmp_neN (tgt := 62) dX7_get_46 (by decide) (by omega) (by omega) (fun c_46 => ?_) (fun c_46 => ?_)) | refine j_icmp_ne (tgt := 62) dX7_get_46 (by decide) (fun c_46 => ?_) (fun c_46 => ?_)
      · first | refine j_aload_n dX7_get_62 rfl ?_ | refine j_aload_nN dX7_get_62 rfl ?_
        refine j_getR dX7_get_63 fl_X7_7 rfl (by first | exact Fa.ts hf (by omega) | assumption) (by first | assumption) ?_
        refine j_castA (t := 21) (n := n) dX7_get_66 q717 (fun _ => rfl) (by decide) (fun _ _ h => h) hsr ?_
        refine j_iload_n dX7_get_69 rfl ?_
        refine j_lald dX7_get_70 hsr rfl hi (by omega) hv ?_
        refine j_lret dX7_get_71 rfl (by omega) (by omega) ?_
        exact ⟨rfl, rfl⟩
      · exact absurd c_46 (by decide)
    · exact absurd c_25 (by decide)
  · exact absurd c_4 (by decide)
theorem x_many3 {b r n : Nat} (hs7 : τ.1 b = some (7, 0)) (hk : τ.2.1 b 1 = nI 3) (hr : τ.2.2.2 b 0 = some r) (hsr : τ.1 r = some (21, n)) : Kd g l 0 MX7_many [.ref b] τ (some (.int (nI n))) τ := by
  refine Kt.go (Y := MX7_many) (ls := [some (.ref b)]) (by decide) (Nat.le_of_ble_eq_true rfl) rfl ?_
  first | refine j_aload_n dX7_many_0 rfl ?_ | refine j_aload_nN dX7_many_0 rfl ?_
  refine j_getI dX7_many_1 fl_X7_13 rfl (by first | exact Fa.ts hf (by omega) | assumption) (by first | assumption) ?_
  first | (with_reducible refine j_gB ?_; refine j_if_neB (tgt := 18) dX7_many_4 (by decide) (fun c_4 => ?_) (fun c_4 => ?_)) | (with_reducible refine j_gC ?_; refine j_if_neC (tgt := 18) dX7_many_4 (by decide) (fun c_4 => ?_) (fun c_4 => ?_)) | (with_reducible refine j_gN ?_; refine j_if_neN (tgt := 18) dX7_many_4 (by decide) (by omega) (fun c_4 => ?_) (fun c_4 => ?_)) | refine j_if_ne (tgt := 18) dX7_many_4 (by decide) (fun c_4 => ?_) (fun c_4 => ?_)
  · first | refine j_aload_n dX7_many_18 rfl ?_ | refine j_aload_nN dX7_many_18 rfl ?_
    refine j_getI dX7_many_19 fl_X7_13 rfl (by first | exact Fa.ts hf (by omega) | assumption) (by first | assumption) ?_
    refine j_iconst (v := nI 1) dX7_many_22 (by decide +kernel) ?_
    first | (with_reducible refine j_gNN ?_; refine j_icmp_neN (tgt := 37) dX7_many_23 (by decide) (by omega) (by omega) (fun c_23 => ?_) (fun c_23 => ?_)) | refine j_icmp_ne (tgt := 37) dX7_many_23 (by decide) (fun c_23 => ?_) (fun c_23 => ?_)
    · first | refine j_aload_n dX7_many_37 rfl ?_ | refine j_aload_nN dX7_many_37 rfl ?_
      refine j_getI dX7_many_38 fl_X7_13 rfl (by first | exact Fa.ts hf (by omega) | assumption) (by first | assumption) ?_
      refine j_iconst (v := nI 2) dX7_many_41 (by decide +kernel) ?_
      first | (with_reducible refine j_gNN ?_; refine j_icmp_neN (tgt := 56) dX7_many_42 (by decide) (by omega) (by omega) (fun c_42 => ?_) (fun c_42 => ?_)) | refine j_icmp_ne (tgt := 56) dX7_many_42 (by decide) (fun c_42 => ?_) (fun c_42 => ?_)
      · first | refine j_aload_n dX7_many_56 rfl ?_ | refine j_aload_nN dX7_many_56 rfl ?_
        refine j_getR dX7_many_57 fl_X7_7 rfl (by first | exact Fa.ts hf (by omega) | assumption) (by first | assumption) ?_
        refine j_castA (t := 21) (n := n) dX7_many_60 q717 (fun _ => rfl) (by decide) (fun _ _ h => h) hsr ?_
        refine j_alen (t := 21) dX7_many_63 (fun _ => rfl) (by decide) hsr ?_
        refine j_iret dX7_many_64 ⟨_, rfl, rfl⟩ (by omega) (by omega) ?_
        exact ⟨rfl, rfl⟩
      · exact absurd c_42 (by decide)
    · exact absurd c_23 (by decide)
  · exact absurd c_4 (by decide)
theorem x_tget (hf : Fa σ hx B) (hR : Pv σ L A C W P Dn Hn) (hT : Tr σ L B S M N) {t n i : Nat} (ht : t < 4) (hM : M t = nI n) (hn : n ≤ 60) (hi : i < n) : Kd g l 0 MX7_get [.ref (B (30 + t)), .int (nI i)] (put σ L C) (some (.long (N (60 * t + i)))) (put σ L C) := by
  have hs7 : (put σ L C).1 (B (30 + t)) = some (7, 0) := Fa.ts hf ht
  have hL7 := hR.noL (a := B (30 + t)) (Fa.ts (L := L) (D := C) hf ht) (by decide) (by decide) (by decide)
  rcases hT t ht with ⟨q1, q2, q3⟩ | ⟨k, m, r, q1, q2, q3, q4, q5, q6, q7, q8, q9⟩
  · rw [hM] at q1; exact absurd q1 (nI_m1 (by omega))
  · have e : m = n := by rw [hM] at q3; exact ((nI_eq (by omega) (by omega)).mp q3).symm
    subst e
    have h9 := q9 i hi
    have k1 : (put σ L C).2.1 (B (30 + t)) 1 = nI k := (pgn (hL7 1)).trans q5
    have kv : (put σ L C).2.1 r i = σ.2.1 r i := pgn (q8 i)
    have hz : k = 0 ∨ k = 1 ∨ k = 2 ∨ k = 3 := by omega
    rw [← h9]
    rcases hz with rfl | rfl | rfl | rfl
    · exact x_get0 hs7 k1 q6 q7 hi hn kv
    · exact x_get1 hs7 k1 q6 q7 hi hn kv
    · exact x_get2 hs7 k1 q6 q7 hi hn kv
    · exact x_get3 hs7 k1 q6 q7 hi hn rfl
theorem x_tmany (hf : Fa σ hx B) (hR : Pv σ L A C W P Dn Hn) (hT : Tr σ L B S M N) {t n : Nat} (ht : t < 4) (hM : M t = nI n) (hn : n ≤ 60) : Kd g l 0 MX7_many [.ref (B (30 + t))] (put σ L C) (some (.int (nI n))) (put σ L C) := by
  have hs7 : (put σ L C).1 (B (30 + t)) = some (7, 0) := Fa.ts hf ht
  have hL7 := hR.noL (a := B (30 + t)) (Fa.ts (L := L) (D := C) hf ht) (by decide) (by decide) (by decide)
  rcases hT t ht with ⟨q1, q2, q3⟩ | ⟨k, m, r, q1, q2, q3, q4, q5, q6, q7, q8, q9⟩
  · rw [hM] at q1; exact absurd q1 (nI_m1 (by omega))
  · have e : m = n := by rw [hM] at q3; exact ((nI_eq (by omega) (by omega)).mp q3).symm
    subst e
    have k1 : (put σ L C).2.1 (B (30 + t)) 1 = nI k := (pgn (hL7 1)).trans q5
    have hz : k = 0 ∨ k = 1 ∨ k = 2 ∨ k = 3 := by omega
    rcases hz with rfl | rfl | rfl | rfl
    · exact x_many0 hs7 k1 q6 q7
    · exact x_many1 hs7 k1 q6 q7
    · exact x_many2 hs7 k1 q6 q7
    · exact x_many3 hs7 k1 q6 q7
def twOk (N : Nat → Int64) (first second : Int64) (t k : Nat) : Bool := inL (N (60 * t + 2 * k)) 0 first && inL (N (60 * t + (2 * k + 1))) 0 second
def xWhyT (M : Nat → Int32) (N : Nat → Int64) (first second : Int64) (tray n : Int32) : Int32 := if mWhy2 M tray n = nI 0 then (if allB (twOk N first second (ixn tray)) (ixn n) then nI 0 else nI 5) else mWhy2 M tray n
theorem x_wrongTwos (hf : Fa σ hx B) (hg : Fq σ hx A) (hR : Pv σ L A C W P Dn Hn) (hw : Wx C W P Dn) (hT : Tr σ L B S M N) (tr n first : Int32) (second : Int64) : Kd g l 1 MX0_wrongTwos [.ref hx, .int tr, .int n, .int first, .long second] (put σ L C) (some (.int (xWhyT M N first.toInt64 second tr n))) (put σ L C) := by
  cases et : okN tr 4 with
  | false =>
    refine Kt.go (Y := MX0_wrongTwos) (ls := [some (.ref hx), some (.int tr), some (.int n), some (.int first), some (.long second), none, none, none]) (by decide) (Nat.le_of_ble_eq_true rfl) rfl ?_
    refine j_iload_n dX0_wrongTwos_0 rfl ?_
    refine j_dS1 kl_X0_109 (x_isTray _) dX0_wrongTwos_1 rfl rfl (Nat.le_of_ble_eq_true rfl) (by first | decide | omega) (by omega) (by omega) ?_
    rw [et]
    first | (with_reducible refine j_gB ?_; refine j_if_neB (tgt := 9) dX0_wrongTwos_4 (by decide) (fun c_4 => ?_) (fun c_4 => ?_)) | (with_reducible refine j_gC ?_; refine j_if_neC (tgt := 9) dX0_wrongTwos_4 (by decide) (fun c_4 => ?_) (fun c_4 => ?_)) | (with_reducible refine j_gN ?_; refine j_if_neN (tgt := 9) dX0_wrongTwos_4 (by decide) (by omega) (fun c_4 => ?_) (fun c_4 => ?_)) | refine j_if_ne (tgt := 9) dX0_wrongTwos_4 (by decide) (fun c_4 => ?_) (fun c_4 => ?_)
    · cases c_4
    · refine j_iconst (v := nI 1) dX0_wrongTwos_7 (by decide +kernel) ?_
      refine j_iret dX0_wrongTwos_8 ⟨_, rfl, rfl⟩ (by omega) (by omega) ?_
      exact ⟨by
        have z : mWhy2 M tr n = nI 1 := by unfold mWhy2; rw [et]; rfl
        unfold xWhyT
        rw [z, if_neg (by decide)], rfl⟩
  | true =>
    obtain ⟨t, ht, rfl⟩ := okN_nI et
    have ett : ixn (nI t) = t := ixn_nI (by omega)
    rcases hT t ht with ⟨q1, q2, q3⟩ | ⟨k, m, r, q1, q2, q3, q4, q5, q6, q7, q8, q9⟩
    · have z : mWhy2 M (nI t) n = nI 3 := by unfold mWhy2; rw [if_pos et, ett, q1, if_pos (by decide)]
      refine Kt.go (Y := MX0_wrongTwos) (ls := [some (.ref hx), some (.int (nI t)), some (.int n), some (.int first), some (.long second), none, none, none]) (by decide) (Nat.le_of_ble_eq_true rfl) rfl ?_
      refine j_iload_n dX0_wrongTwos_0 rfl ?_
      refine j_dS1 kl_X0_109 (x_isTray _) dX0_wrongTwos_1 rfl rfl (Nat.le_of_ble_eq_true rfl) (by first | decide | omega) (by omega) (by omega) ?_
      rw [et]
      first | (with_reducible refine j_gB ?_; refine j_if_neB (tgt := 9) dX0_wrongTwos_4 (by decide) (fun c_4 => ?_) (fun c_4 => ?_)) | (with_reducible refine j_gC ?_; refine j_if_neC (tgt := 9) dX0_wrongTwos_4 (by decide) (fun c_4 => ?_) (fun c_4 => ?_)) | (with_reducible refine j_gN ?_; refine j_if_neN (tgt := 9) dX0_wrongTwos_4 (by decide) (by omega) (fun c_4 => ?_) (fun c_4 => ?_)) | refine j_if_ne (tgt := 9) dX0_wrongTwos_4 (by decide) (fun c_4 => ?_) (fun c_4 => ?_)
      · first | refine j_aload_n dX0_wrongTwos_9 rfl ?_ | refine j_aload_nN dX0_wrongTwos_9 rfl ?_
        refine j_getR dX0_wrongTwos_10 fl_X0_11 rfl (by first | exact q2 | exact Fa.sh hf | assumption) (by first | exact q2 | exact Fa.f0 hf | assumption) ?_
        refine j_iload_n dX0_wrongTwos_13 rfl ?_
        refine j_aald (t := 25) dX0_wrongTwos_14 (fun _ => rfl) (by decide) (by first | exact q2 | exact Pe.sl hp | exact Pe.sa hp | exact Pe.sl hq | exact Pe.sa hq | exact Pv.sw hR | exact Pv.sp hR | exact Pv.sd hR | exact Fa.s0 hf | exact Fa.s12 hf | exact Fa.s13 hf | exact Fa.s14 hf | exact Fa.s15 hf | exact Fa.s16 hf | exact Fa.s20 hf | exact Fa.s21 hf | exact Fa.s23 hf | assumption) rfl (by omega) (by decide) (by first | exact q2 | exact Pv.rw hR (by omega) | exact Pv.rp hR (by omega) | exact Pv.rd hR (by omega) | exact Fa.tr hf (by omega) | assumption) ?_
        first | refine j_astore dX0_wrongTwos_15 (by decide) ?_ | refine j_astoreN dX0_wrongTwos_15 (by decide) ?_
        first | refine j_aload dX0_wrongTwos_17 rfl ?_ | refine j_aloadN dX0_wrongTwos_17 rfl ?_
        refine j_getN dX0_wrongTwos_19 fl_X0_132 rfl (Fa.ts hf ht) q2 ?_
        refine j_ifnonnullN dX0_wrongTwos_22 ?_
        refine j_iconst (v := nI 3) dX0_wrongTwos_25 (by decide +kernel) ?_
        refine j_iret dX0_wrongTwos_26 ⟨_, rfl, rfl⟩ (by omega) (by omega) ?_
        exact ⟨by
          unfold xWhyT
          rw [z, if_neg (by decide)], rfl⟩
      · cases c_4
    · have hm0 : ¬ M t < 0 := by rw [q3]; exact nI_pos (by omega)
      have key : mWhy2 M (nI t) n = nI 0 → (∃ c, n = nI c ∧ c ≤ 20 ∧ 2 * c ≤ m) → ∀ c, n = nI c → c ≤ 20 → 2 * c ≤ m → ∀ j, j ≤ c → allB (twOk N first.toInt64 second t) j = true → Td g l 1 MX0_wrongTwos [.ref hx, .int (nI t), .int n, .int first, .long second] (put σ L C) (some (.int (xWhyT M N first.toInt64 second (nI t) n))) 62 [some (.ref hx), some (.int (nI t)), some (.int n), some (.int first), some (.long second), none, some (.ref (B (30 + t))), some (.int (nI j))] [] (put σ L C) := by
        intro hz _ c hc hc20 hcm
        subst hc
        have ec : ixn (nI c) = c := ixn_nI (by omega)
        refine loop_up fun j hj ih => ?_
        intro hb
        refine j_iload dX0_wrongTwos_62 rfl ?_
        refine j_iload_n dX0_wrongTwos_64 rfl ?_
        first | (with_reducible refine j_gNN ?_; refine j_icmp_geN (tgt := 114) dX0_wrongTwos_65 (by decide) (by omega) (by omega) (fun c_65 => ?_) (fun c_65 => ?_)) | refine j_icmp_ge (tgt := 114) dX0_wrongTwos_65 (by decide) (fun c_65 => ?_) (fun c_65 => ?_)
        · refine j_iconst (v := nI 0) dX0_wrongTwos_114 (by decide +kernel) ?_
          refine j_iret dX0_wrongTwos_115 ⟨_, rfl, rfl⟩ (by omega) (by omega) ?_
          exact ⟨by
            have e : j = c := by omega
            subst e
            unfold xWhyT
            rw [hz, if_pos rfl, ett, ec, hb]
            rfl, rfl⟩
        · first | refine j_aload dX0_wrongTwos_68 rfl ?_ | refine j_aloadN dX0_wrongTwos_68 rfl ?_
          refine j_iconst (v := nI 2) dX0_wrongTwos_70 (by decide +kernel) ?_
          refine j_iload dX0_wrongTwos_71 rfl ?_
          first | (with_reducible refine j_gNN ?_; refine j_imulN dX0_wrongTwos_73 ?_) | refine j_imul dX0_wrongTwos_73 ?_
          refine j_dV1 kl_X0_126 (x_tget hf hR hT ht q3 q2 (by omega)) dX0_wrongTwos_74 rfl rfl (by decide) (by first | exact q2 | exact Fa.ts hf (by omega) | assumption) (Nat.le_of_ble_eq_true rfl) (by first | decide | omega) (by omega) (by omega) ?_
          refine j_lconst (v := 0) dX0_wrongTwos_77 (by decide +kernel) ?_
          refine j_iload_n dX0_wrongTwos_78 rfl ?_
          refine j_i2l dX0_wrongTwos_79 ?_
          refine j_dS1 kl_X0_162 (k_isFrom _ _ _) dX0_wrongTwos_80 rfl rfl (Nat.le_of_ble_eq_true rfl) (by first | decide | omega) (by omega) (by omega) ?_
          first | (with_reducible refine j_gB ?_; refine j_if_eqB (tgt := 106) dX0_wrongTwos_83 (by decide) (fun c_83 => ?_) (fun c_83 => ?_)) | (with_reducible refine j_gC ?_; refine j_if_eqC (tgt := 106) dX0_wrongTwos_83 (by decide) (fun c_83 => ?_) (fun c_83 => ?_)) | (with_reducible refine j_gN ?_; refine j_if_eqN (tgt := 106) dX0_wrongTwos_83 (by decide) (by omega) (fun c_83 => ?_) (fun c_83 => ?_)) | refine j_if_eq (tgt := 106) dX0_wrongTwos_83 (by decide) (fun c_83 => ?_) (fun c_83 => ?_)
          · refine j_iconst (v := nI 5) dX0_wrongTwos_106 (by decide +kernel) ?_
            refine j_iret dX0_wrongTwos_107 ⟨_, rfl, rfl⟩ (by omega) (by omega) ?_
            exact ⟨by
              have y : allB (twOk N first.toInt64 second t) (j + 1) = false := by
                rw [allB, hb, twOk]
                first
                | (rw [c_83]; rfl)
                | (rw [c_103]; simp)
              unfold xWhyT
              rw [hz, if_pos rfl, ett, ec, allB_le y (by omega)]
              rfl, rfl⟩
          · first | refine j_aload dX0_wrongTwos_86 rfl ?_ | refine j_aloadN dX0_wrongTwos_86 rfl ?_
            refine j_iconst (v := nI 2) dX0_wrongTwos_88 (by decide +kernel) ?_
            refine j_iload dX0_wrongTwos_89 rfl ?_
            first | (with_reducible refine j_gNN ?_; refine j_imulN dX0_wrongTwos_91 ?_) | refine j_imul dX0_wrongTwos_91 ?_
            refine j_iconst (v := nI 1) dX0_wrongTwos_92 (by decide +kernel) ?_
            first | (with_reducible refine j_gNN ?_; refine j_iaddN dX0_wrongTwos_93 ?_) | refine j_iadd dX0_wrongTwos_93 ?_
            refine j_dV1 kl_X0_126 (x_tget hf hR hT ht q3 q2 (by omega)) dX0_wrongTwos_94 rfl rfl (by decide) (by first | exact q2 | exact Fa.ts hf (by omega) | assumption) (Nat.le_of_ble_eq_true rfl) (by first | decide | omega) (by omega) (by omega) ?_
            refine j_lconst (v := 0) dX0_wrongTwos_97 (by decide +kernel) ?_
            refine j_lload dX0_wrongTwos_98 rfl ?_
            refine j_dS1 kl_X0_162 (k_isFrom _ _ _) dX0_wrongTwos_100 rfl rfl (Nat.le_of_ble_eq_true rfl) (by first | decide | omega) (by omega) (by omega) ?_
            first | (with_reducible refine j_gB ?_; refine j_if_neB (tgt := 108) dX0_wrongTwos_103 (by decide) (fun c_103 => ?_) (fun c_103 => ?_)) | (with_reducible refine j_gC ?_; refine j_if_neC (tgt := 108) dX0_wrongTwos_103 (by decide) (fun c_103 => ?_) (fun c_103 => ?_)) | (with_reducible refine j_gN ?_; refine j_if_neN (tgt := 108) dX0_wrongTwos_103 (by decide) (by omega) (fun c_103 => ?_) (fun c_103 => ?_)) | refine j_if_ne (tgt := 108) dX0_wrongTwos_103 (by decide) (fun c_103 => ?_) (fun c_103 => ?_)
            · first | refine j_iincN dX0_wrongTwos_108 rfl (by decide) ?_ | refine j_iinc dX0_wrongTwos_108 rfl rfl (by decide) ?_
              refine j_goto (tgt := 62) dX0_wrongTwos_111 (by decide) ?_
              exact ih (by omega) (by rw [allB, hb, twOk, c_83, c_103]; rfl)
            · refine j_iconst (v := nI 5) dX0_wrongTwos_106 (by decide +kernel) ?_
              refine j_iret dX0_wrongTwos_107 ⟨_, rfl, rfl⟩ (by omega) (by omega) ?_
              exact ⟨by
                have y : allB (twOk N first.toInt64 second t) (j + 1) = false := by
                  rw [allB, hb, twOk]
                  first
                  | (rw [c_83]; rfl)
                  | (rw [c_103]; simp)
                unfold xWhyT
                rw [hz, if_pos rfl, ett, ec, allB_le y (by omega)]
                rfl, rfl⟩
      refine Kt.go (Y := MX0_wrongTwos) (ls := [some (.ref hx), some (.int (nI t)), some (.int n), some (.int first), some (.long second), none, none, none]) (by decide) (Nat.le_of_ble_eq_true rfl) rfl ?_
      refine j_iload_n dX0_wrongTwos_0 rfl ?_
      refine j_dS1 kl_X0_109 (x_isTray _) dX0_wrongTwos_1 rfl rfl (Nat.le_of_ble_eq_true rfl) (by first | decide | omega) (by omega) (by omega) ?_
      rw [et]
      first | (with_reducible refine j_gB ?_; refine j_if_neB (tgt := 9) dX0_wrongTwos_4 (by decide) (fun c_4 => ?_) (fun c_4 => ?_)) | (with_reducible refine j_gC ?_; refine j_if_neC (tgt := 9) dX0_wrongTwos_4 (by decide) (fun c_4 => ?_) (fun c_4 => ?_)) | (with_reducible refine j_gN ?_; refine j_if_neN (tgt := 9) dX0_wrongTwos_4 (by decide) (by omega) (fun c_4 => ?_) (fun c_4 => ?_)) | refine j_if_ne (tgt := 9) dX0_wrongTwos_4 (by decide) (fun c_4 => ?_) (fun c_4 => ?_)
      · first | refine j_aload_n dX0_wrongTwos_9 rfl ?_ | refine j_aload_nN dX0_wrongTwos_9 rfl ?_
        refine j_getR dX0_wrongTwos_10 fl_X0_11 rfl (by first | exact q2 | exact Fa.sh hf | assumption) (by first | exact q2 | exact Fa.f0 hf | assumption) ?_
        refine j_iload_n dX0_wrongTwos_13 rfl ?_
        refine j_aald (t := 25) dX0_wrongTwos_14 (fun _ => rfl) (by decide) (by first | exact q2 | exact Pe.sl hp | exact Pe.sa hp | exact Pe.sl hq | exact Pe.sa hq | exact Pv.sw hR | exact Pv.sp hR | exact Pv.sd hR | exact Fa.s0 hf | exact Fa.s12 hf | exact Fa.s13 hf | exact Fa.s14 hf | exact Fa.s15 hf | exact Fa.s16 hf | exact Fa.s20 hf | exact Fa.s21 hf | exact Fa.s23 hf | assumption) rfl (by omega) (by decide) (by first | exact q2 | exact Pv.rw hR (by omega) | exact Pv.rp hR (by omega) | exact Pv.rd hR (by omega) | exact Fa.tr hf (by omega) | assumption) ?_
        first | refine j_astore dX0_wrongTwos_15 (by decide) ?_ | refine j_astoreN dX0_wrongTwos_15 (by decide) ?_
        first | refine j_aload dX0_wrongTwos_17 rfl ?_ | refine j_aloadN dX0_wrongTwos_17 rfl ?_
        refine j_getR dX0_wrongTwos_19 fl_X0_132 rfl (Fa.ts hf ht) q6 ?_
        refine j_ifnonnull (tgt := 27) dX0_wrongTwos_22 (by decide) ?_
        first | refine j_aload dX0_wrongTwos_27 rfl ?_ | refine j_aloadN dX0_wrongTwos_27 rfl ?_
        refine j_dV1 kl_X0_312 (x_tmany hf hR hT ht q3 q2) dX0_wrongTwos_29 rfl rfl (by decide) (by first | exact q2 | exact Fa.ts hf (by omega) | assumption) (Nat.le_of_ble_eq_true rfl) (by first | decide | omega) (by omega) (by omega) ?_
        refine j_i2l dX0_wrongTwos_32 ?_
        refine j_ldc2 (v := 2) dX0_wrongTwos_33 q1364 ?_
        refine j_iload_n dX0_wrongTwos_36 rfl ?_
        refine j_i2l dX0_wrongTwos_37 ?_
        refine j_lmul dX0_wrongTwos_38 ?_
        refine j_lcmp dX0_wrongTwos_39 ?_
        first | (with_reducible refine j_gC ?_; refine j_if_geC (tgt := 45) dX0_wrongTwos_40 (by decide) (fun c_40 => ?_) (fun c_40 => ?_)) | refine j_if_ge (tgt := 45) dX0_wrongTwos_40 (by decide) (fun c_40 => ?_) (fun c_40 => ?_)
        · refine j_iload_n dX0_wrongTwos_45 rfl ?_
          refine j_i2l dX0_wrongTwos_46 ?_
          refine j_lconst (v := 0) dX0_wrongTwos_47 (by decide +kernel) ?_
          refine j_ldc2 (v := 20) dX0_wrongTwos_48 q1365 ?_
          refine j_dS1 kl_X0_162 (k_isFrom _ _ _) dX0_wrongTwos_51 rfl rfl (Nat.le_of_ble_eq_true rfl) (by first | decide | omega) (by omega) (by omega) ?_
          first | (with_reducible refine j_gB ?_; refine j_if_neB (tgt := 59) dX0_wrongTwos_54 (by decide) (fun c_54 => ?_) (fun c_54 => ?_)) | (with_reducible refine j_gC ?_; refine j_if_neC (tgt := 59) dX0_wrongTwos_54 (by decide) (fun c_54 => ?_) (fun c_54 => ?_)) | (with_reducible refine j_gN ?_; refine j_if_neN (tgt := 59) dX0_wrongTwos_54 (by decide) (by omega) (fun c_54 => ?_) (fun c_54 => ?_)) | refine j_if_ne (tgt := 59) dX0_wrongTwos_54 (by decide) (fun c_54 => ?_) (fun c_54 => ?_)
          · refine j_iconst (v := nI 0) dX0_wrongTwos_59 (by decide +kernel) ?_
            refine j_istore dX0_wrongTwos_60 (by decide) ?_
            have z : mWhy2 M (nI t) n = nI 0 := by
              unfold mWhy2
              rw [if_pos et, ett, if_neg hm0, q3, if_neg (by first | exact c_40 | exact Int64.not_lt.mpr c_40), if_pos c_54]
            obtain ⟨t', c, m2, y1, y2, y3, y4, y5, y6, y7⟩ := mWhy2_0 hT.wm z
            have e1 : t' = t := ((nI_eq (by omega) (by omega)).mp y2).symm
            subst e1
            have e2 : m2 = m := by rw [q3] at y5; exact ((nI_eq (by omega) (by omega)).mp y5).symm
            subst e2
            exact key z ⟨c, y3, y4, y7⟩ c y3 y4 y7 0 (by omega) rfl
          · refine j_iconst (v := nI 5) dX0_wrongTwos_57 (by decide +kernel) ?_
            refine j_iret dX0_wrongTwos_58 ⟨_, rfl, rfl⟩ (by omega) (by omega) ?_
            exact ⟨by
              have z : mWhy2 M (nI t) n = nI 5 := by
                unfold mWhy2
                rw [if_pos et, ett, if_neg hm0, q3, if_neg (by first | exact c_40 | exact Int64.not_lt.mpr c_40), if_neg (by rw [c_54]; decide)]
              unfold xWhyT
              rw [z, if_neg (by decide)], rfl⟩
        · refine j_iconst (v := nI 4) dX0_wrongTwos_43 (by decide +kernel) ?_
          refine j_iret dX0_wrongTwos_44 ⟨_, rfl, rfl⟩ (by omega) (by omega) ?_
          exact ⟨by
            have z : mWhy2 M (nI t) n = nI 4 := by
              unfold mWhy2
              rw [if_pos et, ett, if_neg hm0, q3, if_pos (by first | exact c_40 | exact Int64.not_le.mp c_40)]
            unfold xWhyT
            rw [z, if_neg (by decide)], rfl⟩
      · cases c_4
theorem xWhyT_U {tray n : Int32} : xWhyT M N (nI 999).toInt64 9223372036854775807 tray n = mWhyU M N tray n := by
  have h : ∀ t, twOk N (nI 999).toInt64 9223372036854775807 t = unsOk N t := by
    intro t
    funext k
    unfold twOk unsOk
    congr 1
    unfold inL
    have : ∀ v : Int64, ¬ (9223372036854775807 : Int64) < v := fun v => by
      rw [Int64.lt_iff_toInt_lt]
      have := Int64.toInt_lt v
      have e : (9223372036854775807 : Int64).toInt = 9223372036854775807 := by decide +kernel
      omega
    rw [decide_eq_false (this _), Bool.not_false, Bool.and_true]
  unfold xWhyT mWhyU
  rw [h]
theorem x_wrongUnsaid (hf : Fa σ hx B) (hg : Fq σ hx A) (hR : Pv σ L A C W P Dn Hn) (hw : Wx C W P Dn) (hT : Tr σ L B S M N) (tr n : Int32) : Kd g l 2 MX0_wrongUnsaid [.ref hx, .int tr, .int n] (put σ L C) (some (.int (mWhyU M N tr n))) (put σ L C) := by
  refine Kt.go (Y := MX0_wrongUnsaid) (ls := [some (.ref hx), some (.int tr), some (.int n)]) (by decide) (Nat.le_of_ble_eq_true rfl) rfl ?_
  first | refine j_aload_n dX0_wrongUnsaid_0 rfl ?_ | refine j_aload_nN dX0_wrongUnsaid_0 rfl ?_
  refine j_iload_n dX0_wrongUnsaid_1 rfl ?_
  refine j_iload_n dX0_wrongUnsaid_2 rfl ?_
  refine j_sipush (v := nI 999) dX0_wrongUnsaid_3 (by decide +kernel) ?_
  refine j_ldc2 (v := 9223372036854775807) dX0_wrongUnsaid_6 q1359 ?_
  refine j_dV1 kl_X0_374 (x_wrongTwos hf hg hR hw hT _ _ _ _) dX0_wrongUnsaid_9 rfl rfl (by decide) (by first | exact q2 | exact Fa.sh hf | assumption) (Nat.le_of_ble_eq_true rfl) (by first | decide | omega) (by omega) (by omega) ?_
  refine j_iret dX0_wrongUnsaid_12 ⟨_, rfl, rfl⟩ (by omega) (by omega) ?_
  exact ⟨by rw [← xWhyT_U], rfl⟩
theorem x_canBe (hf : Fa σ hx B) (hg : Fq σ hx A) (hR : Pv σ L A C W P Dn Hn) (hw : Wx C W P Dn) (hT : Tr σ L B S M N) {t c m : Nat} (ht : t < 4) (hM : M t = nI m) (hm : m ≤ 60) (hc : 2 * c ≤ m) (set : Int32) : Kd g l 3 MX0_canBe [.ref hx, .int (nI t), .int (nI c), .int set] (put σ L C) (some (.int (bI (mIsU C W N t c set)))) (put σ L C) := by
  refine Kt.go (Y := MX0_canBe) (ls := [some (.ref hx), some (.int (nI t)), some (.int (nI c)), some (.int set), none, none]) (by decide) (Nat.le_of_ble_eq_true rfl) rfl ?_
  have key : ∀ j, j ≤ c → allB (isUF C W N t set) j = true → Td g l 3 MX0_canBe [.ref hx, .int (nI t), .int (nI c), .int set] (put σ L C) (some (.int (bI (mIsU C W N t c set)))) 11 [some (.ref hx), some (.int (nI t)), some (.int (nI c)), some (.int set), some (.ref (B (30 + t))), some (.int (nI j))] [] (put σ L C) := by
    refine loop_up fun j hj ih => ?_
    intro hb
    refine j_iload dX0_canBe_11 rfl ?_
    refine j_iload_n dX0_canBe_13 rfl ?_
    first | (with_reducible refine j_gNN ?_; refine j_icmp_geN (tgt := 56) dX0_canBe_14 (by decide) (by omega) (by omega) (fun c_14 => ?_) (fun c_14 => ?_)) | refine j_icmp_ge (tgt := 56) dX0_canBe_14 (by decide) (fun c_14 => ?_) (fun c_14 => ?_)
    · refine j_iconst (v := nI 1) dX0_canBe_56 (by decide +kernel) ?_
      refine j_iret dX0_canBe_57 ⟨_, rfl, rfl⟩ (by omega) (by omega) ?_
      exact ⟨by
        have e : j = c := by omega
        subst e
        rw [mIsU, hb]; rfl, rfl⟩
    · first | refine j_aload_n dX0_canBe_17 rfl ?_ | refine j_aload_nN dX0_canBe_17 rfl ?_
      refine j_iload_n dX0_canBe_18 rfl ?_
      first | refine j_aload dX0_canBe_19 rfl ?_ | refine j_aloadN dX0_canBe_19 rfl ?_
      refine j_iconst (v := nI 2) dX0_canBe_21 (by decide +kernel) ?_
      refine j_iload dX0_canBe_22 rfl ?_
      first | (with_reducible refine j_gNN ?_; refine j_imulN dX0_canBe_24 ?_) | refine j_imul dX0_canBe_24 ?_
      refine j_dV1 kl_X0_126 (x_tget hf hR hT ht hM hm (by omega)) dX0_canBe_25 rfl rfl (by decide) (by first | exact Fa.ts hf (by omega) | assumption) (Nat.le_of_ble_eq_true rfl) (by first | decide | omega) (by omega) (by omega) ?_
      refine j_l2i dX0_canBe_28 ?_
      refine j_dV1 kl_X0_378 (x_lengthBy hf hg hR hw _ _) dX0_canBe_29 rfl rfl (by decide) (by first | exact Fa.sh hf | assumption) (Nat.le_of_ble_eq_true rfl) (by first | decide | omega) (by omega) (by omega) ?_
      refine j_i2l dX0_canBe_32 ?_
      first | refine j_aload dX0_canBe_33 rfl ?_ | refine j_aloadN dX0_canBe_33 rfl ?_
      refine j_iconst (v := nI 2) dX0_canBe_35 (by decide +kernel) ?_
      refine j_iload dX0_canBe_36 rfl ?_
      first | (with_reducible refine j_gNN ?_; refine j_imulN dX0_canBe_38 ?_) | refine j_imul dX0_canBe_38 ?_
      refine j_iconst (v := nI 1) dX0_canBe_39 (by decide +kernel) ?_
      first | (with_reducible refine j_gNN ?_; refine j_iaddN dX0_canBe_40 ?_) | refine j_iadd dX0_canBe_40 ?_
      refine j_dV1 kl_X0_126 (x_tget hf hR hT ht hM hm (by omega)) dX0_canBe_41 rfl rfl (by decide) (by first | exact Fa.ts hf (by omega) | assumption) (Nat.le_of_ble_eq_true rfl) (by first | decide | omega) (by omega) (by omega) ?_
      refine j_lcmp dX0_canBe_44 ?_
      first | (with_reducible refine j_gB ?_; refine j_if_eqB (tgt := 50) dX0_canBe_45 (by decide) (fun c_45 => ?_) (fun c_45 => ?_)) | (with_reducible refine j_gC ?_; refine j_if_eqC (tgt := 50) dX0_canBe_45 (by decide) (fun c_45 => ?_) (fun c_45 => ?_)) | (with_reducible refine j_gN ?_; refine j_if_eqN (tgt := 50) dX0_canBe_45 (by decide) (by omega) (fun c_45 => ?_) (fun c_45 => ?_)) | refine j_if_eq (tgt := 50) dX0_canBe_45 (by decide) (fun c_45 => ?_) (fun c_45 => ?_)
      · first | refine j_iincN dX0_canBe_50 rfl (by decide) ?_ | refine j_iinc dX0_canBe_50 rfl rfl (by decide) ?_
        refine j_goto (tgt := 11) dX0_canBe_53 (by decide) ?_
        exact ih (by omega) (by rw [allB, hb, isUF, decide_eq_true c_45]; rfl)
      · refine j_iconst (v := nI 0) dX0_canBe_48 (by decide +kernel) ?_
        refine j_iret dX0_canBe_49 ⟨_, rfl, rfl⟩ (by omega) (by omega) ?_
        exact ⟨by
          have y : allB (isUF C W N t set) (j + 1) = false := by rw [allB, hb, isUF, decide_eq_false c_45]; rfl
          rw [mIsU, allB_le y (by omega)]; rfl, rfl⟩
  first | refine j_aload_n dX0_canBe_0 rfl ?_ | refine j_aload_nN dX0_canBe_0 rfl ?_
  refine j_getR dX0_canBe_1 fl_X0_11 rfl (by first | exact Fa.sh hf | assumption) (by first | exact Fa.f0 hf | assumption) ?_
  refine j_iload_n dX0_canBe_4 rfl ?_
  refine j_aald (t := 25) dX0_canBe_5 (fun _ => rfl) (by decide) (by first | exact Pe.sl hp | exact Pe.sa hp | exact Pe.sl hq | exact Pe.sa hq | exact Pv.sw hR | exact Pv.sp hR | exact Pv.sd hR | exact Fa.s0 hf | exact Fa.s12 hf | exact Fa.s13 hf | exact Fa.s14 hf | exact Fa.s15 hf | exact Fa.s16 hf | exact Fa.s20 hf | exact Fa.s21 hf | exact Fa.s23 hf | assumption) rfl (by omega) (by decide) (by first | exact Pv.rw hR (by omega) | exact Pv.rp hR (by omega) | exact Pv.rd hR (by omega) | exact Fa.tr hf (by omega) | assumption) ?_
  first | refine j_astore dX0_canBe_6 (by decide) ?_ | refine j_astoreN dX0_canBe_6 (by decide) ?_
  refine j_iconst (v := nI 0) dX0_canBe_8 (by decide +kernel) ?_
  refine j_istore dX0_canBe_9 (by decide) ?_
  exact key 0 (by omega) rfl
theorem x_setsOf (hf : Fa σ hx B) (hg : Fq σ hx A) (hR : Pv σ L A C W P Dn Hn) (hw : Wx C W P Dn) (hT : Tr σ L B S M N) {t c m : Nat} (ht : t < 4) (hM : M t = nI m) (hm : m ≤ 60) (hc : 2 * c ≤ m) : Kd g l 4 MX0_setsOf [.ref hx, .int (nI t), .int (nI c)] (put σ L C) (some (.int (nI (cntB (wU C W N t c) (2 ^ W))))) (put σ L C) := by
  obtain ⟨⟨⟨hW, hW8⟩, ⟨hP, hP6⟩, ⟨hD, hD6⟩, hdn⟩, hWv, hPp⟩ := id hw
  have h8 := pw8 hW8
  have h1 := @pw_pos W
  refine Kt.go (Y := MX0_setsOf) (ls := [some (.ref hx), some (.int (nI t)), some (.int (nI c)), none, none]) (by decide) (Nat.le_of_ble_eq_true rfl) rfl ?_
  have key : ∀ j, j ≤ 2 ^ W → Td g l 4 MX0_setsOf [.ref hx, .int (nI t), .int (nI c)] (put σ L C) (some (.int (nI (cntB (wU C W N t c) (2 ^ W))))) 5 [some (.ref hx), some (.int (nI t)), some (.int (nI c)), some (.int (nI (cntB (wU C W N t c) j))), some (.int (nI j))] [] (put σ L C) := by
    refine loop_up fun j hj ih => ?_
    have hcn := cntB_le (f := wU C W N t c) j
    refine j_iload dX0_setsOf_5 rfl ?_
    first | refine j_aload_n dX0_setsOf_7 rfl ?_ | refine j_aload_nN dX0_setsOf_7 rfl ?_
    refine j_getR dX0_setsOf_8 fl_X0_38 rfl (by first | exact Fa.sh hf | assumption) (by first | exact Fq.f3 hg | assumption) ?_
    refine j_dV1 kl_X0_158 (x_allWords hR hW hW8) dX0_setsOf_11 rfl rfl (by decide) (by first | exact Pv.sh hR | assumption) (Nat.le_of_ble_eq_true rfl) (by first | decide | omega) (by omega) (by omega) ?_
    first | (with_reducible refine j_gNN ?_; refine j_icmp_gtN (tgt := 42) dX0_setsOf_14 (by decide) (by omega) (by omega) (fun c_14 => ?_) (fun c_14 => ?_)) | refine j_icmp_gt (tgt := 42) dX0_setsOf_14 (by decide) (fun c_14 => ?_) (fun c_14 => ?_)
    · refine j_iload_n dX0_setsOf_42 rfl ?_
      refine j_iret dX0_setsOf_43 ⟨_, rfl, rfl⟩ (by omega) (by omega) ?_
      exact ⟨by rw [show j = 2 ^ W by omega], rfl⟩
    · refine j_iload_n dX0_setsOf_17 rfl ?_
      first | refine j_aload_n dX0_setsOf_18 rfl ?_ | refine j_aload_nN dX0_setsOf_18 rfl ?_
      refine j_iload_n dX0_setsOf_19 rfl ?_
      refine j_iload_n dX0_setsOf_20 rfl ?_
      refine j_iload dX0_setsOf_21 rfl ?_
      refine j_dV1 kl_X0_381 (x_canBe hf hg hR hw hT ht hM hm hc _) dX0_setsOf_23 rfl rfl (by decide) (by first | exact Fa.sh hf | assumption) (Nat.le_of_ble_eq_true rfl) (by first | decide | omega) (by omega) (by omega) ?_
      first | (with_reducible refine j_gB ?_; refine j_if_eqB (tgt := 33) dX0_setsOf_26 (by decide) (fun c_26 => ?_) (fun c_26 => ?_)) | (with_reducible refine j_gC ?_; refine j_if_eqC (tgt := 33) dX0_setsOf_26 (by decide) (fun c_26 => ?_) (fun c_26 => ?_)) | (with_reducible refine j_gN ?_; refine j_if_eqN (tgt := 33) dX0_setsOf_26 (by decide) (by omega) (fun c_26 => ?_) (fun c_26 => ?_)) | refine j_if_eq (tgt := 33) dX0_setsOf_26 (by decide) (fun c_26 => ?_) (fun c_26 => ?_)
      · refine j_iconst (v := nI 0) dX0_setsOf_33 (by decide +kernel) ?_
        first | (with_reducible refine j_gNN ?_; refine j_iaddN dX0_setsOf_34 ?_) | refine j_iadd dX0_setsOf_34 ?_
        refine j_istore_n dX0_setsOf_35 (by decide) ?_
        first | refine j_iincN dX0_setsOf_36 rfl (by decide) ?_ | refine j_iinc dX0_setsOf_36 rfl rfl (by decide) ?_
        refine j_goto (tgt := 5) dX0_setsOf_39 (by decide) ?_
        have z := ih (by omega)
        rw [cntB, show wU C W N t c j = mIsU C W N t c (nI j) from rfl, c_26] at z
        exact z
      · refine j_iconst (v := nI 1) dX0_setsOf_29 (by decide +kernel) ?_
        refine j_goto (tgt := 34) dX0_setsOf_30 (by decide) ?_
        first | (with_reducible refine j_gNN ?_; refine j_iaddN dX0_setsOf_34 ?_) | refine j_iadd dX0_setsOf_34 ?_
        refine j_istore_n dX0_setsOf_35 (by decide) ?_
        first | refine j_iincN dX0_setsOf_36 rfl (by decide) ?_ | refine j_iinc dX0_setsOf_36 rfl rfl (by decide) ?_
        refine j_goto (tgt := 5) dX0_setsOf_39 (by decide) ?_
        have z := ih (by omega)
        rw [cntB, show wU C W N t c j = mIsU C W N t c (nI j) from rfl, c_26] at z
        exact z
  refine j_iconst (v := nI 0) dX0_setsOf_0 (by decide +kernel) ?_
  refine j_istore_n dX0_setsOf_1 (by decide) ?_
  refine j_iconst (v := nI 0) dX0_setsOf_2 (by decide +kernel) ?_
  refine j_istore dX0_setsOf_3 (by decide) ?_
  exact key 0 (by omega)
theorem q_unsaid (hf : Fa σ hx B) (hg : Fq σ hx A) (hR : Pv σ L A C W P Dn Hn) (hw : Wx C W P Dn) (hT : Tr σ L B S M N) (t0 n : Int32) : Kd g l 5 MX0_unsaid [.ref hx, .int t0, .int n] (put σ L C) (some (.int (oUnsaid C W M N t0 n).1)) (put (xS σ hx (oUnsaid C W M N t0 n).2) L C) := by
  have hn := hR.nf hf
  rcases mWhyU_nn (M := M) (N := N) (tray := t0) (n := n) with h0 | h0
  · obtain ⟨t, c, m, ht, rfl, rfl, hc, hM, hm, hcm⟩ := mWhyU_0 hT.wm h0
    have et : ixn (nI t) = t := ixn_nI (by omega)
    have ec : ixn (nI c) = c := ixn_nI (by omega)
    refine Kt.go (Y := MX0_unsaid) (ls := [some (.ref hx), some (.int (nI t)), some (.int (nI c)), none]) (by decide) (Nat.le_of_ble_eq_true rfl) rfl ?_
    first | refine j_aload_n dX0_unsaid_0 rfl ?_ | refine j_aload_nN dX0_unsaid_0 rfl ?_
    refine j_iload_n dX0_unsaid_1 rfl ?_
    refine j_iload_n dX0_unsaid_2 rfl ?_
    refine j_dV1 kl_X0_384 (x_wrongUnsaid hf hg hR hw hT _ _) dX0_unsaid_3 rfl rfl (by decide) (by first | exact Fa.sh hf | assumption) (Nat.le_of_ble_eq_true rfl) (by first | decide | omega) (by omega) (by omega) ?_
    rw [h0]
    refine j_istore_n dX0_unsaid_6 (by decide) ?_
    refine j_iload_n dX0_unsaid_7 rfl ?_
    first | (with_reducible refine j_gC ?_; refine j_if_leC (tgt := 19) dX0_unsaid_8 (by decide) (fun c_8 => ?_) (fun c_8 => ?_)) | refine j_if_le (tgt := 19) dX0_unsaid_8 (by decide) (fun c_8 => ?_) (fun c_8 => ?_)
    · first | refine j_aload_n dX0_unsaid_19 rfl ?_ | refine j_aload_nN dX0_unsaid_19 rfl ?_
      first | refine j_aload_n dX0_unsaid_20 rfl ?_ | refine j_aload_nN dX0_unsaid_20 rfl ?_
      refine j_iload_n dX0_unsaid_21 rfl ?_
      refine j_iload_n dX0_unsaid_22 rfl ?_
      refine j_dV1 kl_X0_387 (x_setsOf hf hg hR hw hT ht hM hm hcm) dX0_unsaid_23 rfl rfl (by decide) (by first | exact Fa.sh hf | assumption) (Nat.le_of_ble_eq_true rfl) (by first | decide | omega) (by omega) (by omega) ?_
      refine j_dV1 kl_X0_102 (x_gives (Fa.sh hf) _) dX0_unsaid_26 rfl rfl (by decide) (by first | exact Fa.sh hf | assumption) (Nat.le_of_ble_eq_true rfl) (by first | decide | omega) (by omega) (by omega) ?_
      refine j_iret dX0_unsaid_29 ⟨_, rfl, rfl⟩ (by omega) (by omega) ?_
      exact pxR hn (by unfold oUnsaid; rw [if_pos h0, et, ec])
    · exact absurd c_8 (by decide)
  · have h1 : ¬ mWhyU M N t0 n = nI 0 := fun e => by rw [e] at h0; exact absurd h0 (by decide)
    refine Kt.go (Y := MX0_unsaid) (ls := [some (.ref hx), some (.int t0), some (.int n), none]) (by decide) (Nat.le_of_ble_eq_true rfl) rfl ?_
    first | refine j_aload_n dX0_unsaid_0 rfl ?_ | refine j_aload_nN dX0_unsaid_0 rfl ?_
    refine j_iload_n dX0_unsaid_1 rfl ?_
    refine j_iload_n dX0_unsaid_2 rfl ?_
    refine j_dV1 kl_X0_384 (x_wrongUnsaid hf hg hR hw hT _ _) dX0_unsaid_3 rfl rfl (by decide) (by first | exact Fa.sh hf | assumption) (Nat.le_of_ble_eq_true rfl) (by first | decide | omega) (by omega) (by omega) ?_
    refine j_istore_n dX0_unsaid_6 (by decide) ?_
    refine j_iload_n dX0_unsaid_7 rfl ?_
    first | (with_reducible refine j_gC ?_; refine j_if_leC (tgt := 19) dX0_unsaid_8 (by decide) (fun c_8 => ?_) (fun c_8 => ?_)) | refine j_if_le (tgt := 19) dX0_unsaid_8 (by decide) (fun c_8 => ?_) (fun c_8 => ?_)
    · exact absurd h0 (Int32.not_lt.mpr c_8)
    · first | refine j_aload_n dX0_unsaid_11 rfl ?_ | refine j_aload_nN dX0_unsaid_11 rfl ?_
      refine j_iload_n dX0_unsaid_12 rfl ?_
      refine j_dV1 kl_X0_98 (x_none (Fa.sh hf) _) dX0_unsaid_13 rfl rfl (by decide) (by first | exact Fa.sh hf | assumption) (Nat.le_of_ble_eq_true rfl) (by first | decide | omega) (by omega) (by omega) ?_
      refine j_goto (tgt := 29) dX0_unsaid_16 (by decide) ?_
      refine j_iret dX0_unsaid_29 ⟨_, rfl, rfl⟩ (by omega) (by omega) ?_
      exact pxR hn (by unfold oUnsaid; rw [if_neg h1])
theorem andTo_nI {u : Nat → Bool} {x : Nat} : ∀ j, ∃ y, y ≤ x ∧ andTo u (nI x) j = nI y := by
  intro j
  induction j with
  | zero => exact ⟨x, Nat.le_refl _, rfl⟩
  | succ j ih =>
    obtain ⟨y, h1, h2⟩ := ih
    rw [andTo]
    split
    · exact ⟨y &&& j, Nat.le_trans Nat.and_le_left h1, by rw [h2, nI_and]⟩
    · exact ⟨y, h1, h2⟩
theorem andTo_c0 {u : Nat → Bool} {a : Int32} : ∀ j, cntB u j = 0 → andTo u a j = a := by
  intro j
  induction j with
  | zero => intro _; rfl
  | succ j ih =>
    intro h
    rw [cntB] at h
    rw [andTo]
    split at h
    · cases h
    · next e => rw [if_neg e]; exact ih h
theorem and_all {W j : Nat} (h : j < 2 ^ W) : (2 ^ W - 1) &&& j = j := by rw [Nat.and_comm, Nat.and_two_pow_sub_one_eq_mod, Nat.mod_eq_of_lt h]
theorem q_sure (hf : Fa σ hx B) (hg : Fq σ hx A) (hR : Pv σ L A C W P Dn Hn) (hw : Wx C W P Dn) (hT : Tr σ L B S M N) (t0 n : Int32) : Kd g l 5 MX0_sure [.ref hx, .int t0, .int n] (put σ L C) (some (.int (oSure C W M N t0 n).1)) (put (xS σ hx (oSure C W M N t0 n).2) L C) := by
  obtain ⟨⟨⟨hW, hW8⟩, ⟨hP, hP6⟩, ⟨hD, hD6⟩, hdn⟩, hWv, hPp⟩ := id hw
  have hn := hR.nf hf
  have h8 := pw8 hW8
  have h1p := @pw_pos W
  rcases mWhyU_nn (M := M) (N := N) (tray := t0) (n := n) with h0 | h0
  · obtain ⟨t, c, m, ht, rfl, rfl, hc, hM, hm, hcm⟩ := mWhyU_0 hT.wm h0
    have et : ixn (nI t) = t := ixn_nI (by omega)
    have ec : ixn (nI c) = c := ixn_nI (by omega)
    refine Kt.go (Y := MX0_sure) (ls := [some (.ref hx), some (.int (nI t)), some (.int (nI c)), none, none, none]) (by decide) (Nat.le_of_ble_eq_true rfl) rfl ?_
    have key : ∀ j, j ≤ 2 ^ W → ∀ a, a = (if cntB (wU C W N t c) j = 0 then -1 else andTo (wU C W N t c) (nI (2 ^ W - 1)) j) → Td g l 5 MX0_sure [.ref hx, .int (nI t), .int (nI c)] (put (xS σ hx (oSure C W M N (nI t) (nI c)).2) L C) (some (.int (oSure C W M N (nI t) (nI c)).1)) 23 [some (.ref hx), some (.int (nI t)), some (.int (nI c)), some (.int (nI 0)), some (.int a), some (.int (nI j))] [] (put σ L C) := by
      refine loop_up fun j hj ih => ?_
      intro a ha
      obtain ⟨y, y1, y2⟩ := andTo_nI (u := wU C W N t c) (x := 2 ^ W - 1) j
      have hu : wU C W N t c j = mIsU C W N t c (nI j) := rfl
      refine j_iload dX0_sure_23 rfl ?_
      first | refine j_aload_n dX0_sure_25 rfl ?_ | refine j_aload_nN dX0_sure_25 rfl ?_
      refine j_getR dX0_sure_26 fl_X0_38 rfl (by first | exact Fa.sh hf | assumption) (by first | exact Fq.f3 hg | assumption) ?_
      refine j_dV1 kl_X0_158 (x_allWords hR hW hW8) dX0_sure_29 rfl rfl (by decide) (by first | exact Pv.sh hR | assumption) (Nat.le_of_ble_eq_true rfl) (by first | decide | omega) (by omega) (by omega) ?_
      first | (with_reducible refine j_gNN ?_; refine j_icmp_gtN (tgt := 70) dX0_sure_32 (by decide) (by omega) (by omega) (fun c_32 => ?_) (fun c_32 => ?_)) | refine j_icmp_gt (tgt := 70) dX0_sure_32 (by decide) (fun c_32 => ?_) (fun c_32 => ?_)
      · first | refine j_aload_n dX0_sure_70 rfl ?_ | refine j_aload_nN dX0_sure_70 rfl ?_
        refine j_iload dX0_sure_71 rfl ?_
        refine j_dV1 kl_X0_309 (x_orNothing (Fa.sh hf) _) dX0_sure_73 rfl rfl (by decide) (by first | exact Fa.sh hf | assumption) (Nat.le_of_ble_eq_true rfl) (by first | decide | omega) (by omega) (by omega) ?_
        refine j_iret dX0_sure_76 ⟨_, rfl, rfl⟩ (by omega) (by omega) ?_
        have e : j = 2 ^ W := by omega
        subst e
        refine pxR hn ?_
        unfold oSure
        rw [if_pos h0, et, ec, ha]
        by_cases z : cntB (wU C W N t c) (2 ^ W) = 0
        · rw [if_pos z, if_pos z]; rfl
        · rw [if_neg z, if_neg z, y2, if_neg (nI_m1 (by omega))]
      · first | refine j_aload_n dX0_sure_35 rfl ?_ | refine j_aload_nN dX0_sure_35 rfl ?_
        refine j_iload_n dX0_sure_36 rfl ?_
        refine j_iload_n dX0_sure_37 rfl ?_
        refine j_iload dX0_sure_38 rfl ?_
        refine j_dV1 kl_X0_381 (x_canBe hf hg hR hw hT ht hM hm hcm _) dX0_sure_40 rfl rfl (by decide) (by first | exact Fa.sh hf | assumption) (Nat.le_of_ble_eq_true rfl) (by first | decide | omega) (by omega) (by omega) ?_
        first | (with_reducible refine j_gB ?_; refine j_if_eqB (tgt := 64) dX0_sure_43 (by decide) (fun c_43 => ?_) (fun c_43 => ?_)) | (with_reducible refine j_gC ?_; refine j_if_eqC (tgt := 64) dX0_sure_43 (by decide) (fun c_43 => ?_) (fun c_43 => ?_)) | (with_reducible refine j_gN ?_; refine j_if_eqN (tgt := 64) dX0_sure_43 (by decide) (by omega) (fun c_43 => ?_) (fun c_43 => ?_)) | refine j_if_eq (tgt := 64) dX0_sure_43 (by decide) (fun c_43 => ?_) (fun c_43 => ?_)
        · first | refine j_iincN dX0_sure_64 rfl (by decide) ?_ | refine j_iinc dX0_sure_64 rfl rfl (by decide) ?_
          refine j_goto (tgt := 23) dX0_sure_67 (by decide) ?_
          refine ih (by omega) _ ?_
          rw [cntB, andTo, hu, c_43]
          first
          | (rw [if_neg Bool.false_ne_true, if_neg Bool.false_ne_true]; exact ha)
          | (rw [if_pos rfl, if_pos rfl, if_neg (by omega)]
             by_cases z : cntB (wU C W N t c) j = 0
             · rw [andTo_c0 j z, nI_and, and_all (by omega)]
               first
               | done
               | rfl
               | exact absurd (ha.trans (if_pos z)) c_49
             · rw [if_neg z] at ha
               first
               | (rw [ha]; done)
               | (rw [ha, y2] at c_49; exact absurd c_49 (nI_m1 (by omega))))
        · refine j_iload dX0_sure_46 rfl ?_
          refine j_iconst (v := -1) dX0_sure_48 (by decide +kernel) ?_
          first | (with_reducible refine j_gNN ?_; refine j_icmp_neN (tgt := 57) dX0_sure_49 (by decide) (by omega) (by omega) (fun c_49 => ?_) (fun c_49 => ?_)) | refine j_icmp_ne (tgt := 57) dX0_sure_49 (by decide) (fun c_49 => ?_) (fun c_49 => ?_)
          · refine j_iload dX0_sure_57 rfl ?_
            refine j_iload dX0_sure_59 rfl ?_
            refine j_iand dX0_sure_61 ?_
            refine j_istore dX0_sure_62 (by decide) ?_
            first | refine j_iincN dX0_sure_64 rfl (by decide) ?_ | refine j_iinc dX0_sure_64 rfl rfl (by decide) ?_
            refine j_goto (tgt := 23) dX0_sure_67 (by decide) ?_
            refine ih (by omega) _ ?_
            rw [cntB, andTo, hu, c_43]
            first
            | (rw [if_neg Bool.false_ne_true, if_neg Bool.false_ne_true]; exact ha)
            | (rw [if_pos rfl, if_pos rfl, if_neg (by omega)]
               by_cases z : cntB (wU C W N t c) j = 0
               · rw [andTo_c0 j z, nI_and, and_all (by omega)]
                 first
                 | done
                 | rfl
                 | exact absurd (ha.trans (if_pos z)) c_49
               · rw [if_neg z] at ha
                 first
                 | (rw [ha]; done)
                 | (rw [ha, y2] at c_49; exact absurd c_49 (nI_m1 (by omega))))
          · refine j_iload dX0_sure_52 rfl ?_
            refine j_goto (tgt := 62) dX0_sure_54 (by decide) ?_
            refine j_istore dX0_sure_62 (by decide) ?_
            first | refine j_iincN dX0_sure_64 rfl (by decide) ?_ | refine j_iinc dX0_sure_64 rfl rfl (by decide) ?_
            refine j_goto (tgt := 23) dX0_sure_67 (by decide) ?_
            refine ih (by omega) _ ?_
            rw [cntB, andTo, hu, c_43]
            first
            | (rw [if_neg Bool.false_ne_true, if_neg Bool.false_ne_true]; exact ha)
            | (rw [if_pos rfl, if_pos rfl, if_neg (by omega)]
               by_cases z : cntB (wU C W N t c) j = 0
               · rw [andTo_c0 j z, nI_and, and_all (by omega)]
                 first
                 | done
                 | rfl
                 | exact absurd (ha.trans (if_pos z)) c_49
               · rw [if_neg z] at ha
                 first
                 | (rw [ha]; done)
                 | (rw [ha, y2] at c_49; exact absurd c_49 (nI_m1 (by omega))))
    first | refine j_aload_n dX0_sure_0 rfl ?_ | refine j_aload_nN dX0_sure_0 rfl ?_
    refine j_iload_n dX0_sure_1 rfl ?_
    refine j_iload_n dX0_sure_2 rfl ?_
    refine j_dV1 kl_X0_384 (x_wrongUnsaid hf hg hR hw hT _ _) dX0_sure_3 rfl rfl (by decide) (by first | exact Fa.sh hf | assumption) (Nat.le_of_ble_eq_true rfl) (by first | decide | omega) (by omega) (by omega) ?_
    rw [h0]
    refine j_istore_n dX0_sure_6 (by decide) ?_
    refine j_iload_n dX0_sure_7 rfl ?_
    first | (with_reducible refine j_gC ?_; refine j_if_leC (tgt := 17) dX0_sure_8 (by decide) (fun c_8 => ?_) (fun c_8 => ?_)) | refine j_if_le (tgt := 17) dX0_sure_8 (by decide) (fun c_8 => ?_) (fun c_8 => ?_)
    · refine j_iconst (v := -1) dX0_sure_17 (by decide +kernel) ?_
      refine j_istore dX0_sure_18 (by decide) ?_
      refine j_iconst (v := nI 0) dX0_sure_20 (by decide +kernel) ?_
      refine j_istore dX0_sure_21 (by decide) ?_
      exact key 0 (by omega) _ rfl
    · exact absurd c_8 (by decide)
  · have h1 : ¬ mWhyU M N t0 n = nI 0 := fun e => by rw [e] at h0; exact absurd h0 (by decide)
    refine Kt.go (Y := MX0_sure) (ls := [some (.ref hx), some (.int t0), some (.int n), none, none, none]) (by decide) (Nat.le_of_ble_eq_true rfl) rfl ?_
    first | refine j_aload_n dX0_sure_0 rfl ?_ | refine j_aload_nN dX0_sure_0 rfl ?_
    refine j_iload_n dX0_sure_1 rfl ?_
    refine j_iload_n dX0_sure_2 rfl ?_
    refine j_dV1 kl_X0_384 (x_wrongUnsaid hf hg hR hw hT _ _) dX0_sure_3 rfl rfl (by decide) (by first | exact Fa.sh hf | assumption) (Nat.le_of_ble_eq_true rfl) (by first | decide | omega) (by omega) (by omega) ?_
    refine j_istore_n dX0_sure_6 (by decide) ?_
    refine j_iload_n dX0_sure_7 rfl ?_
    first | (with_reducible refine j_gC ?_; refine j_if_leC (tgt := 17) dX0_sure_8 (by decide) (fun c_8 => ?_) (fun c_8 => ?_)) | refine j_if_le (tgt := 17) dX0_sure_8 (by decide) (fun c_8 => ?_) (fun c_8 => ?_)
    · exact absurd h0 (Int32.not_lt.mpr c_8)
    · first | refine j_aload_n dX0_sure_11 rfl ?_ | refine j_aload_nN dX0_sure_11 rfl ?_
      refine j_iload_n dX0_sure_12 rfl ?_
      refine j_dV1 kl_X0_98 (x_none (Fa.sh hf) _) dX0_sure_13 rfl rfl (by decide) (by first | exact Fa.sh hf | assumption) (Nat.le_of_ble_eq_true rfl) (by first | decide | omega) (by omega) (by omega) ?_
      refine j_iret dX0_sure_16 ⟨_, rfl, rfl⟩ (by omega) (by omega) ?_
      exact pxR hn (by unfold oSure; rw [if_neg h1])
end X9s
