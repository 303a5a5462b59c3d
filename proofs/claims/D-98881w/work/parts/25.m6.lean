/-! THE MODEL: sets of numbers; what is unsaid laid out; rounds; plaits; dining; odds; copies -/
set_option maxRecDepth 100000
theorem nI_bv (a : Nat) : (nI a).toBitVec = BitVec.ofNat 32 a := rfl
theorem nI_and (a b : Nat) : nI a &&& nI b = nI (a &&& b) := by
  apply Int32.toBitVec_inj.mp
  rw [Int32.toBitVec_and, nI_bv, nI_bv, nI_bv, BitVec.ofNat_and]
theorem nI_or (a b : Nat) : nI a ||| nI b = nI (a ||| b) := by
  apply Int32.toBitVec_inj.mp
  rw [Int32.toBitVec_or, nI_bv, nI_bv, nI_bv, BitVec.ofNat_or]
/-- a without b -/
def dif (a b : Nat) : Nat := a ^^^ (a &&& b)
theorem nI_dif (a b : Nat) : nI a &&& (nI b ^^^ (-1)) = nI (dif a b) := by
  apply Int32.toBitVec_inj.mp
  rw [Int32.toBitVec_and, Int32.toBitVec_xor, nI_bv, nI_bv, nI_bv]
  have e : (-1 : Int32).toBitVec = BitVec.allOnes 32 := by decide +kernel
  rw [e]
  unfold dif
  refine BitVec.eq_of_getLsbD_eq fun i hi => ?_
  rw [BitVec.getLsbD_and, BitVec.getLsbD_xor, BitVec.getLsbD_allOnes, BitVec.getLsbD_ofNat, BitVec.getLsbD_ofNat, BitVec.getLsbD_ofNat, Nat.testBit_xor, Nat.testBit_and]
  rw [decide_eq_true hi]
  cases a.testBit i <;> cases b.testBit i <;> rfl
theorem dif_bit (a b i : Nat) : (dif a b).testBit i = (a.testBit i && !b.testBit i) := by
  unfold dif
  rw [Nat.testBit_xor, Nat.testBit_and]
  cases a.testBit i <;> cases b.testBit i <;> rfl
theorem dif_le (a b : Nat) : dif a b ≤ a := by
  have h : dif a b = a &&& dif a b := by
    apply Nat.eq_of_testBit_eq
    intro i
    rw [Nat.testBit_and, dif_bit]
    cases a.testBit i <;> cases b.testBit i <;> rfl
  rw [h]
  exact Nat.and_le_left
theorem bt_nI {k : Nat} (h : k < 8) : bt k = nI (2 ^ k) := by
  have : ∀ k, k < 8 → bt k = nI (2 ^ k) := by decide +kernel
  exact this k h
/-- bit y of x, y any int -/
def hsI (x y : Int32) : Bool := (x >>> (y &&& 31)) &&& nI 1 == nI 1
theorem hsI_nI (x : Int32) (k : Nat) : hsI x (nI k) = hs x k := rfl
def pop (s : Nat) : Nat := cntB (fun k => s.testBit k) 8
theorem pop_lt {s k : Nat} (hs : s < 256) (hk : k < 8) (hb : s.testBit k = true) : pop (dif s (2 ^ k)) < pop s := by
  have h : ∀ s, s < 256 → ∀ k, k < 8 → s.testBit k = true → pop (dif s (2 ^ k)) < pop s := by decide +kernel
  exact h s hs k hk hb
theorem pop_le {s : Nat} : pop s ≤ 8 := cntB_le 8
theorem pop_0 {s : Nat} (hs : s < 256) (h : pop s = 0) : s = 0 := by
  have h2 : ∀ s, s < 256 → pop s = 0 → s = 0 := by decide +kernel
  exact h2 s hs h
theorem hs_nI {s k : Nat} (hs0 : s < 256) (hk : k < 32) : hs (nI s) k = s.testBit k := by
  have h : ∀ s, s < 256 → ∀ k, k < 32 → hs (nI s) k = s.testBit k := by decide +kernel
  exact h s hs0 k hk
theorem up_swap {α : Type} {F : Nat → α} {i j : Nat} {a b v : α} (h : i ≠ j) : up (up (up F i a) j b) i v = up (up F i v) j b := by rw [up_comm _ (Ne.symm h), up_up]
def andTo (u : Nat → Bool) (a : Int32) : Nat → Int32
  | 0 => a
  | j + 1 => if u j then andTo u a j &&& nI j else andTo u a j
section M6
variable {g : Gx} {l : Launch} {σ : Sg} {h : Nat} {ad : Nat → Nat} {C : Nat → Int32}
theorem k_hasI (x y : Int32) : Kd g l 0 MX9_has [.int x, .int y] σ (some (.int (bI (hsI x y)))) σ := by
  refine Kt.go (Y := MX9_has) (ls := [some (.int x), some (.int y)]) (by decide) (Nat.le_of_ble_eq_true rfl) rfl ?_
  refine j_iload_n dX9_has_0 rfl ?_
  refine j_iload_n dX9_has_1 rfl ?_
  refine j_ishr dX9_has_2 ?_
  refine j_iconst (v := nI 1) dX9_has_3 (by decide +kernel) ?_
  refine j_iand dX9_has_4 ?_
  refine j_iconst (v := nI 1) dX9_has_5 (by decide +kernel) ?_
  first | (with_reducible refine j_gNN ?_; refine j_icmp_neN (tgt := 13) dX9_has_6 (by decide) (by omega) (by omega) (fun c_6 => ?_) (fun c_6 => ?_)) | refine j_icmp_ne (tgt := 13) dX9_has_6 (by decide) (fun c_6 => ?_) (fun c_6 => ?_)
  · refine j_iconst (v := nI 0) dX9_has_13 (by decide +kernel) ?_
    refine j_iret dX9_has_14 ⟨_, rfl, rfl⟩ (by omega) (by omega) ?_
    exact ⟨by unfold hsI; first | rw [c_6]; rfl | (rw [beq_eq_false_iff_ne.mpr c_6]; rfl), rfl⟩
  · refine j_iconst (v := nI 1) dX9_has_9 (by decide +kernel) ?_
    refine j_goto (tgt := 14) dX9_has_10 (by decide) ?_
    refine j_iret dX9_has_14 ⟨_, rfl, rfl⟩ (by omega) (by omega) ?_
    exact ⟨by unfold hsI; first | rw [c_6]; rfl | (rw [beq_eq_false_iff_ne.mpr c_6]; rfl), rfl⟩
/-- the state behind laysUnsaid's first j sets -/
def luF (F : Nat → Int32) (u : Nat → Bool) (W j : Nat) : Nat → Int32 := up (up F 27 (nI (cntB u j))) 28 (andTo u (nI (2 ^ W - 1)) j)
theorem m_laysUnsaid (H : Mo σ h ad) (hC : σ.2.1 (ad 20) = C) {W : Nat} (hW : C 0 = nI W) (hW8 : W ≤ 8) {N : Nat → Int64} (hN : σ.2.2.1 (ad 6) = N) {t m : Nat} (ht : t < 4) (hm : 2 * m ≤ 60) {F G : Nat → Int32} (hF : σ.2.1 h = F) (hG : σ.2.1 (ad 29) = G) :
    Kd g l 3 MX9_laysUnsaid [.ref h, .int (nI t), .int (nI m)] σ none (sU (sU σ h (luF F (fun s => mIsU C W N t m (nI s)) W (2 ^ W))) (ad 29) (cpN (2 ^ W) (fun s => bI (mIsU C W N t m (nI s))) G)) := by
  have ne1 : h ≠ ad 29 := Ne.symm (Mo.nh H (i := 29) rfl)
  have ne2 : ad 20 ≠ h := Mo.nh H (i := 20) rfl
  have ne3 : ad 20 ≠ ad 29 := Mo.ne H (by decide) (by decide) (by decide)
  have p8 := pw8 hW8
  have p1 : 1 ≤ 2 ^ W := pw_pos
  generalize hu : (fun s => mIsU C W N t m (nI s)) = u
  have hu' : ∀ s, mIsU C W N t m (nI s) = u s := fun s => by rw [← hu]
  have hub : (fun s => bI (mIsU C W N t m (nI s))) = fun s => bI (u s) := by funext s; rw [hu']
  rw [hub]
  have H0 := H
  refine Kt.go (Y := MX9_laysUnsaid) (ls := [some (.ref h), some (.int (nI t)), some (.int (nI m)), none]) (by decide) (Nat.le_of_ble_eq_true rfl) rfl ?_
  have key : ∀ j, j ≤ 2 ^ W → ∀ E B, E = luF F u W j → B = cpN j (fun s => bI (u s)) G → Td g l 3 MX9_laysUnsaid [.ref h, .int (nI t), .int (nI m)] (sU (sU σ h (luF F u W (2 ^ W))) (ad 29) (cpN (2 ^ W) (fun s => bI (u s)) G)) none 15 [some (.ref h), some (.int (nI t)), some (.int (nI m)), some (.int (nI j))] [] (sU (sU σ h E) (ad 29) B) := by
    refine loop_up fun j hj ih => ?_
    intro E B hE hB
    have hu2 := hu' j
    have H : Mo (sU (sU σ h E) (ad 29) B) h ad := H0
    have hC0 := hC
    have hC : (sU (sU σ h E) (ad 29) B).2.1 (ad 20) = C := by rw [sU_n ne3, sU_n ne2]; exact hC0
    have hB1 : up B j (bI (u j)) = cpN (j + 1) (fun s => bI (u s)) G := by rw [hB]; exact cpN_s
    have r0 : (sU (sU σ h E) (ad 29) (up B j (bI (u j)))).2.1 (ad 29) j = bI (u j) := by rw [sU_e, up_eq]
    have r1 : (sU (sU σ h E) (ad 29) (up B j (bI (u j)))).2.1 h 27 = nI (cntB u j) := by rw [sU_n ne1, sU_e, hE, luF, up_ne (by decide), up_eq]
    have r2 : (sU (sU σ h (up E 27 (nI (cntB u j + 1)))) (ad 29) (up B j (bI (u j)))).2.1 h 28 = andTo u (nI (2 ^ W - 1)) j := by rw [sU_n ne1, sU_e, hE, luF, up_ne (by decide), up_eq]
    refine j_iload_n dX9_laysUnsaid_15 rfl ?_
    first | refine j_aload_n dX9_laysUnsaid_16 rfl ?_ | refine j_aload_nN dX9_laysUnsaid_16 rfl ?_
    refine j_dV1 kl_X9_431 (m_allWords H hC hW hW8) dX9_laysUnsaid_17 rfl rfl (by decide) (Mo.h H) (Nat.le_of_ble_eq_true rfl) (by first | decide | omega) (by omega) (by omega) ?_
    first | (with_reducible refine j_gNN ?_; refine j_icmp_gtN (tgt := 74) dX9_laysUnsaid_20 (by decide) (by omega) (by omega) (fun c_20 => ?_) (fun c_20 => ?_)) | refine j_icmp_gt (tgt := 74) dX9_laysUnsaid_20 (by decide) (fun c_20 => ?_) (fun c_20 => ?_)
    · refine j_vret dX9_laysUnsaid_74 rfl (by omega) (by omega) ?_
      have e : j = 2 ^ W := by omega
      exact ⟨rfl, by rw [hE, hB, e]⟩
    · first | refine j_aload_n dX9_laysUnsaid_23 rfl ?_ | refine j_aload_nN dX9_laysUnsaid_23 rfl ?_
      refine j_getR dX9_laysUnsaid_24 fl_X9_47 rfl (Mo.h H) (Mo.R H _ _ _ rfl) ?_
      refine j_iload_n dX9_laysUnsaid_27 rfl ?_
      first | refine j_aload_n dX9_laysUnsaid_28 rfl ?_ | refine j_aload_nN dX9_laysUnsaid_28 rfl ?_
      refine j_iload_n dX9_laysUnsaid_29 rfl ?_
      refine j_iload_n dX9_laysUnsaid_30 rfl ?_
      refine j_iload_n dX9_laysUnsaid_31 rfl ?_
      refine j_dV1 kl_X9_452 (m_isUnsaid H hC hW hW8 hN ht hm (nI j)) dX9_laysUnsaid_32 rfl rfl (by decide) (Mo.h H) (Nat.le_of_ble_eq_true rfl) (by first | decide | omega) (by omega) (by omega) ?_
      rw [hu2]
      first | refine j_bast dX9_laysUnsaid_35 (Mo.S H _ _ _ rfl) rfl (by omega) (by decide) rfl ?_ | refine j_zast dX9_laysUnsaid_35 (Mo.S H _ _ _ rfl) rfl (by omega) (by decide) (bI_01 _) ?_
      rw [sU_I]
      first | refine j_aload_n dX9_laysUnsaid_36 rfl ?_ | refine j_aload_nN dX9_laysUnsaid_36 rfl ?_
      refine j_getR dX9_laysUnsaid_37 fl_X9_47 rfl (Mo.h H) (Mo.R H _ _ _ rfl) ?_
      refine j_iload_n dX9_laysUnsaid_40 rfl ?_
      first | refine j_bald dX9_laysUnsaid_41 (Mo.S H _ _ _ rfl) rfl (by omega) (by decide) (by first | assumption | (rewrite [hC]; first | assumption | rfl) | rfl) ?_ | refine j_zald dX9_laysUnsaid_41 (Mo.S H _ _ _ rfl) rfl (by omega) (by decide) (by first | assumption | (rewrite [hC]; first | assumption | rfl) | rfl) ?_
      first | (with_reducible refine j_gB ?_; refine j_if_neB (tgt := 48) dX9_laysUnsaid_42 (by decide) (fun c_42 => ?_) (fun c_42 => ?_)) | (with_reducible refine j_gC ?_; refine j_if_neC (tgt := 48) dX9_laysUnsaid_42 (by decide) (fun c_42 => ?_) (fun c_42 => ?_)) | (with_reducible refine j_gN ?_; refine j_if_neN (tgt := 48) dX9_laysUnsaid_42 (by decide) (by omega) (fun c_42 => ?_) (fun c_42 => ?_)) | refine j_if_ne (tgt := 48) dX9_laysUnsaid_42 (by decide) (fun c_42 => ?_) (fun c_42 => ?_)
      · first | refine j_aload_n dX9_laysUnsaid_48 rfl ?_ | refine j_aload_nN dX9_laysUnsaid_48 rfl ?_
        refine j_dup dX9_laysUnsaid_49 rfl ?_
        refine j_getI dX9_laysUnsaid_50 fl_X9_446 rfl (Mo.h H) (by first | assumption | (rewrite [hC]; first | assumption | rfl) | rfl) ?_
        refine j_iconst (v := nI 1) dX9_laysUnsaid_53 (by decide +kernel) ?_
        first | (with_reducible refine j_gNN ?_; refine j_iaddN dX9_laysUnsaid_54 ?_) | refine j_iadd dX9_laysUnsaid_54 ?_
        refine j_putI dX9_laysUnsaid_55 fl_X9_446 rfl (Mo.h H) rfl rfl rfl ?_
        rw [sU2_put ne1]
        first | refine j_aload_n dX9_laysUnsaid_58 rfl ?_ | refine j_aload_nN dX9_laysUnsaid_58 rfl ?_
        refine j_dup dX9_laysUnsaid_59 rfl ?_
        refine j_getI dX9_laysUnsaid_60 fl_X9_449 rfl (Mo.h H) (by first | assumption | (rewrite [hC]; first | assumption | rfl) | rfl) ?_
        refine j_iload_n dX9_laysUnsaid_63 rfl ?_
        refine j_iand dX9_laysUnsaid_64 ?_
        refine j_putI dX9_laysUnsaid_65 fl_X9_449 rfl (Mo.h H) rfl rfl rfl ?_
        rw [sU2_put ne1]
        first | refine j_iincN dX9_laysUnsaid_68 rfl (by decide) ?_ | refine j_iinc dX9_laysUnsaid_68 rfl rfl (by decide) ?_
        refine j_goto (tgt := 15) dX9_laysUnsaid_71 (by decide) ?_
        refine ih (by omega) _ _ ?_ hB1
        first
        | (simp only [hE, luF, cntB, andTo, c_42, if_true, up_swap (show (27 : Nat) ≠ 28 by decide), up_up]; done)
        | (simp only [hE, luF, cntB, andTo, c_42, Bool.false_eq_true, if_false]; done)
        | skip
      · refine j_goto (tgt := 68) dX9_laysUnsaid_45 (by decide) ?_
        first | refine j_iincN dX9_laysUnsaid_68 rfl (by decide) ?_ | refine j_iinc dX9_laysUnsaid_68 rfl rfl (by decide) ?_
        refine j_goto (tgt := 15) dX9_laysUnsaid_71 (by decide) ?_
        refine ih (by omega) _ _ ?_ hB1
        first
        | (simp only [hE, luF, cntB, andTo, c_42, if_true, up_swap (show (27 : Nat) ≠ 28 by decide), up_up]; done)
        | (simp only [hE, luF, cntB, andTo, c_42, Bool.false_eq_true, if_false]; done)
        | skip
  first | refine j_aload_n dX9_laysUnsaid_0 rfl ?_ | refine j_aload_nN dX9_laysUnsaid_0 rfl ?_
  refine j_iconst (v := nI 0) dX9_laysUnsaid_1 (by decide +kernel) ?_
  refine j_putI dX9_laysUnsaid_2 fl_X9_446 rfl (Mo.h H) rfl rfl rfl ?_
  first | refine j_aload_n dX9_laysUnsaid_5 rfl ?_ | refine j_aload_nN dX9_laysUnsaid_5 rfl ?_
  first | refine j_aload_n dX9_laysUnsaid_6 rfl ?_ | refine j_aload_nN dX9_laysUnsaid_6 rfl ?_
  refine j_dV1 kl_X9_431 (m_allWords (σ := sI σ h 27 (nI 0)) H ((sI_n ne2).trans hC) hW hW8) dX9_laysUnsaid_7 rfl rfl (by decide) (Mo.h H) (Nat.le_of_ble_eq_true rfl) (by first | decide | omega) (by omega) (by omega) ?_
  refine j_putI dX9_laysUnsaid_10 fl_X9_449 rfl (Mo.h H) rfl rfl rfl ?_
  refine j_iconst (v := nI 0) dX9_laysUnsaid_13 (by decide +kernel) ?_
  refine j_istore_n dX9_laysUnsaid_14 (by decide) ?_
  refine j_eq rfl rfl ?_ (key 0 (by omega) _ _ rfl rfl)
  rw [cpN_0, ← hG]
  have e : sU σ h (luF F u W 0) = sI (sI σ h 27 (nI 0)) h 28 (nI (2 ^ W - 1)) := by
    rw [luF, ← hF]
    simp only [sI, sU, up_eq, up_up]
    rfl
  rw [← e, show σ.2.1 (ad 29) = (sU σ h (luF F u W 0)).2.1 (ad 29) from (sU_n (Ne.symm ne1)).symm]
  exact sU_self.symm
theorem m_keptBy (H : Mo σ h ad) (hC : σ.2.1 (ad 20) = C) {P : Nat} (hP : C 1 = nI P) (hP6 : P ≤ 6) (s : Int32) : Kd g l 1 MX9_keptBy [.ref h, .int s] σ (some (.int (orTo (fun p => if hs s p then C (43 + p) else nI 0) P))) σ := by
  refine Kt.go (Y := MX9_keptBy) (ls := [some (.ref h), some (.int s), none, none]) (by decide) (Nat.le_of_ble_eq_true rfl) rfl ?_
  have key : ∀ j, j ≤ P → ∀ a, a = orTo (fun p => if hs s p then C (43 + p) else nI 0) j → Td g l 1 MX9_keptBy [.ref h, .int s] σ (some (.int (orTo (fun p => if hs s p then C (43 + p) else nI 0) P))) 4 [some (.ref h), some (.int s), some (.int a), some (.int (nI j))] [] σ := by
    refine loop_up fun j hj ih => ?_
    intro a ha
    refine j_iload_n dX9_keptBy_4 rfl ?_
    first | refine j_aload_n dX9_keptBy_5 rfl ?_ | refine j_aload_nN dX9_keptBy_5 rfl ?_
    refine j_getR dX9_keptBy_6 fl_X9_35 rfl (Mo.h H) (Mo.R H _ _ _ rfl) ?_
    refine j_iconst (v := nI 1) dX9_keptBy_9 (by decide +kernel) ?_
    refine j_iald dX9_keptBy_10 (Mo.S H _ _ _ rfl) rfl (by omega) (by decide) (by first | assumption | (rewrite [hC]; first | assumption | rfl) | rfl) ?_
    first | (with_reducible refine j_gNN ?_; refine j_icmp_geN (tgt := 44) dX9_keptBy_11 (by decide) (by omega) (by omega) (fun c_11 => ?_) (fun c_11 => ?_)) | refine j_icmp_ge (tgt := 44) dX9_keptBy_11 (by decide) (fun c_11 => ?_) (fun c_11 => ?_)
    · refine j_iload_n dX9_keptBy_44 rfl ?_
      refine j_iret dX9_keptBy_45 ⟨_, rfl, rfl⟩ (by omega) (by omega) ?_
      exact ⟨by rw [ha, show j = P by omega], rfl⟩
    · refine j_iload_n dX9_keptBy_14 rfl ?_
      refine j_iload_n dX9_keptBy_15 rfl ?_
      refine j_iload_n dX9_keptBy_16 rfl ?_
      refine j_dS1 kl_X9_106 (k_has _ _ _ _ j) dX9_keptBy_17 rfl rfl (Nat.le_of_ble_eq_true rfl) (by first | decide | omega) (by omega) (by omega) ?_
      first | (with_reducible refine j_gB ?_; refine j_if_eqB (tgt := 35) dX9_keptBy_20 (by decide) (fun c_20 => ?_) (fun c_20 => ?_)) | (with_reducible refine j_gC ?_; refine j_if_eqC (tgt := 35) dX9_keptBy_20 (by decide) (fun c_20 => ?_) (fun c_20 => ?_)) | (with_reducible refine j_gN ?_; refine j_if_eqN (tgt := 35) dX9_keptBy_20 (by decide) (by omega) (fun c_20 => ?_) (fun c_20 => ?_)) | refine j_if_eq (tgt := 35) dX9_keptBy_20 (by decide) (fun c_20 => ?_) (fun c_20 => ?_)
      · refine j_iconst (v := nI 0) dX9_keptBy_35 (by decide +kernel) ?_
        refine j_ior dX9_keptBy_36 ?_
        refine j_istore_n dX9_keptBy_37 (by decide) ?_
        first | refine j_iincN dX9_keptBy_38 rfl (by decide) ?_ | refine j_iinc dX9_keptBy_38 rfl rfl (by decide) ?_
        refine j_goto (tgt := 4) dX9_keptBy_41 (by decide) ?_
        exact ih (by omega) _ (by rw [ha, orTo, c_20]; rfl)
      · first | refine j_aload_n dX9_keptBy_23 rfl ?_ | refine j_aload_nN dX9_keptBy_23 rfl ?_
        refine j_getR dX9_keptBy_24 fl_X9_35 rfl (Mo.h H) (Mo.R H _ _ _ rfl) ?_
        refine j_bipush (v := nI 43) dX9_keptBy_27 (by decide +kernel) ?_
        refine j_iload_n dX9_keptBy_29 rfl ?_
        first | (with_reducible refine j_gNN ?_; refine j_iaddN dX9_keptBy_30 ?_) | refine j_iadd dX9_keptBy_30 ?_
        refine j_iald dX9_keptBy_31 (Mo.S H _ _ _ rfl) rfl (by omega) (by decide) (by first | assumption | (rewrite [hC]; first | assumption | rfl) | rfl) ?_
        refine j_goto (tgt := 36) dX9_keptBy_32 (by decide) ?_
        refine j_ior dX9_keptBy_36 ?_
        refine j_istore_n dX9_keptBy_37 (by decide) ?_
        first | refine j_iincN dX9_keptBy_38 rfl (by decide) ?_ | refine j_iinc dX9_keptBy_38 rfl rfl (by decide) ?_
        refine j_goto (tgt := 4) dX9_keptBy_41 (by decide) ?_
        exact ih (by omega) _ (by rw [ha, orTo, c_20]; rfl)
  refine j_iconst (v := nI 0) dX9_keptBy_0 (by decide +kernel) ?_
  refine j_istore_n dX9_keptBy_1 (by decide) ?_
  refine j_iconst (v := nI 0) dX9_keptBy_2 (by decide +kernel) ?_
  refine j_istore_n dX9_keptBy_3 (by decide) ?_
  exact key 0 (by omega) _ rfl
def mKept (C : Nat → Int32) (P : Nat) (s : Int32) : Int32 := orTo (fun p => if hs s p then C (43 + p) else nI 0) P
def mOneF (C : Nat → Int32) (S : Int32) (i : Nat) : Bool := !(hsI S (C (163 + i)) && hsI S (C (169 + i)))
def mIsOne (C : Nat → Int32) (P Hn : Nat) (s : Int32) : Bool := allB (mOneF C (mKept C P s)) Hn
theorem m_isOne (H : Mo σ h ad) (hC : σ.2.1 (ad 20) = C) {P Hn : Nat} (hP : C 1 = nI P) (hP6 : P ≤ 6) (hH : C 3 = nI Hn) (hH6 : Hn ≤ 6) (s : Int32) : Kd g l 2 MX9_isOne [.ref h, .int s] σ (some (.int (bI (mIsOne C P Hn s)))) σ := by
  refine Kt.go (Y := MX9_isOne) (ls := [some (.ref h), some (.int s), none, none]) (by decide) (Nat.le_of_ble_eq_true rfl) rfl ?_
  have key : ∀ j, j ≤ Hn → allB (mOneF C (mKept C P s)) j = true → Td g l 2 MX9_isOne [.ref h, .int s] σ (some (.int (bI (mIsOne C P Hn s)))) 8 [some (.ref h), some (.int s), some (.int (mKept C P s)), some (.int (nI j))] [] σ := by
    refine loop_up fun j hj ih => ?_
    intro hA
    refine j_iload_n dX9_isOne_8 rfl ?_
    first | refine j_aload_n dX9_isOne_9 rfl ?_ | refine j_aload_nN dX9_isOne_9 rfl ?_
    refine j_getR dX9_isOne_10 fl_X9_35 rfl (Mo.h H) (Mo.R H _ _ _ rfl) ?_
    refine j_iconst (v := nI 3) dX9_isOne_13 (by decide +kernel) ?_
    refine j_iald dX9_isOne_14 (Mo.S H _ _ _ rfl) rfl (by omega) (by decide) (by first | assumption | (rewrite [hC]; first | assumption | rfl) | rfl) ?_
    first | (with_reducible refine j_gNN ?_; refine j_icmp_geN (tgt := 60) dX9_isOne_15 (by decide) (by omega) (by omega) (fun c_15 => ?_) (fun c_15 => ?_)) | refine j_icmp_ge (tgt := 60) dX9_isOne_15 (by decide) (fun c_15 => ?_) (fun c_15 => ?_)
    · refine j_iconst (v := nI 1) dX9_isOne_60 (by decide +kernel) ?_
      refine j_iret dX9_isOne_61 ⟨_, rfl, rfl⟩ (by omega) (by omega) ?_
      exact ⟨by rw [mIsOne, ← show j = Hn by omega, hA]; rfl, rfl⟩
    · refine j_iload_n dX9_isOne_18 rfl ?_
      first | refine j_aload_n dX9_isOne_19 rfl ?_ | refine j_aload_nN dX9_isOne_19 rfl ?_
      refine j_getR dX9_isOne_20 fl_X9_35 rfl (Mo.h H) (Mo.R H _ _ _ rfl) ?_
      refine j_sipush (v := nI 163) dX9_isOne_23 (by decide +kernel) ?_
      refine j_iload_n dX9_isOne_26 rfl ?_
      first | (with_reducible refine j_gNN ?_; refine j_iaddN dX9_isOne_27 ?_) | refine j_iadd dX9_isOne_27 ?_
      refine j_iald dX9_isOne_28 (Mo.S H _ _ _ rfl) rfl (by omega) (by decide) (by first | assumption | (rewrite [hC]; first | assumption | rfl) | rfl) ?_
      refine j_dS1 kl_X9_106 (k_hasI _ _) dX9_isOne_29 rfl rfl (Nat.le_of_ble_eq_true rfl) (by first | decide | omega) (by omega) (by omega) ?_
      first | (with_reducible refine j_gB ?_; refine j_if_eqB (tgt := 54) dX9_isOne_32 (by decide) (fun c_32 => ?_) (fun c_32 => ?_)) | (with_reducible refine j_gC ?_; refine j_if_eqC (tgt := 54) dX9_isOne_32 (by decide) (fun c_32 => ?_) (fun c_32 => ?_)) | (with_reducible refine j_gN ?_; refine j_if_eqN (tgt := 54) dX9_isOne_32 (by decide) (by omega) (fun c_32 => ?_) (fun c_32 => ?_)) | refine j_if_eq (tgt := 54) dX9_isOne_32 (by decide) (fun c_32 => ?_) (fun c_32 => ?_)
      · first | refine j_iincN dX9_isOne_54 rfl (by decide) ?_ | refine j_iinc dX9_isOne_54 rfl rfl (by decide) ?_
        refine j_goto (tgt := 8) dX9_isOne_57 (by decide) ?_
        exact ih (by omega) (by rw [allB, hA, mOneF]; first | (rw [c_32]; rfl) | (rw [c_49]; simp))
      · refine j_iload_n dX9_isOne_35 rfl ?_
        first | refine j_aload_n dX9_isOne_36 rfl ?_ | refine j_aload_nN dX9_isOne_36 rfl ?_
        refine j_getR dX9_isOne_37 fl_X9_35 rfl (Mo.h H) (Mo.R H _ _ _ rfl) ?_
        refine j_sipush (v := nI 169) dX9_isOne_40 (by decide +kernel) ?_
        refine j_iload_n dX9_isOne_43 rfl ?_
        first | (with_reducible refine j_gNN ?_; refine j_iaddN dX9_isOne_44 ?_) | refine j_iadd dX9_isOne_44 ?_
        refine j_iald dX9_isOne_45 (Mo.S H _ _ _ rfl) rfl (by omega) (by decide) (by first | assumption | (rewrite [hC]; first | assumption | rfl) | rfl) ?_
        refine j_dS1 kl_X9_106 (k_hasI _ _) dX9_isOne_46 rfl rfl (Nat.le_of_ble_eq_true rfl) (by first | decide | omega) (by omega) (by omega) ?_
        first | (with_reducible refine j_gB ?_; refine j_if_eqB (tgt := 54) dX9_isOne_49 (by decide) (fun c_49 => ?_) (fun c_49 => ?_)) | (with_reducible refine j_gC ?_; refine j_if_eqC (tgt := 54) dX9_isOne_49 (by decide) (fun c_49 => ?_) (fun c_49 => ?_)) | (with_reducible refine j_gN ?_; refine j_if_eqN (tgt := 54) dX9_isOne_49 (by decide) (by omega) (fun c_49 => ?_) (fun c_49 => ?_)) | refine j_if_eq (tgt := 54) dX9_isOne_49 (by decide) (fun c_49 => ?_) (fun c_49 => ?_)
        · first | refine j_iincN dX9_isOne_54 rfl (by decide) ?_ | refine j_iinc dX9_isOne_54 rfl rfl (by decide) ?_
          refine j_goto (tgt := 8) dX9_isOne_57 (by decide) ?_
          exact ih (by omega) (by rw [allB, hA, mOneF]; first | (rw [c_32]; rfl) | (rw [c_49]; simp))
        · refine j_iconst (v := nI 0) dX9_isOne_52 (by decide +kernel) ?_
          refine j_iret dX9_isOne_53 ⟨_, rfl, rfl⟩ (by omega) (by omega) ?_
          exact ⟨by rw [mIsOne, allB_le (m := j + 1) (by rw [allB, hA, mOneF, c_32, c_49]; rfl) (by omega)]; rfl, rfl⟩
  first | refine j_aload_n dX9_isOne_0 rfl ?_ | refine j_aload_nN dX9_isOne_0 rfl ?_
  refine j_iload_n dX9_isOne_1 rfl ?_
  refine j_dV1 kl_X9_469 (m_keptBy H hC hP hP6 s) dX9_isOne_2 rfl rfl (by decide) (Mo.h H) (Nat.le_of_ble_eq_true rfl) (by first | decide | omega) (by omega) (by omega) ?_
  refine j_istore_n dX9_isOne_5 (by decide) ?_
  refine j_iconst (v := nI 0) dX9_isOne_6 (by decide +kernel) ?_
  refine j_istore_n dX9_isOne_7 (by decide) ?_
  exact key 0 (by omega) rfl
def rStep (C : Nat → Int32) (P Hn set t : Nat) (R : Nat → Int32) : Nat → Int32 :=
  if dif t set = 0 ∧ mIsOne C P Hn (nI t) = true ∧ ¬ R (dif set t) < 0 then (if R set < 0 ∨ R (dif set t) + nI 1 < R set then up R set (R (dif set t) + nI 1) else R) else R
def rSet (C : Nat → Int32) (P Hn set : Nat) (R : Nat → Int32) : Nat → Int32 := itr (fun j R => rStep C P Hn set (j + 1) R) set (up R set (-1))
def rAll (C : Nat → Int32) (P Hn s : Nat) (R : Nat → Int32) : Nat → Int32 := itr (fun j R => rSet C P Hn (j + 1) R) s (up R 0 (nI 0))
theorem m_roundOf (H : Mo σ h ad) (hC : σ.2.1 (ad 20) = C) {P Hn : Nat} (hP : C 1 = nI P) (hP6 : P ≤ 6) (hH : C 3 = nI Hn) (hH6 : Hn ≤ 6) {s : Nat} (hs : s < 64) {R : Nat → Int32} (hR : σ.2.1 (ad 31) = R) :
    Kd g l 3 MX9_roundOf [.ref h, .int (nI s)] σ (some (.int (rAll C P Hn s R s))) (sU σ (ad 31) (rAll C P Hn s R)) := by
  have ne : ad 20 ≠ ad 31 := Mo.ne H (by decide) (by decide) (by decide)
  have H0 := H
  have hC0 := hC
  refine Kt.go (Y := MX9_roundOf) (ls := [some (.ref h), some (.int (nI s)), none, none]) (by decide) (Nat.le_of_ble_eq_true rfl) rfl ?_
  have key1 : ∀ i, i ≤ s → ∀ B x, B = itr (fun j R => rSet C P Hn (j + 1) R) i (up R 0 (nI 0)) → Td g l 3 MX9_roundOf [.ref h, .int (nI s)] (sU σ (ad 31) (rAll C P Hn s R)) (some (.int (rAll C P Hn s R s))) 9 [some (.ref h), some (.int (nI s)), some (.int (nI (i + 1))), x] [] (sU σ (ad 31) B) := by
    refine loop_up fun i hi ih1 => ?_
    intro B x hB
    have H : Mo (sU σ (ad 31) B) h ad := H0
    by_cases his : i < s
    · have key2 : ∀ j, j ≤ i + 1 → ∀ D, D = itr (fun j R => rStep C P Hn (i + 1) (j + 1) R) j (up B (i + 1) (-1)) → Td g l 3 MX9_roundOf [.ref h, .int (nI s)] (sU σ (ad 31) (rAll C P Hn s R)) (some (.int (rAll C P Hn s R s))) 23 [some (.ref h), some (.int (nI s)), some (.int (nI (i + 1))), some (.int (nI (j + 1)))] [] (sU σ (ad 31) D) := by
        refine loop_up fun j hj ih2 => ?_
        intro D hD
        have H : Mo (sU σ (ad 31) D) h ad := H0
        have hC2 : (sU σ (ad 31) D).2.1 (ad 20) = C := (sU_n ne).trans hC0
        have hC : (sU σ (ad 31) D).2.1 (ad 31) = D := sU_e
        have hd := dif_le (i + 1) (j + 1)
        have e2 : itr (fun j R => rStep C P Hn (i + 1) (j + 1) R) (j + 1) (up B (i + 1) (-1)) = rStep C P Hn (i + 1) (j + 1) D := by rw [itr, ← hD]
        refine j_iload_n dX9_roundOf_23 rfl ?_
        refine j_iload_n dX9_roundOf_24 rfl ?_
        first | (with_reducible refine j_gNN ?_; refine j_icmp_gtN (tgt := 114) dX9_roundOf_25 (by decide) (by omega) (by omega) (fun c_25 => ?_) (fun c_25 => ?_)) | refine j_icmp_gt (tgt := 114) dX9_roundOf_25 (by decide) (fun c_25 => ?_) (fun c_25 => ?_)
        · have e : j = i + 1 := by omega
          subst e
          first | refine j_iincN dX9_roundOf_114 rfl (by decide) ?_ | refine j_iinc dX9_roundOf_114 rfl rfl (by decide) ?_
          refine j_goto (tgt := 9) dX9_roundOf_117 (by decide) ?_
          exact ih1 his _ _ (by rw [itr, ← hB, hD]; rfl)
        · refine j_iload_n dX9_roundOf_28 rfl ?_
          refine j_iload_n dX9_roundOf_29 rfl ?_
          refine j_iconst (v := -1) dX9_roundOf_30 (by decide +kernel) ?_
          refine j_ixor dX9_roundOf_31 ?_
          refine j_iand dX9_roundOf_32 ?_
          refine j_top (nI_dif _ _) ?_
          have hdl := dif_le (j + 1) (i + 1)
          first | (with_reducible refine j_gB ?_; refine j_if_neB (tgt := 108) dX9_roundOf_33 (by decide) (fun c_33 => ?_) (fun c_33 => ?_)) | (with_reducible refine j_gC ?_; refine j_if_neC (tgt := 108) dX9_roundOf_33 (by decide) (fun c_33 => ?_) (fun c_33 => ?_)) | (with_reducible refine j_gN ?_; refine j_if_neN (tgt := 108) dX9_roundOf_33 (by decide) (by omega) (fun c_33 => ?_) (fun c_33 => ?_)) | refine j_if_ne (tgt := 108) dX9_roundOf_33 (by decide) (fun c_33 => ?_) (fun c_33 => ?_)
          · first | refine j_iincN dX9_roundOf_108 rfl (by decide) ?_ | refine j_iinc dX9_roundOf_108 rfl rfl (by decide) ?_
            refine j_goto (tgt := 23) dX9_roundOf_111 (by decide) ?_
            refine ih2 (by omega) _ ?_
            rw [e2, rStep]
            first
            | (rw [if_neg (fun q => c_33 q.1)]; done)
            | (rw [if_neg (fun q => by rw [c_41] at q; exact absurd q.2.1 (by decide))]; done)
            | (rw [if_neg (fun q => q.2.2 (Int32.not_le.mp c_54))]; done)
            | (rw [if_pos ⟨c_33, c_41, Int32.not_lt.mpr c_54⟩, if_pos (Or.inl c_66)]; done)
            | (rw [if_pos ⟨c_33, c_41, Int32.not_lt.mpr c_54⟩, if_pos (Or.inr (Int32.not_le.mp c_87))]; done)
            | (rw [if_pos ⟨c_33, c_41, Int32.not_lt.mpr c_54⟩, if_neg (fun q => q.elim c_66 (fun q => absurd q (Int32.not_lt.mpr c_87)))]; done)
            | skip
          · first | refine j_aload_n dX9_roundOf_36 rfl ?_ | refine j_aload_nN dX9_roundOf_36 rfl ?_
            refine j_iload_n dX9_roundOf_37 rfl ?_
            refine j_dV1 kl_X9_472 (m_isOne H hC2 hP hP6 hH hH6 (nI (j + 1))) dX9_roundOf_38 rfl rfl (by decide) (Mo.h H) (Nat.le_of_ble_eq_true rfl) (by first | decide | omega) (by omega) (by omega) ?_
            first | (with_reducible refine j_gB ?_; refine j_if_eqB (tgt := 108) dX9_roundOf_41 (by decide) (fun c_41 => ?_) (fun c_41 => ?_)) | (with_reducible refine j_gC ?_; refine j_if_eqC (tgt := 108) dX9_roundOf_41 (by decide) (fun c_41 => ?_) (fun c_41 => ?_)) | (with_reducible refine j_gN ?_; refine j_if_eqN (tgt := 108) dX9_roundOf_41 (by decide) (by omega) (fun c_41 => ?_) (fun c_41 => ?_)) | refine j_if_eq (tgt := 108) dX9_roundOf_41 (by decide) (fun c_41 => ?_) (fun c_41 => ?_)
            · first | refine j_iincN dX9_roundOf_108 rfl (by decide) ?_ | refine j_iinc dX9_roundOf_108 rfl rfl (by decide) ?_
              refine j_goto (tgt := 23) dX9_roundOf_111 (by decide) ?_
              refine ih2 (by omega) _ ?_
              rw [e2, rStep]
              first
              | (rw [if_neg (fun q => c_33 q.1)]; done)
              | (rw [if_neg (fun q => by rw [c_41] at q; exact absurd q.2.1 (by decide))]; done)
              | (rw [if_neg (fun q => q.2.2 (Int32.not_le.mp c_54))]; done)
              | (rw [if_pos ⟨c_33, c_41, Int32.not_lt.mpr c_54⟩, if_pos (Or.inl c_66)]; done)
              | (rw [if_pos ⟨c_33, c_41, Int32.not_lt.mpr c_54⟩, if_pos (Or.inr (Int32.not_le.mp c_87))]; done)
              | (rw [if_pos ⟨c_33, c_41, Int32.not_lt.mpr c_54⟩, if_neg (fun q => q.elim c_66 (fun q => absurd q (Int32.not_lt.mpr c_87)))]; done)
              | skip
            · first | refine j_aload_n dX9_roundOf_44 rfl ?_ | refine j_aload_nN dX9_roundOf_44 rfl ?_
              refine j_getR dX9_roundOf_45 fl_X9_54 rfl (Mo.h H) (Mo.R H _ _ _ rfl) ?_
              refine j_iload_n dX9_roundOf_48 rfl ?_
              refine j_iload_n dX9_roundOf_49 rfl ?_
              refine j_iconst (v := -1) dX9_roundOf_50 (by decide +kernel) ?_
              refine j_ixor dX9_roundOf_51 ?_
              refine j_iand dX9_roundOf_52 ?_
              refine j_eq (st' := [.int (nI (dif (i + 1) (j + 1))), .ref (ad 31)]) rfl (by rw [nI_dif]) rfl ?_
              refine j_iald dX9_roundOf_53 (Mo.S H _ _ _ rfl) rfl (by omega) (by decide) (by first | assumption | (rewrite [hC]; first | assumption | rfl) | rfl) ?_
              first | (with_reducible refine j_gC ?_; refine j_if_geC (tgt := 60) dX9_roundOf_54 (by decide) (fun c_54 => ?_) (fun c_54 => ?_)) | refine j_if_ge (tgt := 60) dX9_roundOf_54 (by decide) (fun c_54 => ?_) (fun c_54 => ?_)
              · first | refine j_aload_n dX9_roundOf_60 rfl ?_ | refine j_aload_nN dX9_roundOf_60 rfl ?_
                refine j_getR dX9_roundOf_61 fl_X9_54 rfl (Mo.h H) (Mo.R H _ _ _ rfl) ?_
                refine j_iload_n dX9_roundOf_64 rfl ?_
                refine j_iald dX9_roundOf_65 (Mo.S H _ _ _ rfl) rfl (by omega) (by decide) (by first | assumption | (rewrite [hC]; first | assumption | rfl) | rfl) ?_
                first | (with_reducible refine j_gC ?_; refine j_if_ltC (tgt := 90) dX9_roundOf_66 (by decide) (fun c_66 => ?_) (fun c_66 => ?_)) | refine j_if_lt (tgt := 90) dX9_roundOf_66 (by decide) (fun c_66 => ?_) (fun c_66 => ?_)
                · first | refine j_aload_n dX9_roundOf_90 rfl ?_ | refine j_aload_nN dX9_roundOf_90 rfl ?_
                  refine j_getR dX9_roundOf_91 fl_X9_54 rfl (Mo.h H) (Mo.R H _ _ _ rfl) ?_
                  refine j_iload_n dX9_roundOf_94 rfl ?_
                  first | refine j_aload_n dX9_roundOf_95 rfl ?_ | refine j_aload_nN dX9_roundOf_95 rfl ?_
                  refine j_getR dX9_roundOf_96 fl_X9_54 rfl (Mo.h H) (Mo.R H _ _ _ rfl) ?_
                  refine j_iload_n dX9_roundOf_99 rfl ?_
                  refine j_iload_n dX9_roundOf_100 rfl ?_
                  refine j_iconst (v := -1) dX9_roundOf_101 (by decide +kernel) ?_
                  refine j_ixor dX9_roundOf_102 ?_
                  refine j_iand dX9_roundOf_103 ?_
                  refine j_top (nI_dif _ _) ?_
                  refine j_iald dX9_roundOf_104 (Mo.S H _ _ _ rfl) rfl (by omega) (by decide) (by first | assumption | (rewrite [hC]; first | assumption | rfl) | rfl) ?_
                  refine j_iconst (v := nI 1) dX9_roundOf_105 (by decide +kernel) ?_
                  first | (with_reducible refine j_gNN ?_; refine j_iaddN dX9_roundOf_106 ?_) | refine j_iadd dX9_roundOf_106 ?_
                  refine j_iast dX9_roundOf_107 (Mo.S H _ _ _ rfl) rfl (by omega) (by decide) ?_
                  rw [sU_I]
                  first | refine j_iincN dX9_roundOf_108 rfl (by decide) ?_ | refine j_iinc dX9_roundOf_108 rfl rfl (by decide) ?_
                  refine j_goto (tgt := 23) dX9_roundOf_111 (by decide) ?_
                  refine ih2 (by omega) _ ?_
                  rw [e2, rStep]
                  first
                  | (rw [if_neg (fun q => c_33 q.1)]; done)
                  | (rw [if_neg (fun q => by rw [c_41] at q; exact absurd q.2.1 (by decide))]; done)
                  | (rw [if_neg (fun q => q.2.2 (Int32.not_le.mp c_54))]; done)
                  | (rw [if_pos ⟨c_33, c_41, Int32.not_lt.mpr c_54⟩, if_pos (Or.inl c_66)]; done)
                  | (rw [if_pos ⟨c_33, c_41, Int32.not_lt.mpr c_54⟩, if_pos (Or.inr (Int32.not_le.mp c_87))]; done)
                  | (rw [if_pos ⟨c_33, c_41, Int32.not_lt.mpr c_54⟩, if_neg (fun q => q.elim c_66 (fun q => absurd q (Int32.not_lt.mpr c_87)))]; done)
                  | skip
                · first | refine j_aload_n dX9_roundOf_69 rfl ?_ | refine j_aload_nN dX9_roundOf_69 rfl ?_
                  refine j_getR dX9_roundOf_70 fl_X9_54 rfl (Mo.h H) (Mo.R H _ _ _ rfl) ?_
                  refine j_iload_n dX9_roundOf_73 rfl ?_
                  refine j_iload_n dX9_roundOf_74 rfl ?_
                  refine j_iconst (v := -1) dX9_roundOf_75 (by decide +kernel) ?_
                  refine j_ixor dX9_roundOf_76 ?_
                  refine j_iand dX9_roundOf_77 ?_
                  refine j_eq (st' := [.int (nI (dif (i + 1) (j + 1))), .ref (ad 31)]) rfl (by rw [nI_dif]) rfl ?_
                  refine j_iald dX9_roundOf_78 (Mo.S H _ _ _ rfl) rfl (by omega) (by decide) (by first | assumption | (rewrite [hC]; first | assumption | rfl) | rfl) ?_
                  refine j_iconst (v := nI 1) dX9_roundOf_79 (by decide +kernel) ?_
                  first | (with_reducible refine j_gNN ?_; refine j_iaddN dX9_roundOf_80 ?_) | refine j_iadd dX9_roundOf_80 ?_
                  first | refine j_aload_n dX9_roundOf_81 rfl ?_ | refine j_aload_nN dX9_roundOf_81 rfl ?_
                  refine j_getR dX9_roundOf_82 fl_X9_54 rfl (Mo.h H) (Mo.R H _ _ _ rfl) ?_
                  refine j_iload_n dX9_roundOf_85 rfl ?_
                  refine j_iald dX9_roundOf_86 (Mo.S H _ _ _ rfl) rfl (by omega) (by decide) (by first | assumption | (rewrite [hC]; first | assumption | rfl) | rfl) ?_
                  first | (with_reducible refine j_gNN ?_; refine j_icmp_geN (tgt := 108) dX9_roundOf_87 (by decide) (by omega) (by omega) (fun c_87 => ?_) (fun c_87 => ?_)) | refine j_icmp_ge (tgt := 108) dX9_roundOf_87 (by decide) (fun c_87 => ?_) (fun c_87 => ?_)
                  · first | refine j_iincN dX9_roundOf_108 rfl (by decide) ?_ | refine j_iinc dX9_roundOf_108 rfl rfl (by decide) ?_
                    refine j_goto (tgt := 23) dX9_roundOf_111 (by decide) ?_
                    refine ih2 (by omega) _ ?_
                    rw [e2, rStep]
                    first
                    | (rw [if_neg (fun q => c_33 q.1)]; done)
                    | (rw [if_neg (fun q => by rw [c_41] at q; exact absurd q.2.1 (by decide))]; done)
                    | (rw [if_neg (fun q => q.2.2 (Int32.not_le.mp c_54))]; done)
                    | (rw [if_pos ⟨c_33, c_41, Int32.not_lt.mpr c_54⟩, if_pos (Or.inl c_66)]; done)
                    | (rw [if_pos ⟨c_33, c_41, Int32.not_lt.mpr c_54⟩, if_pos (Or.inr (Int32.not_le.mp c_87))]; done)
                    | (rw [if_pos ⟨c_33, c_41, Int32.not_lt.mpr c_54⟩, if_neg (fun q => q.elim c_66 (fun q => absurd q (Int32.not_lt.mpr c_87)))]; done)
                    | skip
                  · first | refine j_aload_n dX9_roundOf_90 rfl ?_ | refine j_aload_nN dX9_roundOf_90 rfl ?_
                    refine j_getR dX9_roundOf_91 fl_X9_54 rfl (Mo.h H) (Mo.R H _ _ _ rfl) ?_
                    refine j_iload_n dX9_roundOf_94 rfl ?_
                    first | refine j_aload_n dX9_roundOf_95 rfl ?_ | refine j_aload_nN dX9_roundOf_95 rfl ?_
                    refine j_getR dX9_roundOf_96 fl_X9_54 rfl (Mo.h H) (Mo.R H _ _ _ rfl) ?_
                    refine j_iload_n dX9_roundOf_99 rfl ?_
                    refine j_iload_n dX9_roundOf_100 rfl ?_
                    refine j_iconst (v := -1) dX9_roundOf_101 (by decide +kernel) ?_
                    refine j_ixor dX9_roundOf_102 ?_
                    refine j_iand dX9_roundOf_103 ?_
                    refine j_top (nI_dif _ _) ?_
                    refine j_iald dX9_roundOf_104 (Mo.S H _ _ _ rfl) rfl (by omega) (by decide) (by first | assumption | (rewrite [hC]; first | assumption | rfl) | rfl) ?_
                    refine j_iconst (v := nI 1) dX9_roundOf_105 (by decide +kernel) ?_
                    first | (with_reducible refine j_gNN ?_; refine j_iaddN dX9_roundOf_106 ?_) | refine j_iadd dX9_roundOf_106 ?_
                    refine j_iast dX9_roundOf_107 (Mo.S H _ _ _ rfl) rfl (by omega) (by decide) ?_
                    rw [sU_I]
                    first | refine j_iincN dX9_roundOf_108 rfl (by decide) ?_ | refine j_iinc dX9_roundOf_108 rfl rfl (by decide) ?_
                    refine j_goto (tgt := 23) dX9_roundOf_111 (by decide) ?_
                    refine ih2 (by omega) _ ?_
                    rw [e2, rStep]
                    first
                    | (rw [if_neg (fun q => c_33 q.1)]; done)
                    | (rw [if_neg (fun q => by rw [c_41] at q; exact absurd q.2.1 (by decide))]; done)
                    | (rw [if_neg (fun q => q.2.2 (Int32.not_le.mp c_54))]; done)
                    | (rw [if_pos ⟨c_33, c_41, Int32.not_lt.mpr c_54⟩, if_pos (Or.inl c_66)]; done)
                    | (rw [if_pos ⟨c_33, c_41, Int32.not_lt.mpr c_54⟩, if_pos (Or.inr (Int32.not_le.mp c_87))]; done)
                    | (rw [if_pos ⟨c_33, c_41, Int32.not_lt.mpr c_54⟩, if_neg (fun q => q.elim c_66 (fun q => absurd q (Int32.not_lt.mpr c_87)))]; done)
                    | skip
              · refine j_goto (tgt := 108) dX9_roundOf_57 (by decide) ?_
                first | refine j_iincN dX9_roundOf_108 rfl (by decide) ?_ | refine j_iinc dX9_roundOf_108 rfl rfl (by decide) ?_
                refine j_goto (tgt := 23) dX9_roundOf_111 (by decide) ?_
                refine ih2 (by omega) _ ?_
                rw [e2, rStep]
                first
                | (rw [if_neg (fun q => c_33 q.1)]; done)
                | (rw [if_neg (fun q => by rw [c_41] at q; exact absurd q.2.1 (by decide))]; done)
                | (rw [if_neg (fun q => q.2.2 (Int32.not_le.mp c_54))]; done)
                | (rw [if_pos ⟨c_33, c_41, Int32.not_lt.mpr c_54⟩, if_pos (Or.inl c_66)]; done)
                | (rw [if_pos ⟨c_33, c_41, Int32.not_lt.mpr c_54⟩, if_pos (Or.inr (Int32.not_le.mp c_87))]; done)
                | (rw [if_pos ⟨c_33, c_41, Int32.not_lt.mpr c_54⟩, if_neg (fun q => q.elim c_66 (fun q => absurd q (Int32.not_lt.mpr c_87)))]; done)
                | skip
      refine j_iload_n dX9_roundOf_9 rfl ?_
      refine j_iload_n dX9_roundOf_10 rfl ?_
      first | (with_reducible refine j_gNN ?_; refine j_icmp_gtN (tgt := 120) dX9_roundOf_11 (by decide) (by omega) (by omega) (fun c_11 => ?_) (fun c_11 => ?_)) | refine j_icmp_gt (tgt := 120) dX9_roundOf_11 (by decide) (fun c_11 => ?_) (fun c_11 => ?_)
      · exact absurd his (by omega)
      · first | refine j_aload_n dX9_roundOf_14 rfl ?_ | refine j_aload_nN dX9_roundOf_14 rfl ?_
        refine j_getR dX9_roundOf_15 fl_X9_54 rfl (Mo.h H) (Mo.R H _ _ _ rfl) ?_
        refine j_iload_n dX9_roundOf_18 rfl ?_
        refine j_iconst (v := -1) dX9_roundOf_19 (by decide +kernel) ?_
        refine j_iast dX9_roundOf_20 (Mo.S H _ _ _ rfl) rfl (by omega) (by decide) ?_
        refine j_iconst (v := nI 1) dX9_roundOf_21 (by decide +kernel) ?_
        refine j_istore_n dX9_roundOf_22 (by decide) ?_
        exact j_eq rfl rfl sU_I (key2 0 (by omega) _ rfl)
    · have e : i = s := by omega
      subst e
      have hC : (sU σ (ad 31) B).2.1 (ad 31) = B := sU_e
      refine j_iload_n dX9_roundOf_9 rfl ?_
      refine j_iload_n dX9_roundOf_10 rfl ?_
      first | (with_reducible refine j_gNN ?_; refine j_icmp_gtN (tgt := 120) dX9_roundOf_11 (by decide) (by omega) (by omega) (fun c_11 => ?_) (fun c_11 => ?_)) | refine j_icmp_gt (tgt := 120) dX9_roundOf_11 (by decide) (fun c_11 => ?_) (fun c_11 => ?_)
      · first | refine j_aload_n dX9_roundOf_120 rfl ?_ | refine j_aload_nN dX9_roundOf_120 rfl ?_
        refine j_getR dX9_roundOf_121 fl_X9_54 rfl (Mo.h H) (Mo.R H _ _ _ rfl) ?_
        refine j_iload_n dX9_roundOf_124 rfl ?_
        refine j_iald dX9_roundOf_125 (Mo.S H _ _ _ rfl) rfl (by omega) (by decide) (by first | assumption | (rewrite [hC]; first | assumption | rfl) | rfl) ?_
        refine j_iret dX9_roundOf_126 ⟨_, rfl, rfl⟩ (by omega) (by omega) ?_
        exact ⟨by rw [rAll, ← hB], by rw [rAll, ← hB]⟩
      · omega
  first | refine j_aload_n dX9_roundOf_0 rfl ?_ | refine j_aload_nN dX9_roundOf_0 rfl ?_
  refine j_getR dX9_roundOf_1 fl_X9_54 rfl (Mo.h H) (Mo.R H _ _ _ rfl) ?_
  refine j_iconst (v := nI 0) dX9_roundOf_4 (by decide +kernel) ?_
  refine j_iconst (v := nI 0) dX9_roundOf_5 (by decide +kernel) ?_
  refine j_iast dX9_roundOf_6 (Mo.S H _ _ _ rfl) rfl (by omega) (by decide) ?_
  refine j_iconst (v := nI 1) dX9_roundOf_7 (by decide +kernel) ?_
  refine j_istore_n dX9_roundOf_8 (by decide) ?_
  refine j_eq rfl rfl ?_ (key1 0 (by omega) _ none rfl)
  rw [sI_U, hR]
  rfl
theorem m_arePeople (H : Mo σ h ad) (hC : σ.2.1 (ad 20) = C) {P : Nat} (hP : C 1 = nI P) (hP6 : P ≤ 6) (set : Int32) : Kd g l 1 MX9_arePeople [.ref h, .int set] σ (some (.int (bI (okN set (2 ^ P))))) σ := by
  have h1 := pw8 (show P ≤ 8 by omega)
  have h2 : 1 ≤ 2 ^ P := pw_pos
  rw [← inL_n (by omega), nI_sub h2]
  refine Kt.go (Y := MX9_arePeople) (ls := [some (.ref h), some (.int set)]) (by decide) (Nat.le_of_ble_eq_true rfl) rfl ?_
  refine j_iload_n dX9_arePeople_0 rfl ?_
  refine j_i2l dX9_arePeople_1 ?_
  refine j_lconst (v := 0) dX9_arePeople_2 (by decide +kernel) ?_
  refine j_iconst (v := nI 1) dX9_arePeople_3 (by decide +kernel) ?_
  first | refine j_aload_n dX9_arePeople_4 rfl ?_ | refine j_aload_nN dX9_arePeople_4 rfl ?_
  refine j_getR dX9_arePeople_5 fl_X9_35 rfl (Mo.h H) (Mo.R H _ _ _ rfl) ?_
  refine j_iconst (v := nI 1) dX9_arePeople_8 (by decide +kernel) ?_
  refine j_iald dX9_arePeople_9 (Mo.S H _ _ _ rfl) rfl (by omega) (by decide) (by first | assumption | (rewrite [hC]; first | assumption | rfl) | rfl) ?_
  refine j_ishl dX9_arePeople_10 ?_
  refine j_iconst (v := nI 1) dX9_arePeople_11 (by decide +kernel) ?_
  refine j_isub dX9_arePeople_12 ?_
  refine j_top (aw_eq (show P ≤ 8 by omega)) ?_
  refine j_i2l dX9_arePeople_13 ?_
  refine j_dS1 kl_X9_102 (k_inL _ _ _) dX9_arePeople_14 rfl rfl (Nat.le_of_ble_eq_true rfl) (by first | decide | omega) (by omega) (by omega) ?_
  refine j_iret dX9_arePeople_17 ⟨_, rfl, bI_nar _⟩ (by omega) (by omega) ?_
  exact ⟨rfl, rfl⟩
def isNF (N : Nat → Int64) (t k s i : Nat) : Bool := !(decide (N (60 * t + (2 * i + 1)) = (nI k).toInt64) && hsI (nI s) (N (60 * t + 2 * i)).toInt32)
def mIsNext (N : Nat → Int64) (t m k s : Nat) : Bool := allB (isNF N t k s) m
theorem m_isNext (H : Mo σ h ad) {N : Nat → Int64} (hN : σ.2.2.1 (ad 6) = N) {t m : Nat} (ht : t < 4) (hm : 2 * m ≤ 60) (k s : Nat) : Kd g l 1 MX9_isNext [.ref h, .int (nI k), .int (nI s), .int (nI t), .int (nI m)] σ (some (.int (bI (mIsNext N t m k s)))) σ := by
  refine Kt.go (Y := MX9_isNext) (ls := [some (.ref h), some (.int (nI k)), some (.int (nI s)), some (.int (nI t)), some (.int (nI m)), none]) (by decide) (Nat.le_of_ble_eq_true rfl) rfl ?_
  have key : ∀ j, j ≤ m → allB (isNF N t k s) j = true → Td g l 1 MX9_isNext [.ref h, .int (nI k), .int (nI s), .int (nI t), .int (nI m)] σ (some (.int (bI (mIsNext N t m k s)))) 3 [some (.ref h), some (.int (nI k)), some (.int (nI s)), some (.int (nI t)), some (.int (nI m)), some (.int (nI j))] [] σ := by
    refine loop_up fun j hj ih => ?_
    intro hA
    refine j_iload dX9_isNext_3 rfl ?_
    refine j_iload dX9_isNext_5 rfl ?_
    first | (with_reducible refine j_gNN ?_; refine j_icmp_geN (tgt := 52) dX9_isNext_7 (by decide) (by omega) (by omega) (fun c_7 => ?_) (fun c_7 => ?_)) | refine j_icmp_ge (tgt := 52) dX9_isNext_7 (by decide) (fun c_7 => ?_) (fun c_7 => ?_)
    · refine j_iconst (v := nI 1) dX9_isNext_52 (by decide +kernel) ?_
      refine j_iret dX9_isNext_53 ⟨_, rfl, rfl⟩ (by omega) (by omega) ?_
      exact ⟨by rw [mIsNext, ← show j = m by omega, hA]; rfl, rfl⟩
    · first | refine j_aload_n dX9_isNext_10 rfl ?_ | refine j_aload_nN dX9_isNext_10 rfl ?_
      refine j_iload_n dX9_isNext_11 rfl ?_
      refine j_iconst (v := nI 2) dX9_isNext_12 (by decide +kernel) ?_
      refine j_iload dX9_isNext_13 rfl ?_
      first | (with_reducible refine j_gNN ?_; refine j_imulN dX9_isNext_15 ?_) | refine j_imul dX9_isNext_15 ?_
      refine j_iconst (v := nI 1) dX9_isNext_16 (by decide +kernel) ?_
      first | (with_reducible refine j_gNN ?_; refine j_iaddN dX9_isNext_17 ?_) | refine j_iadd dX9_isNext_17 ?_
      refine j_dV1 kl_X9_439 (m_numberOf H hN (by omega)) dX9_isNext_18 rfl rfl (by decide) (Mo.h H) (Nat.le_of_ble_eq_true rfl) (by first | decide | omega) (by omega) (by omega) ?_
      refine j_iload_n dX9_isNext_21 rfl ?_
      refine j_i2l dX9_isNext_22 ?_
      refine j_lcmp dX9_isNext_23 ?_
      first | (with_reducible refine j_gB ?_; refine j_if_neB (tgt := 46) dX9_isNext_24 (by decide) (fun c_24 => ?_) (fun c_24 => ?_)) | (with_reducible refine j_gC ?_; refine j_if_neC (tgt := 46) dX9_isNext_24 (by decide) (fun c_24 => ?_) (fun c_24 => ?_)) | (with_reducible refine j_gN ?_; refine j_if_neN (tgt := 46) dX9_isNext_24 (by decide) (by omega) (fun c_24 => ?_) (fun c_24 => ?_)) | refine j_if_ne (tgt := 46) dX9_isNext_24 (by decide) (fun c_24 => ?_) (fun c_24 => ?_)
      · first | refine j_iincN dX9_isNext_46 rfl (by decide) ?_ | refine j_iinc dX9_isNext_46 rfl rfl (by decide) ?_
        refine j_goto (tgt := 3) dX9_isNext_49 (by decide) ?_
        exact ih (by omega) (by rw [allB, hA, isNF]; first | (rw [decide_eq_false c_24]; rfl) | (rw [c_41]; simp))
      · refine j_iload_n dX9_isNext_27 rfl ?_
        first | refine j_aload_n dX9_isNext_28 rfl ?_ | refine j_aload_nN dX9_isNext_28 rfl ?_
        refine j_iload_n dX9_isNext_29 rfl ?_
        refine j_iconst (v := nI 2) dX9_isNext_30 (by decide +kernel) ?_
        refine j_iload dX9_isNext_31 rfl ?_
        first | (with_reducible refine j_gNN ?_; refine j_imulN dX9_isNext_33 ?_) | refine j_imul dX9_isNext_33 ?_
        refine j_dV1 kl_X9_439 (m_numberOf H hN (by omega)) dX9_isNext_34 rfl rfl (by decide) (Mo.h H) (Nat.le_of_ble_eq_true rfl) (by first | decide | omega) (by omega) (by omega) ?_
        refine j_l2i dX9_isNext_37 ?_
        refine j_dS1 kl_X9_106 (k_hasI _ _) dX9_isNext_38 rfl rfl (Nat.le_of_ble_eq_true rfl) (by first | decide | omega) (by omega) (by omega) ?_
        first | (with_reducible refine j_gB ?_; refine j_if_eqB (tgt := 46) dX9_isNext_41 (by decide) (fun c_41 => ?_) (fun c_41 => ?_)) | (with_reducible refine j_gC ?_; refine j_if_eqC (tgt := 46) dX9_isNext_41 (by decide) (fun c_41 => ?_) (fun c_41 => ?_)) | (with_reducible refine j_gN ?_; refine j_if_eqN (tgt := 46) dX9_isNext_41 (by decide) (by omega) (fun c_41 => ?_) (fun c_41 => ?_)) | refine j_if_eq (tgt := 46) dX9_isNext_41 (by decide) (fun c_41 => ?_) (fun c_41 => ?_)
        · first | refine j_iincN dX9_isNext_46 rfl (by decide) ?_ | refine j_iinc dX9_isNext_46 rfl rfl (by decide) ?_
          refine j_goto (tgt := 3) dX9_isNext_49 (by decide) ?_
          exact ih (by omega) (by rw [allB, hA, isNF]; first | (rw [decide_eq_false c_24]; rfl) | (rw [c_41]; simp))
        · refine j_iconst (v := nI 0) dX9_isNext_44 (by decide +kernel) ?_
          refine j_iret dX9_isNext_45 ⟨_, rfl, rfl⟩ (by omega) (by omega) ?_
          exact ⟨by rw [mIsNext, allB_le (m := j + 1) (by rw [allB, hA, isNF, decide_eq_true c_24, c_41]; rfl) (by omega)]; rfl, rfl⟩
  refine j_iconst (v := nI 0) dX9_isNext_0 (by decide +kernel) ?_
  refine j_istore dX9_isNext_1 (by decide) ?_
  exact key 0 (by omega) rfl
/-- in how many orders the words of s can lie -/
def mPl (N : Nat → Int64) (W t m : Nat) : Nat → Nat → Int32
  | 0, _ => nI 1
  | f + 1, s => if s = 0 then nI 1 else sumTo (fun k => if hs (nI s) k = true ∧ mIsNext N t m k s = true then mPl N W t m f (dif s (2 ^ k)) else nI 0) W
theorem m_plaitsOf {N : Nat → Int64} {W t m : Nat} (hW8 : W ≤ 8) (ht : t < 4) (hm : 2 * m ≤ 60) : ∀ (f s : Nat), s < 256 → pop s ≤ f → ∀ {σ : Sg}, Mo σ h ad → ∀ {C : Nat → Int32}, σ.2.1 (ad 20) = C → C 0 = nI W → σ.2.2.1 (ad 6) = N →
    Kd g l (2 + f) MX9_plaitsOf [.ref h, .int (nI s), .int (nI t), .int (nI m)] σ (some (.int (mPl N W t m f s))) σ := by
  intro f
  induction f with
  | zero =>
    intro s hs8 hp σ H C hC hW hN
    have e := pop_0 hs8 (by omega)
    subst e
    refine Kt.go (Y := MX9_plaitsOf) (ls := [some (.ref h), some (.int (nI 0)), some (.int (nI t)), some (.int (nI m)), none, none]) (by decide) (Nat.le_of_ble_eq_true rfl) rfl ?_
    refine j_iload_n dX9_plaitsOf_0 rfl ?_
    first | (with_reducible refine j_gB ?_; refine j_if_neB (tgt := 6) dX9_plaitsOf_1 (by decide) (fun c_1 => ?_) (fun c_1 => ?_)) | (with_reducible refine j_gC ?_; refine j_if_neC (tgt := 6) dX9_plaitsOf_1 (by decide) (fun c_1 => ?_) (fun c_1 => ?_)) | (with_reducible refine j_gN ?_; refine j_if_neN (tgt := 6) dX9_plaitsOf_1 (by decide) (by omega) (fun c_1 => ?_) (fun c_1 => ?_)) | refine j_if_ne (tgt := 6) dX9_plaitsOf_1 (by decide) (fun c_1 => ?_) (fun c_1 => ?_)
    · omega
    · refine j_iconst (v := nI 1) dX9_plaitsOf_4 (by decide +kernel) ?_
      refine j_iret dX9_plaitsOf_5 ⟨_, rfl, rfl⟩ (by omega) (by omega) ?_
      exact ⟨rfl, rfl⟩
  | succ f ihf =>
    intro s hs8 hp σ H C hC hW hN
    refine Kt.go (Y := MX9_plaitsOf) (ls := [some (.ref h), some (.int (nI s)), some (.int (nI t)), some (.int (nI m)), none, none]) (by decide) (Nat.le_of_ble_eq_true rfl) rfl ?_
    by_cases e : s = 0
    · refine j_iload_n dX9_plaitsOf_0 rfl ?_
      first | (with_reducible refine j_gB ?_; refine j_if_neB (tgt := 6) dX9_plaitsOf_1 (by decide) (fun c_1 => ?_) (fun c_1 => ?_)) | (with_reducible refine j_gC ?_; refine j_if_neC (tgt := 6) dX9_plaitsOf_1 (by decide) (fun c_1 => ?_) (fun c_1 => ?_)) | (with_reducible refine j_gN ?_; refine j_if_neN (tgt := 6) dX9_plaitsOf_1 (by decide) (by omega) (fun c_1 => ?_) (fun c_1 => ?_)) | refine j_if_ne (tgt := 6) dX9_plaitsOf_1 (by decide) (fun c_1 => ?_) (fun c_1 => ?_)
      · omega
      · refine j_iconst (v := nI 1) dX9_plaitsOf_4 (by decide +kernel) ?_
        refine j_iret dX9_plaitsOf_5 ⟨_, rfl, rfl⟩ (by omega) (by omega) ?_
        exact ⟨by rw [mPl, if_pos e], rfl⟩
    · have key : ∀ j, j ≤ W → ∀ a, a = sumTo (fun k => if hs (nI s) k = true ∧ mIsNext N t m k s = true then mPl N W t m f (dif s (2 ^ k)) else nI 0) j → Td g l (2 + (f + 1)) MX9_plaitsOf [.ref h, .int (nI s), .int (nI t), .int (nI m)] σ (some (.int (mPl N W t m (f + 1) s))) 12 [some (.ref h), some (.int (nI s)), some (.int (nI t)), some (.int (nI m)), some (.int a), some (.int (nI j))] [] σ := by
        refine loop_up fun j hj ih => ?_
        intro a ha
        refine j_iload dX9_plaitsOf_12 rfl ?_
        first | refine j_aload_n dX9_plaitsOf_14 rfl ?_ | refine j_aload_nN dX9_plaitsOf_14 rfl ?_
        refine j_getR dX9_plaitsOf_15 fl_X9_35 rfl (Mo.h H) (Mo.R H _ _ _ rfl) ?_
        refine j_iconst (v := nI 0) dX9_plaitsOf_18 (by decide +kernel) ?_
        refine j_iald dX9_plaitsOf_19 (Mo.S H _ _ _ rfl) rfl (by omega) (by decide) (by first | assumption | (rewrite [hC]; first | assumption | rfl) | rfl) ?_
        first | (with_reducible refine j_gNN ?_; refine j_icmp_geN (tgt := 69) dX9_plaitsOf_20 (by decide) (by omega) (by omega) (fun c_20 => ?_) (fun c_20 => ?_)) | refine j_icmp_ge (tgt := 69) dX9_plaitsOf_20 (by decide) (fun c_20 => ?_) (fun c_20 => ?_)
        · refine j_iload dX9_plaitsOf_69 rfl ?_
          refine j_iret dX9_plaitsOf_71 ⟨_, rfl, rfl⟩ (by omega) (by omega) ?_
          exact ⟨by rw [ha, show j = W by omega, mPl, if_neg e], rfl⟩
        · refine j_iload_n dX9_plaitsOf_23 rfl ?_
          refine j_iload dX9_plaitsOf_24 rfl ?_
          refine j_dS1 kl_X9_106 (k_has _ _ _ _ j) dX9_plaitsOf_26 rfl rfl (Nat.le_of_ble_eq_true rfl) (by first | decide | omega) (by omega) (by omega) ?_
          first | (with_reducible refine j_gB ?_; refine j_if_eqB (tgt := 63) dX9_plaitsOf_29 (by decide) (fun c_29 => ?_) (fun c_29 => ?_)) | (with_reducible refine j_gC ?_; refine j_if_eqC (tgt := 63) dX9_plaitsOf_29 (by decide) (fun c_29 => ?_) (fun c_29 => ?_)) | (with_reducible refine j_gN ?_; refine j_if_eqN (tgt := 63) dX9_plaitsOf_29 (by decide) (by omega) (fun c_29 => ?_) (fun c_29 => ?_)) | refine j_if_eq (tgt := 63) dX9_plaitsOf_29 (by decide) (fun c_29 => ?_) (fun c_29 => ?_)
          · first | refine j_iincN dX9_plaitsOf_63 rfl (by decide) ?_ | refine j_iinc dX9_plaitsOf_63 rfl rfl (by decide) ?_
            refine j_goto (tgt := 12) dX9_plaitsOf_66 (by decide) ?_
            refine ih (by omega) _ ?_
            rw [ha, sumTo]
            first
            | (rw [if_pos ⟨c_29, c_41⟩]; done)
            | (rw [if_neg (fun q => by rw [c_41] at q; exact absurd q.2 (by decide))]; exact (Int32.add_zero _).symm)
            | (rw [if_neg (fun q => by rw [c_29] at q; exact absurd q.1 (by decide))]; exact (Int32.add_zero _).symm)
          · first | refine j_aload_n dX9_plaitsOf_32 rfl ?_ | refine j_aload_nN dX9_plaitsOf_32 rfl ?_
            refine j_iload dX9_plaitsOf_33 rfl ?_
            refine j_iload_n dX9_plaitsOf_35 rfl ?_
            refine j_iload_n dX9_plaitsOf_36 rfl ?_
            refine j_iload_n dX9_plaitsOf_37 rfl ?_
            refine j_dV1 kl_X9_481 (m_isNext H hN ht hm j s) dX9_plaitsOf_38 rfl rfl (by decide) (Mo.h H) (Nat.le_of_ble_eq_true rfl) (by first | decide | omega) (by omega) (by omega) ?_
            first | (with_reducible refine j_gB ?_; refine j_if_eqB (tgt := 63) dX9_plaitsOf_41 (by decide) (fun c_41 => ?_) (fun c_41 => ?_)) | (with_reducible refine j_gC ?_; refine j_if_eqC (tgt := 63) dX9_plaitsOf_41 (by decide) (fun c_41 => ?_) (fun c_41 => ?_)) | (with_reducible refine j_gN ?_; refine j_if_eqN (tgt := 63) dX9_plaitsOf_41 (by decide) (by omega) (fun c_41 => ?_) (fun c_41 => ?_)) | refine j_if_eq (tgt := 63) dX9_plaitsOf_41 (by decide) (fun c_41 => ?_) (fun c_41 => ?_)
            · first | refine j_iincN dX9_plaitsOf_63 rfl (by decide) ?_ | refine j_iinc dX9_plaitsOf_63 rfl rfl (by decide) ?_
              refine j_goto (tgt := 12) dX9_plaitsOf_66 (by decide) ?_
              refine ih (by omega) _ ?_
              rw [ha, sumTo]
              first
              | (rw [if_pos ⟨c_29, c_41⟩]; done)
              | (rw [if_neg (fun q => by rw [c_41] at q; exact absurd q.2 (by decide))]; exact (Int32.add_zero _).symm)
              | (rw [if_neg (fun q => by rw [c_29] at q; exact absurd q.1 (by decide))]; exact (Int32.add_zero _).symm)
            · refine j_iload dX9_plaitsOf_44 rfl ?_
              first | refine j_aload_n dX9_plaitsOf_46 rfl ?_ | refine j_aload_nN dX9_plaitsOf_46 rfl ?_
              refine j_iload_n dX9_plaitsOf_47 rfl ?_
              refine j_iconst (v := nI 1) dX9_plaitsOf_48 (by decide +kernel) ?_
              refine j_iload dX9_plaitsOf_49 rfl ?_
              refine j_ishl dX9_plaitsOf_51 ?_
              refine j_iconst (v := -1) dX9_plaitsOf_52 (by decide +kernel) ?_
              refine j_ixor dX9_plaitsOf_53 ?_
              refine j_iand dX9_plaitsOf_54 ?_
              refine j_top (show nI s &&& (bt j ^^^ (-1)) = nI (dif s (2 ^ j)) by rw [bt_nI (by omega), nI_dif]) ?_
              have hb : s.testBit j = true := by rw [← hs_nI hs8 (by omega)]; exact c_29
              have hpl := pop_lt hs8 (show j < 8 by omega) hb
              have hdl := dif_le s (2 ^ j)
              refine j_iload_n dX9_plaitsOf_55 rfl ?_
              refine j_iload_n dX9_plaitsOf_56 rfl ?_
              refine j_dV1 kl_X9_485 (ihf (dif s (2 ^ j)) (by omega) (by omega) H hC hW hN) dX9_plaitsOf_57 rfl rfl (by decide) (Mo.h H) (Nat.le_of_ble_eq_true rfl) (by first | decide | omega) (by omega) (by omega) ?_
              first | (with_reducible refine j_gNN ?_; refine j_iaddN dX9_plaitsOf_60 ?_) | refine j_iadd dX9_plaitsOf_60 ?_
              refine j_istore dX9_plaitsOf_61 (by decide) ?_
              first | refine j_iincN dX9_plaitsOf_63 rfl (by decide) ?_ | refine j_iinc dX9_plaitsOf_63 rfl rfl (by decide) ?_
              refine j_goto (tgt := 12) dX9_plaitsOf_66 (by decide) ?_
              refine ih (by omega) _ ?_
              rw [ha, sumTo]
              first
              | (rw [if_pos ⟨c_29, c_41⟩]; done)
              | (rw [if_neg (fun q => by rw [c_41] at q; exact absurd q.2 (by decide))]; exact (Int32.add_zero _).symm)
              | (rw [if_neg (fun q => by rw [c_29] at q; exact absurd q.1 (by decide))]; exact (Int32.add_zero _).symm)
      refine j_iload_n dX9_plaitsOf_0 rfl ?_
      first | (with_reducible refine j_gB ?_; refine j_if_neB (tgt := 6) dX9_plaitsOf_1 (by decide) (fun c_1 => ?_) (fun c_1 => ?_)) | (with_reducible refine j_gC ?_; refine j_if_neC (tgt := 6) dX9_plaitsOf_1 (by decide) (fun c_1 => ?_) (fun c_1 => ?_)) | (with_reducible refine j_gN ?_; refine j_if_neN (tgt := 6) dX9_plaitsOf_1 (by decide) (by omega) (fun c_1 => ?_) (fun c_1 => ?_)) | refine j_if_ne (tgt := 6) dX9_plaitsOf_1 (by decide) (fun c_1 => ?_) (fun c_1 => ?_)
      · refine j_iconst (v := nI 0) dX9_plaitsOf_6 (by decide +kernel) ?_
        refine j_istore dX9_plaitsOf_7 (by decide) ?_
        refine j_iconst (v := nI 0) dX9_plaitsOf_9 (by decide +kernel) ?_
        refine j_istore dX9_plaitsOf_10 (by decide) ?_
        exact key 0 (by omega) _ rfl
      · exact absurd (by assumption) e
end M6
