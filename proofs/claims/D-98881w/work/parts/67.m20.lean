/-! THE MODEL's YEARS: small methods -/
set_option maxRecDepth 100000
section LW
variable {g : Gx} {l : Launch} {d : Nat} {Y : Mi} {av : List Value} {mc ms : Nat} {Qr : Option Value → Sg → Prop} {Qx : Nat → String → Sg → Prop} {c0 n0 pc : Nat} {ls : List (Option Value)} {st : List Value} {σ : Sg}
theorem j_ldcw {ix : Nat} {v : Int32} (hd : decode Y.2.1 pc = .ok (.ldc_w ix, 3)) (hw : Cond.constant Y.1.cls ix v ∈ lw_all) (k : Tj g l d Y av mc ms Qr Qx c0 n0 (pc + 3) ls (.int v :: st) σ) : Tj g l d Y av mc ms Qr Qx c0 n0 pc ls st σ :=
  fun p e s m below meth c H locs la C hM hS hl => lv_ldcw C.1 C.2.1 C.2.2.2.2.2.1 (C.2.2.2.2.2.2.1 _ hw) hd (k p e s m below meth c H locs la C hM hS hl)
theorem nI_div {a b : Nat} (ha : a < 2 ^ 31) (hb : b < 2 ^ 31) : nI a / nI b = nI (a / b) := by
  apply Int32.toInt_inj.mp
  have hd := Nat.div_le_self a b
  have h1 : ((a : Int).tdiv (b : Int)) = ((a / b : Nat) : Int) := rfl
  rw [Int32.toInt_div, nI_toInt ha, nI_toInt hb, nI_toInt (by omega), h1]
  generalize a / b = c at hd
  apply Int.bmod_eq_of_le <;> omega
theorem nI_n0 {b : Nat} (hb : b < 2 ^ 31) (h0 : b ≠ 0) : ¬ nI b = 0 := fun e => by rw [← nI_0, nI_eq (by omega) (by omega)] at e; exact h0 e
theorem j_iremN {a b : Nat} (hd : decode Y.2.1 pc = .ok (.irem, 1)) (ha : a < 2 ^ 31) (hb : b < 2 ^ 31) (h0 : b ≠ 0) (k : Tj g l d Y av mc ms Qr Qx c0 n0 (pc + 1) ls (.int (nI (a % b)) :: st) σ) : Tj g l d Y av mc ms Qr Qx c0 n0 pc ls (.int (nI b) :: .int (nI a) :: st) σ := by
  refine j_irem hd (nI_n0 hb h0) ?_
  rw [show nI a - nI a / nI b * nI b = rm (nI a) (nI b) from rfl, rm_nI ha hb h0]
  exact k
theorem j_idivN {a b : Nat} (hd : decode Y.2.1 pc = .ok (.idiv, 1)) (ha : a < 2 ^ 31) (hb : b < 2 ^ 31) (h0 : b ≠ 0) (k : Tj g l d Y av mc ms Qr Qx c0 n0 (pc + 1) ls (.int (nI (a / b)) :: st) σ) : Tj g l d Y av mc ms Qr Qx c0 n0 pc ls (.int (nI b) :: .int (nI a) :: st) σ := by
  refine j_idiv hd (nI_n0 hb h0) ?_
  rw [nI_div ha hb]
  exact k
end LW
/-- the cells that a run of the years writes: 36 over, 37 random, 38 done, 39 missed, 40 days, 41 said, 42 cut, 43 left -/
def yL (h : Nat) (a k : Nat) : Option Nat := if a = h ∧ 36 ≤ k ∧ k < 44 then some k else none
theorem yL_inj {h : Nat} : Linj (yL h) := by
  intro a k c j i e1 e2
  unfold yL at e1 e2
  split at e1
  · next z =>
    split at e2
    · next w =>
      cases e1
      cases e2
      exact ⟨z.1.trans w.1.symm, rfl⟩
    · cases e2
  · cases e1
def ym (σ : Sg) (h : Nat) (ad : Nat → Nat) (C V : Nat → Int32) : Sg := put (sU σ (ad 20) C) (yL h) V
section YM
variable {σ : Sg} {h : Nat} {ad : Nat → Nat} {C D V : Nat → Int32}
theorem yL_n {a k : Nat} (ne : a ≠ h) : yL h a k = none := by unfold yL; rw [if_neg]; exact fun q => ne q.1
theorem yL_s {k : Nat} (h1 : 36 ≤ k) (h2 : k < 44) : yL h h k = some k := by unfold yL; rw [if_pos ⟨rfl, h1, h2⟩]
theorem ym_c (ne : ad 20 ≠ h) : (ym σ h ad C V).2.1 (ad 20) = C := by
  funext k
  exact (pgn (yL_n ne)).trans (congrFun sU_e k)
theorem ym_v (k : Nat) (h1 : 36 ≤ k) (h2 : k < 44) : (ym σ h ad C V).2.1 h k = V k := pg (yL_s h1 h2)
theorem ym_w (k : Nat) (h1 : 36 ≤ k) (h2 : k < 44) {x : Int32} : sI (ym σ h ad C V) h k x = ym σ h ad C (up V k x) := put_w yL_inj (yL_s h1 h2)
theorem ym_u (ne : ad 20 ≠ h) : sU (ym σ h ad C V) (ad 20) D = ym σ h ad D V := by
  unfold ym
  rw [put_nU (fun j => yL_n ne), sU_U]
theorem ym_id (hC : σ.2.1 (ad 20) = C) (hV : ∀ k, 36 ≤ k → k < 44 → σ.2.1 h k = V k) : ym σ h ad C V = σ := by
  unfold ym
  rw [sUh hC]
  refine put_id fun a k i hi => ?_
  unfold yL at hi
  split at hi
  · next z => cases hi; rw [z.1]; exact hV k z.2.1 z.2.2
  · cases hi
end YM
/-- the next number drawn -/
def drw (r : Nat) : Nat := (r * 2971 + 10789) % 65536
theorem drw_lt (r : Nat) : drw r < 65536 := Nat.mod_lt _ (by decide)
def yDraw (V : Nat → Int32) : Nat → Int32 := up V 37 (nI (drw (ixn (V 37))))
def yDrawn (V : Nat → Int32) (n : Nat) : Nat := drw (ixn (V 37)) / 8 % n
/-- a step's work: whether it could be, the row, the run's cells -/
def ySay (p k q : Nat) (C V : Nat → Int32) : Bool × (Nat → Int32) × (Nat → Int32) := (mSaysB C p k q, mSays C p k q, if mSaysB C p k q then up V 41 (V 41 + nI 1) else V)
def yAny (W P : Nat) (C V : Nat → Int32) : Bool × (Nat → Int32) × (Nat → Int32) := if P = 0 ∨ W = 0 then (false, C, V) else ySay (yDrawn V P) (yDrawn (yDraw V) W) (yDrawn (yDraw (yDraw V)) P) C (yDraw (yDraw (yDraw V)))
def yDay (W P Dn n : Nat) (C V : Nat → Int32) : Bool × (Nat → Int32) × (Nat → Int32) := if C 6 + nI n ≤ nI 9999 then (true, mDays C W P Dn n, up (up V 41 (V 41 + (mDaysS W P Dn C n).1)) 40 (V 40 + nI n)) else (false, C, V)
def yCut (W p b : Nat) (C V : Nat → Int32) : Bool × (Nat → Int32) × (Nat → Int32) := (decide (0 ≤ mCutV C W p b), mCut C W p b, if 0 ≤ mCutV C W p b then up V 42 (V 42 + nI 1) else V)
def yDoes (W P Dn w : Nat) (C V : Nat → Int32) : Bool × (Nat → Int32) × (Nat → Int32) :=
  if C w = 0 then yDay W P Dn (ixn (C (w + 1))) C V
  else if C w = nI 1 then (mKeepB C (ixn (C (w + 1))) (ixn (C (w + 2))), mKeep C (ixn (C (w + 1))) (ixn (C (w + 2))), V)
  else if C w = nI 2 then ySay (ixn (C (w + 1))) (ixn (C (w + 2))) (ixn (C (w + 3))) C V
  else if C w = nI 3 then yCut W (ixn (C (w + 1))) (ixn (C (w + 3))) C V
  else yAny W P C V
def yHolds (W w : Nat) (C : Nat → Int32) : Bool :=
  if C (w + 6) = 0 then hs (C (37 + ixn (C (w + 1)))) (ixn (C (w + 2)))
  else if C (w + 7) = nI 60 then decide (mHair C W (ixn (C (w + 1))) < C (w + 2))
  else if C (w + 7) = nI 62 then decide (C (w + 2) < mHair C W (ixn (C (w + 1))))
  else decide (mHair C W (ixn (C (w + 1))) = C (w + 2))
/-- what stands in the cells of a step -/
def Sw (C : Nat → Int32) (W P w : Nat) : Prop :=
  (C w = 0 → ∃ n, n ≤ 20 ∧ C (w + 1) = nI n) ∧ (C w = nI 1 → ∃ p k, p < P ∧ k < W ∧ C (w + 1) = nI p ∧ C (w + 2) = nI k) ∧ (C w = nI 2 → ∃ p k q, p < P ∧ k < W ∧ q < P ∧ C (w + 1) = nI p ∧ C (w + 2) = nI k ∧ C (w + 3) = nI q) ∧
  (C w = nI 3 → ∃ p q, p < P ∧ q < P ∧ C (w + 1) = nI p ∧ C (w + 3) = nI q) ∧ (C w = nI 5 → ∃ p, p < P ∧ C (w + 1) = nI p ∧ (C (w + 6) = 0 → ∃ k, k < W ∧ C (w + 2) = nI k)) ∧ (C w = nI 6 → ∃ n, n ≤ 99 ∧ C (w + 1) = nI n)
section M20
variable {g : Gx} {l : Launch} {σ : Sg} {h : Nat} {ad : Nat → Nat} {C V : Nat → Int32} {W P Dn : Nat}
theorem m_draw (H : Mo (ym σ h ad C V) h ad) {r n : Nat} (hr : V 37 = nI r) (hr2 : r < 65536) (hn : 1 ≤ n) (hn8 : n ≤ 8) : Kd g l 0 MX9_draw [.ref h, .int (nI n)] (ym σ h ad C V) (some (.int (nI (yDrawn V n)))) (ym σ h ad C (yDraw V)) := by
  have ne : ad 20 ≠ h := Mo.nh H (i := 20) rfl
  have n0 : ¬ nI n = 0 := fun e => by rw [← nI_0, nI_eq (by omega) (by omega)] at e; omega
  have er : ixn (V 37) = r := by rw [hr, ixn_nI (by omega)]
  have hlt := drw_lt r
  refine Kt.go (Y := MX9_draw) (ls := [some (.ref h), some (.int (nI n))]) (by decide) (Nat.le_of_ble_eq_true rfl) rfl ?_
  first | refine j_aload_n dX9_draw_0 rfl ?_ | refine j_aload_nN dX9_draw_0 rfl ?_
  first | refine j_aload_n dX9_draw_1 rfl ?_ | refine j_aload_nN dX9_draw_1 rfl ?_
  refine j_getI dX9_draw_2 fl_X9_517 rfl (Mo.h H) (by first | assumption | ((first | rewrite [ym_c ne] | rewrite [ym_v 36 (by decide) (by decide)] | rewrite [ym_v 37 (by decide) (by decide)] | rewrite [ym_v 38 (by decide) (by decide)] | rewrite [ym_v 39 (by decide) (by decide)] | rewrite [ym_v 40 (by decide) (by decide)] | rewrite [ym_v 41 (by decide) (by decide)] | rewrite [ym_v 42 (by decide) (by decide)] | rewrite [ym_v 43 (by decide) (by decide)]); first | assumption | rfl) | rfl) ?_
  refine j_sipush (v := nI 2971) dX9_draw_5 (by decide +kernel) ?_
  first | (with_reducible refine j_gNN ?_; refine j_imulN dX9_draw_8 ?_) | refine j_imul dX9_draw_8 ?_
  refine j_sipush (v := nI 10789) dX9_draw_9 (by decide +kernel) ?_
  first | (with_reducible refine j_gNN ?_; refine j_iaddN dX9_draw_12 ?_) | refine j_iadd dX9_draw_12 ?_
  refine j_ldcw (v := nI 65536) dX9_draw_13 q2433 ?_
  refine j_iremN dX9_draw_16 (by omega) (by decide) (by decide) ?_
  refine j_putI dX9_draw_17 fl_X9_517 rfl (Mo.h H) rfl rfl rfl ?_
  rw [ym_w 37 (by decide) (by decide), show (r * 2971 + 10789) % 65536 = drw r from rfl]
  have hr3 : up V 37 (nI (drw r)) 37 = nI (drw r) := up_eq _ _ _
  first | refine j_aload_n dX9_draw_20 rfl ?_ | refine j_aload_nN dX9_draw_20 rfl ?_
  refine j_getI dX9_draw_21 fl_X9_517 rfl (Mo.h H) (by first | assumption | ((first | rewrite [ym_c ne] | rewrite [ym_v 36 (by decide) (by decide)] | rewrite [ym_v 37 (by decide) (by decide)] | rewrite [ym_v 38 (by decide) (by decide)] | rewrite [ym_v 39 (by decide) (by decide)] | rewrite [ym_v 40 (by decide) (by decide)] | rewrite [ym_v 41 (by decide) (by decide)] | rewrite [ym_v 42 (by decide) (by decide)] | rewrite [ym_v 43 (by decide) (by decide)]); first | assumption | rfl) | rfl) ?_
  refine j_bipush (v := nI 8) dX9_draw_24 (by decide +kernel) ?_
  refine j_idivN dX9_draw_26 (by omega) (by decide) (by decide) ?_
  refine j_iload_n dX9_draw_27 rfl ?_
  refine j_iremN dX9_draw_28 (by omega) (by omega) (by omega) ?_
  refine j_iret dX9_draw_29 ⟨_, rfl, rfl⟩ (by omega) (by omega) ?_
  exact ⟨by unfold yDrawn; rw [er], by unfold yDraw; rw [er]⟩
theorem m_anyDays (H : Mo (ym σ h ad C V) h ad) (hw : Wd C W P Dn) {n : Nat} (hn : n ≤ 20) : Kd g l 5 MX9_anyDays [.ref h, .int (nI n)] (ym σ h ad C V) (some (.int (bI (yDay W P Dn n C V).1))) (ym σ h ad (yDay W P Dn n C V).2.1 (yDay W P Dn n C V).2.2) := by
  have ne : ad 20 ≠ h := Mo.nh H (i := 20) rfl
  refine Kt.go (Y := MX9_anyDays) (ls := [some (.ref h), some (.int (nI n)), none]) (by decide) (Nat.le_of_ble_eq_true rfl) rfl ?_
  have key : C 6 + nI n ≤ nI 9999 → ∀ j, j ≤ n → Td g l 5 MX9_anyDays [.ref h, .int (nI n)] (ym σ h ad (yDay W P Dn n C V).2.1 (yDay W P Dn n C V).2.2) (some (.int (bI (yDay W P Dn n C V).1))) 19 [some (.ref h), some (.int (nI n)), some (.int (nI j))] [] (ym σ h ad (mDays C W P Dn j) (up V 41 (V 41 + (mDaysS W P Dn C j).1))) := by
    intro hle
    have ey : yDay W P Dn n C V = (true, mDays C W P Dn n, up (up V 41 (V 41 + (mDaysS W P Dn C n).1)) 40 (V 40 + nI n)) := by unfold yDay; rw [if_pos hle]
    rw [ey]
    refine loop_up fun j hj ih => ?_
    have H : Mo (ym σ h ad (mDays C W P Dn j) (up V 41 (V 41 + (mDaysS W P Dn C j).1))) h ad := H
    have v41 : (ym σ h ad (mDays C W P Dn j) (up V 41 (V 41 + (mDaysS W P Dn C j).1))).2.1 h 41 = V 41 + (mDaysS W P Dn C j).1 := by rw [ym_v 41 (by decide) (by decide), up_eq]
    refine j_iload_n dX9_anyDays_19 rfl ?_
    refine j_iload_n dX9_anyDays_20 rfl ?_
    first | (with_reducible refine j_gNN ?_; refine j_icmp_geN (tgt := 43) dX9_anyDays_21 (by decide) (by omega) (by omega) (fun c_21 => ?_) (fun c_21 => ?_)) | refine j_icmp_ge (tgt := 43) dX9_anyDays_21 (by decide) (fun c_21 => ?_) (fun c_21 => ?_)
    · first | refine j_aload_n dX9_anyDays_43 rfl ?_ | refine j_aload_nN dX9_anyDays_43 rfl ?_
      refine j_dup dX9_anyDays_44 rfl ?_
      refine j_getI dX9_anyDays_45 fl_X9_524 rfl (Mo.h H) (by first | assumption | ((first | rewrite [ym_c ne] | rewrite [ym_v 36 (by decide) (by decide)] | rewrite [ym_v 37 (by decide) (by decide)] | rewrite [ym_v 38 (by decide) (by decide)] | rewrite [ym_v 39 (by decide) (by decide)] | rewrite [ym_v 40 (by decide) (by decide)] | rewrite [ym_v 41 (by decide) (by decide)] | rewrite [ym_v 42 (by decide) (by decide)] | rewrite [ym_v 43 (by decide) (by decide)]); first | assumption | rfl) | rfl) ?_
      refine j_iload_n dX9_anyDays_48 rfl ?_
      first | (with_reducible refine j_gNN ?_; refine j_iaddN dX9_anyDays_49 ?_) | refine j_iadd dX9_anyDays_49 ?_
      refine j_putI dX9_anyDays_50 fl_X9_524 rfl (Mo.h H) rfl rfl rfl ?_
      rw [ym_w 40 (by decide) (by decide)]
      refine j_iconst (v := nI 1) dX9_anyDays_53 (by decide +kernel) ?_
      refine j_iret dX9_anyDays_54 ⟨_, rfl, rfl⟩ (by omega) (by omega) ?_
      have e : j = n := by omega
      subst e
      exact ⟨rfl, by rw [up_ne (show 40 ≠ 41 by decide)]⟩
    · first | refine j_aload_n dX9_anyDays_24 rfl ?_ | refine j_aload_nN dX9_anyDays_24 rfl ?_
      refine j_dup dX9_anyDays_25 rfl ?_
      refine j_getI dX9_anyDays_26 fl_X9_521 rfl (Mo.h H) (by first | assumption | ((first | rewrite [ym_c ne] | rewrite [ym_v 36 (by decide) (by decide)] | rewrite [ym_v 37 (by decide) (by decide)] | rewrite [ym_v 38 (by decide) (by decide)] | rewrite [ym_v 39 (by decide) (by decide)] | rewrite [ym_v 40 (by decide) (by decide)] | rewrite [ym_v 41 (by decide) (by decide)] | rewrite [ym_v 42 (by decide) (by decide)] | rewrite [ym_v 43 (by decide) (by decide)]); first | assumption | rfl) | rfl) ?_
      first | refine j_aload_n dX9_anyDays_29 rfl ?_ | refine j_aload_nN dX9_anyDays_29 rfl ?_
      refine j_dV1 kl_X9_381 (m_goesDay H (ym_c ne) (hw.fr (mDays_fr hw j))) dX9_anyDays_30 rfl rfl (by decide) (Mo.h H) (Nat.le_of_ble_eq_true rfl) (by first | decide | omega) (by omega) (by omega) ?_
      rw [ym_u ne]
      first | (with_reducible refine j_gNN ?_; refine j_iaddN dX9_anyDays_33 ?_) | refine j_iadd dX9_anyDays_33 ?_
      refine j_putI dX9_anyDays_34 fl_X9_521 rfl (Mo.h H) rfl rfl rfl ?_
      rw [ym_w 41 (by decide) (by decide), up_up]
      first | refine j_iincN dX9_anyDays_37 rfl (by decide) ?_ | refine j_iinc dX9_anyDays_37 rfl rfl (by decide) ?_
      refine j_goto (tgt := 19) dX9_anyDays_40 (by decide) ?_
      have z := ih (by omega)
      rw [show (mDaysS W P Dn C (j + 1)).1 = (mDaysS W P Dn C j).1 + mDayN (mDays C W P Dn j) W P Dn from rfl, ← Int32.add_assoc] at z
      exact z
  first | refine j_aload_n dX9_anyDays_0 rfl ?_ | refine j_aload_nN dX9_anyDays_0 rfl ?_
  refine j_getR dX9_anyDays_1 fl_X9_35 rfl (Mo.h H) (Mo.R H _ _ _ rfl) ?_
  refine j_bipush (v := nI 6) dX9_anyDays_4 (by decide +kernel) ?_
  refine j_iald dX9_anyDays_6 (Mo.S H _ _ _ rfl) rfl (by omega) (by decide) (by first | assumption | ((first | rewrite [ym_c ne] | rewrite [ym_v 36 (by decide) (by decide)] | rewrite [ym_v 37 (by decide) (by decide)] | rewrite [ym_v 38 (by decide) (by decide)] | rewrite [ym_v 39 (by decide) (by decide)] | rewrite [ym_v 40 (by decide) (by decide)] | rewrite [ym_v 41 (by decide) (by decide)] | rewrite [ym_v 42 (by decide) (by decide)] | rewrite [ym_v 43 (by decide) (by decide)]); first | assumption | rfl) | rfl) ?_
  refine j_iload_n dX9_anyDays_7 rfl ?_
  first | (with_reducible refine j_gNN ?_; refine j_iaddN dX9_anyDays_8 ?_) | refine j_iadd dX9_anyDays_8 ?_
  refine j_sipush (v := nI 9999) dX9_anyDays_9 (by decide +kernel) ?_
  first | (with_reducible refine j_gNN ?_; refine j_icmp_leN (tgt := 17) dX9_anyDays_12 (by decide) (by omega) (by omega) (fun c_12 => ?_) (fun c_12 => ?_)) | refine j_icmp_le (tgt := 17) dX9_anyDays_12 (by decide) (fun c_12 => ?_) (fun c_12 => ?_)
  · refine j_iconst (v := nI 0) dX9_anyDays_17 (by decide +kernel) ?_
    refine j_istore_n dX9_anyDays_18 (by decide) ?_
    have z := key c_12 0 (by omega)
    rw [show (mDaysS W P Dn C 0).1 = nI 0 from rfl, show mDays C W P Dn 0 = C from rfl, nI_0, Int32.add_zero, up_self] at z
    exact z
  · refine j_iconst (v := nI 0) dX9_anyDays_15 (by decide +kernel) ?_
    refine j_iret dX9_anyDays_16 ⟨_, rfl, rfl⟩ (by omega) (by omega) ?_
    have ey : yDay W P Dn n C V = (false, C, V) := by unfold yDay; rw [if_neg c_12]
    rw [ey]; exact ⟨rfl, rfl⟩
theorem m_isSaid (H : Mo (ym σ h ad C V) h ad) {p k q : Nat} (hp : p < 6) (hq : q < 6) : Kd g l 3 MX9_isSaid [.ref h, .int (nI p), .int (nI k), .int (nI q)] (ym σ h ad C V) (some (.int (bI (ySay p k q C V).1))) (ym σ h ad (ySay p k q C V).2.1 (ySay p k q C V).2.2) := by
  have ne : ad 20 ≠ h := Mo.nh H (i := 20) rfl
  refine Kt.go (Y := MX9_isSaid) (ls := [some (.ref h), some (.int (nI p)), some (.int (nI k)), some (.int (nI q))]) (by decide) (Nat.le_of_ble_eq_true rfl) rfl ?_
  first | refine j_aload_n dX9_isSaid_0 rfl ?_ | refine j_aload_nN dX9_isSaid_0 rfl ?_
  refine j_iload_n dX9_isSaid_1 rfl ?_
  refine j_iload_n dX9_isSaid_2 rfl ?_
  refine j_iload_n dX9_isSaid_3 rfl ?_
  refine j_dV1 kl_X9_369 (m_says H (ym_c ne) hp hq) dX9_isSaid_4 rfl rfl (by decide) (Mo.h H) (Nat.le_of_ble_eq_true rfl) (by first | decide | omega) (by omega) (by omega) ?_
  rw [ym_u ne]
  first | (with_reducible refine j_gB ?_; refine j_if_neB (tgt := 12) dX9_isSaid_7 (by decide) (fun c_7 => ?_) (fun c_7 => ?_)) | (with_reducible refine j_gC ?_; refine j_if_neC (tgt := 12) dX9_isSaid_7 (by decide) (fun c_7 => ?_) (fun c_7 => ?_)) | (with_reducible refine j_gN ?_; refine j_if_neN (tgt := 12) dX9_isSaid_7 (by decide) (by omega) (fun c_7 => ?_) (fun c_7 => ?_)) | refine j_if_ne (tgt := 12) dX9_isSaid_7 (by decide) (fun c_7 => ?_) (fun c_7 => ?_)
  · first | refine j_aload_n dX9_isSaid_12 rfl ?_ | refine j_aload_nN dX9_isSaid_12 rfl ?_
    refine j_dup dX9_isSaid_13 rfl ?_
    refine j_getI dX9_isSaid_14 fl_X9_521 rfl (Mo.h H) (by first | assumption | ((first | rewrite [ym_c ne] | rewrite [ym_v 36 (by decide) (by decide)] | rewrite [ym_v 37 (by decide) (by decide)] | rewrite [ym_v 38 (by decide) (by decide)] | rewrite [ym_v 39 (by decide) (by decide)] | rewrite [ym_v 40 (by decide) (by decide)] | rewrite [ym_v 41 (by decide) (by decide)] | rewrite [ym_v 42 (by decide) (by decide)] | rewrite [ym_v 43 (by decide) (by decide)]); first | assumption | rfl) | rfl) ?_
    refine j_iconst (v := nI 1) dX9_isSaid_17 (by decide +kernel) ?_
    first | (with_reducible refine j_gNN ?_; refine j_iaddN dX9_isSaid_18 ?_) | refine j_iadd dX9_isSaid_18 ?_
    refine j_putI dX9_isSaid_19 fl_X9_521 rfl (Mo.h H) rfl rfl rfl ?_
    rw [ym_w 41 (by decide) (by decide)]
    refine j_iconst (v := nI 1) dX9_isSaid_22 (by decide +kernel) ?_
    refine j_iret dX9_isSaid_23 ⟨_, rfl, rfl⟩ (by omega) (by omega) ?_
    unfold ySay; rw [c_7]; exact ⟨rfl, rfl⟩
  · refine j_iconst (v := nI 0) dX9_isSaid_10 (by decide +kernel) ?_
    refine j_iret dX9_isSaid_11 ⟨_, rfl, rfl⟩ (by omega) (by omega) ?_
    unfold ySay; rw [c_7]; exact ⟨rfl, rfl⟩
theorem m_isCut (H : Mo (ym σ h ad C V) h ad) (hW : C 0 = nI W) (hW8 : W ≤ 8) {p b : Nat} (hp : p < 6) (hb : b < 6) : Kd g l 3 MX9_isCut [.ref h, .int (nI p), .int (nI b)] (ym σ h ad C V) (some (.int (bI (yCut W p b C V).1))) (ym σ h ad (yCut W p b C V).2.1 (yCut W p b C V).2.2) := by
  have ne : ad 20 ≠ h := Mo.nh H (i := 20) rfl
  refine Kt.go (Y := MX9_isCut) (ls := [some (.ref h), some (.int (nI p)), some (.int (nI b))]) (by decide) (Nat.le_of_ble_eq_true rfl) rfl ?_
  first | refine j_aload_n dX9_isCut_0 rfl ?_ | refine j_aload_nN dX9_isCut_0 rfl ?_
  refine j_iload_n dX9_isCut_1 rfl ?_
  refine j_iload_n dX9_isCut_2 rfl ?_
  refine j_dV1 kl_X9_393 (m_cuts H (ym_c ne) hW hW8 hp hb) dX9_isCut_3 rfl rfl (by decide) (Mo.h H) (Nat.le_of_ble_eq_true rfl) (by first | decide | omega) (by omega) (by omega) ?_
  rw [ym_u ne]
  first | (with_reducible refine j_gC ?_; refine j_if_geC (tgt := 11) dX9_isCut_6 (by decide) (fun c_6 => ?_) (fun c_6 => ?_)) | refine j_if_ge (tgt := 11) dX9_isCut_6 (by decide) (fun c_6 => ?_) (fun c_6 => ?_)
  · first | refine j_aload_n dX9_isCut_11 rfl ?_ | refine j_aload_nN dX9_isCut_11 rfl ?_
    refine j_dup dX9_isCut_12 rfl ?_
    refine j_getI dX9_isCut_13 fl_X9_533 rfl (Mo.h H) (by first | assumption | ((first | rewrite [ym_c ne] | rewrite [ym_v 36 (by decide) (by decide)] | rewrite [ym_v 37 (by decide) (by decide)] | rewrite [ym_v 38 (by decide) (by decide)] | rewrite [ym_v 39 (by decide) (by decide)] | rewrite [ym_v 40 (by decide) (by decide)] | rewrite [ym_v 41 (by decide) (by decide)] | rewrite [ym_v 42 (by decide) (by decide)] | rewrite [ym_v 43 (by decide) (by decide)]); first | assumption | rfl) | rfl) ?_
    refine j_iconst (v := nI 1) dX9_isCut_16 (by decide +kernel) ?_
    first | (with_reducible refine j_gNN ?_; refine j_iaddN dX9_isCut_17 ?_) | refine j_iadd dX9_isCut_17 ?_
    refine j_putI dX9_isCut_18 fl_X9_533 rfl (Mo.h H) rfl rfl rfl ?_
    rw [ym_w 42 (by decide) (by decide)]
    refine j_iconst (v := nI 1) dX9_isCut_21 (by decide +kernel) ?_
    refine j_iret dX9_isCut_22 ⟨_, rfl, rfl⟩ (by omega) (by omega) ?_
    unfold yCut; rw [if_pos c_6, decide_eq_true c_6]; exact ⟨rfl, rfl⟩
  · refine j_iconst (v := nI 0) dX9_isCut_9 (by decide +kernel) ?_
    refine j_iret dX9_isCut_10 ⟨_, rfl, rfl⟩ (by omega) (by omega) ?_
    unfold yCut; rw [if_neg c_6, decide_eq_false c_6]; exact ⟨rfl, rfl⟩
theorem yDraw_r {V : Nat → Int32} {r : Nat} (hr : V 37 = nI r) (hr2 : r < 65536) : yDraw V 37 = nI (drw r) := by unfold yDraw; rw [up_eq, hr, ixn_nI (by omega)]
theorem m_isAny (H : Mo (ym σ h ad C V) h ad) (hW : C 0 = nI W) (hW8 : W ≤ 8) (hP : C 1 = nI P) (hP6 : P ≤ 6) {r : Nat} (hr : V 37 = nI r) (hr2 : r < 65536) : Kd g l 4 MX9_isAny [.ref h] (ym σ h ad C V) (some (.int (bI (yAny W P C V).1))) (ym σ h ad (yAny W P C V).2.1 (yAny W P C V).2.2) := by
  have ne : ad 20 ≠ h := Mo.nh H (i := 20) rfl
  have hr3 := yDraw_r hr hr2
  have hr4 := yDraw_r hr3 (drw_lt r)
  have l1 := drw_lt r
  have l2 := drw_lt (drw r)
  have k1 : P ≠ 0 → yDrawn V P < P := fun q => Nat.mod_lt _ (by omega)
  have k3 : P ≠ 0 → yDrawn (yDraw (yDraw V)) P < P := fun q => Nat.mod_lt _ (by omega)
  have d1 : P ≠ 0 → Kd g l 0 MX9_draw [.ref h, .int (nI P)] (ym σ h ad C V) (some (.int (nI (yDrawn V P)))) (ym σ h ad C (yDraw V)) := fun q => m_draw H hr hr2 (by omega) (by omega)
  have d2 : W ≠ 0 → Kd g l 0 MX9_draw [.ref h, .int (nI W)] (ym σ h ad C (yDraw V)) (some (.int (nI (yDrawn (yDraw V) W)))) (ym σ h ad C (yDraw (yDraw V))) := fun q => m_draw (V := yDraw V) H hr3 l1 (by omega) (by omega)
  have d3 : P ≠ 0 → Kd g l 0 MX9_draw [.ref h, .int (nI P)] (ym σ h ad C (yDraw (yDraw V))) (some (.int (nI (yDrawn (yDraw (yDraw V)) P)))) (ym σ h ad C (yDraw (yDraw (yDraw V)))) := fun q => m_draw (V := yDraw (yDraw V)) H hr4 l2 (by omega) (by omega)
  have e0 : (P = 0 ∨ W = 0) → yAny W P C V = (false, C, V) := fun q => by unfold yAny; rw [if_pos q]
  have e1 : ¬ (P = 0 ∨ W = 0) → yAny W P C V = ySay (yDrawn V P) (yDrawn (yDraw V) W) (yDrawn (yDraw (yDraw V)) P) C (yDraw (yDraw (yDraw V))) := fun q => by unfold yAny; rw [if_neg q]
  clear hr3 hr4 l1 l2
  generalize yDrawn (yDraw (yDraw V)) P = c3 at *
  generalize yDrawn (yDraw V) W = c2 at *
  generalize yDrawn V P = c1 at *
  generalize yDraw (yDraw (yDraw V)) = V3 at *
  generalize yDraw (yDraw V) = V2 at *
  generalize yDraw V = V1 at *
  generalize yAny W P C V = o at *
  refine Kt.go (Y := MX9_isAny) (ls := [some (.ref h), none, none]) (by decide) (Nat.le_of_ble_eq_true rfl) rfl ?_
  first | refine j_aload_n dX9_isAny_0 rfl ?_ | refine j_aload_nN dX9_isAny_0 rfl ?_
  refine j_getR dX9_isAny_1 fl_X9_35 rfl (Mo.h H) (Mo.R H _ _ _ rfl) ?_
  refine j_iconst (v := nI 1) dX9_isAny_4 (by decide +kernel) ?_
  refine j_iald dX9_isAny_5 (Mo.S H _ _ _ rfl) rfl (by omega) (by decide) (by first | assumption | ((first | rewrite [ym_c ne] | rewrite [ym_v 36 (by decide) (by decide)] | rewrite [ym_v 37 (by decide) (by decide)] | rewrite [ym_v 38 (by decide) (by decide)] | rewrite [ym_v 39 (by decide) (by decide)] | rewrite [ym_v 40 (by decide) (by decide)] | rewrite [ym_v 41 (by decide) (by decide)] | rewrite [ym_v 42 (by decide) (by decide)] | rewrite [ym_v 43 (by decide) (by decide)]); first | assumption | rfl) | rfl) ?_
  first | (with_reducible refine j_gB ?_; refine j_if_eqB (tgt := 18) dX9_isAny_6 (by decide) (fun c_6 => ?_) (fun c_6 => ?_)) | (with_reducible refine j_gC ?_; refine j_if_eqC (tgt := 18) dX9_isAny_6 (by decide) (fun c_6 => ?_) (fun c_6 => ?_)) | (with_reducible refine j_gN ?_; refine j_if_eqN (tgt := 18) dX9_isAny_6 (by decide) (by omega) (fun c_6 => ?_) (fun c_6 => ?_)) | refine j_if_eq (tgt := 18) dX9_isAny_6 (by decide) (fun c_6 => ?_) (fun c_6 => ?_)
  · refine j_iconst (v := nI 0) dX9_isAny_18 (by decide +kernel) ?_
    refine j_iret dX9_isAny_19 ⟨_, rfl, rfl⟩ (by omega) (by omega) ?_
    first
    | (have z : P = 0 := c_6
       rw [e0 (Or.inl z)]; exact ⟨rfl, rfl⟩)
    | (have z : W = 0 := c_15
       rw [e0 (Or.inr z)]; exact ⟨rfl, rfl⟩)
  · first | refine j_aload_n dX9_isAny_9 rfl ?_ | refine j_aload_nN dX9_isAny_9 rfl ?_
    refine j_getR dX9_isAny_10 fl_X9_35 rfl (Mo.h H) (Mo.R H _ _ _ rfl) ?_
    refine j_iconst (v := nI 0) dX9_isAny_13 (by decide +kernel) ?_
    refine j_iald dX9_isAny_14 (Mo.S H _ _ _ rfl) rfl (by omega) (by decide) (by first | assumption | ((first | rewrite [ym_c ne] | rewrite [ym_v 36 (by decide) (by decide)] | rewrite [ym_v 37 (by decide) (by decide)] | rewrite [ym_v 38 (by decide) (by decide)] | rewrite [ym_v 39 (by decide) (by decide)] | rewrite [ym_v 40 (by decide) (by decide)] | rewrite [ym_v 41 (by decide) (by decide)] | rewrite [ym_v 42 (by decide) (by decide)] | rewrite [ym_v 43 (by decide) (by decide)]); first | assumption | rfl) | rfl) ?_
    first | (with_reducible refine j_gB ?_; refine j_if_neB (tgt := 20) dX9_isAny_15 (by decide) (fun c_15 => ?_) (fun c_15 => ?_)) | (with_reducible refine j_gC ?_; refine j_if_neC (tgt := 20) dX9_isAny_15 (by decide) (fun c_15 => ?_) (fun c_15 => ?_)) | (with_reducible refine j_gN ?_; refine j_if_neN (tgt := 20) dX9_isAny_15 (by decide) (by omega) (fun c_15 => ?_) (fun c_15 => ?_)) | refine j_if_ne (tgt := 20) dX9_isAny_15 (by decide) (fun c_15 => ?_) (fun c_15 => ?_)
    · first | refine j_aload_n dX9_isAny_20 rfl ?_ | refine j_aload_nN dX9_isAny_20 rfl ?_
      first | refine j_aload_n dX9_isAny_21 rfl ?_ | refine j_aload_nN dX9_isAny_21 rfl ?_
      refine j_getR dX9_isAny_22 fl_X9_35 rfl (Mo.h H) (Mo.R H _ _ _ rfl) ?_
      refine j_iconst (v := nI 1) dX9_isAny_25 (by decide +kernel) ?_
      refine j_iald dX9_isAny_26 (Mo.S H _ _ _ rfl) rfl (by omega) (by decide) (by first | assumption | ((first | rewrite [ym_c ne] | rewrite [ym_v 36 (by decide) (by decide)] | rewrite [ym_v 37 (by decide) (by decide)] | rewrite [ym_v 38 (by decide) (by decide)] | rewrite [ym_v 39 (by decide) (by decide)] | rewrite [ym_v 40 (by decide) (by decide)] | rewrite [ym_v 41 (by decide) (by decide)] | rewrite [ym_v 42 (by decide) (by decide)] | rewrite [ym_v 43 (by decide) (by decide)]); first | assumption | rfl) | rfl) ?_
      refine j_dV1 kl_X9_527 (d1 c_6) dX9_isAny_27 rfl rfl (by decide) (Mo.h H) (Nat.le_of_ble_eq_true rfl) (by first | decide | omega) (by omega) (by omega) ?_
      refine j_istore_n dX9_isAny_30 (by decide) ?_
      first | refine j_aload_n dX9_isAny_31 rfl ?_ | refine j_aload_nN dX9_isAny_31 rfl ?_
      first | refine j_aload_n dX9_isAny_32 rfl ?_ | refine j_aload_nN dX9_isAny_32 rfl ?_
      refine j_getR dX9_isAny_33 fl_X9_35 rfl (Mo.h H) (Mo.R H _ _ _ rfl) ?_
      refine j_iconst (v := nI 0) dX9_isAny_36 (by decide +kernel) ?_
      refine j_iald dX9_isAny_37 (Mo.S H _ _ _ rfl) rfl (by omega) (by decide) (by first | assumption | ((first | rewrite [ym_c ne] | rewrite [ym_v 36 (by decide) (by decide)] | rewrite [ym_v 37 (by decide) (by decide)] | rewrite [ym_v 38 (by decide) (by decide)] | rewrite [ym_v 39 (by decide) (by decide)] | rewrite [ym_v 40 (by decide) (by decide)] | rewrite [ym_v 41 (by decide) (by decide)] | rewrite [ym_v 42 (by decide) (by decide)] | rewrite [ym_v 43 (by decide) (by decide)]); first | assumption | rfl) | rfl) ?_
      refine j_dV1 kl_X9_527 (d2 c_15) dX9_isAny_38 rfl rfl (by decide) (Mo.h H) (Nat.le_of_ble_eq_true rfl) (by first | decide | omega) (by omega) (by omega) ?_
      refine j_istore_n dX9_isAny_41 (by decide) ?_
      first | refine j_aload_n dX9_isAny_42 rfl ?_ | refine j_aload_nN dX9_isAny_42 rfl ?_
      refine j_iload_n dX9_isAny_43 rfl ?_
      refine j_iload_n dX9_isAny_44 rfl ?_
      first | refine j_aload_n dX9_isAny_45 rfl ?_ | refine j_aload_nN dX9_isAny_45 rfl ?_
      first | refine j_aload_n dX9_isAny_46 rfl ?_ | refine j_aload_nN dX9_isAny_46 rfl ?_
      refine j_getR dX9_isAny_47 fl_X9_35 rfl (Mo.h H) (Mo.R H _ _ _ rfl) ?_
      refine j_iconst (v := nI 1) dX9_isAny_50 (by decide +kernel) ?_
      refine j_iald dX9_isAny_51 (Mo.S H _ _ _ rfl) rfl (by omega) (by decide) (by first | assumption | ((first | rewrite [ym_c ne] | rewrite [ym_v 36 (by decide) (by decide)] | rewrite [ym_v 37 (by decide) (by decide)] | rewrite [ym_v 38 (by decide) (by decide)] | rewrite [ym_v 39 (by decide) (by decide)] | rewrite [ym_v 40 (by decide) (by decide)] | rewrite [ym_v 41 (by decide) (by decide)] | rewrite [ym_v 42 (by decide) (by decide)] | rewrite [ym_v 43 (by decide) (by decide)]); first | assumption | rfl) | rfl) ?_
      refine j_dV1 kl_X9_527 (d3 c_6) dX9_isAny_52 rfl rfl (by decide) (Mo.h H) (Nat.le_of_ble_eq_true rfl) (by first | decide | omega) (by omega) (by omega) ?_
      refine j_dV1 kl_X9_530 (m_isSaid (V := V3) H (by have := k1 c_6; omega) (by have := k3 c_6; omega)) dX9_isAny_55 rfl rfl (by decide) (Mo.h H) (Nat.le_of_ble_eq_true rfl) (by first | decide | omega) (by omega) (by omega) ?_
      refine j_iret dX9_isAny_58 ⟨_, rfl, bI_nar _⟩ (by omega) (by omega) ?_
      rw [e1 (fun q => by rcases q with q | q; exact c_6 q; exact c_15 q)]; exact ⟨rfl, rfl⟩
    · refine j_iconst (v := nI 0) dX9_isAny_18 (by decide +kernel) ?_
      refine j_iret dX9_isAny_19 ⟨_, rfl, rfl⟩ (by omega) (by omega) ?_
      first
      | (have z : P = 0 := c_6
         rw [e0 (Or.inl z)]; exact ⟨rfl, rfl⟩)
      | (have z : W = 0 := c_15
         rw [e0 (Or.inr z)]; exact ⟨rfl, rfl⟩)
theorem m_does (H : Mo (ym σ h ad C V) h ad) (hw : Wd C W P Dn) {w : Nat} (hw2 : w ≤ 440) (hS : Sw C W P w) {r : Nat} (hr : V 37 = nI r) (hr2 : r < 65536) : Kd g l 6 MX9_does [.ref h, .int (nI w)] (ym σ h ad C V) (some (.int (bI (yDoes W P Dn w C V).1))) (ym σ h ad (yDoes W P Dn w C V).2.1 (yDoes W P Dn w C V).2.2) := by
  obtain ⟨⟨hW, hW8⟩, ⟨hP, hP6⟩, ⟨hD, hD6⟩, hdn⟩ := id hw
  have ne : ad 20 ≠ h := Mo.nh H (i := 20) rfl
  obtain ⟨s0, s1, s2, s3, -⟩ := hS
  refine Kt.go (Y := MX9_does) (ls := [some (.ref h), some (.int (nI w)), none]) (by decide) (Nat.le_of_ble_eq_true rfl) rfl ?_
  first | refine j_aload_n dX9_does_0 rfl ?_ | refine j_aload_nN dX9_does_0 rfl ?_
  refine j_getR dX9_does_1 fl_X9_35 rfl (Mo.h H) (Mo.R H _ _ _ rfl) ?_
  refine j_iload_n dX9_does_4 rfl ?_
  refine j_iald dX9_does_5 (Mo.S H _ _ _ rfl) rfl (by omega) (by decide) (by first | assumption | ((first | rewrite [ym_c ne] | rewrite [ym_v 36 (by decide) (by decide)] | rewrite [ym_v 37 (by decide) (by decide)] | rewrite [ym_v 38 (by decide) (by decide)] | rewrite [ym_v 39 (by decide) (by decide)] | rewrite [ym_v 40 (by decide) (by decide)] | rewrite [ym_v 41 (by decide) (by decide)] | rewrite [ym_v 42 (by decide) (by decide)] | rewrite [ym_v 43 (by decide) (by decide)]); first | assumption | rfl) | rfl) ?_
  refine j_istore_n dX9_does_6 (by decide) ?_
  refine j_iload_n dX9_does_7 rfl ?_
  first | (with_reducible refine j_gB ?_; refine j_if_neB (tgt := 24) dX9_does_8 (by decide) (fun c_8 => ?_) (fun c_8 => ?_)) | (with_reducible refine j_gC ?_; refine j_if_neC (tgt := 24) dX9_does_8 (by decide) (fun c_8 => ?_) (fun c_8 => ?_)) | (with_reducible refine j_gN ?_; refine j_if_neN (tgt := 24) dX9_does_8 (by decide) (by omega) (fun c_8 => ?_) (fun c_8 => ?_)) | refine j_if_ne (tgt := 24) dX9_does_8 (by decide) (fun c_8 => ?_) (fun c_8 => ?_)
  · refine j_iload_n dX9_does_24 rfl ?_
    refine j_iconst (v := nI 1) dX9_does_25 (by decide +kernel) ?_
    first | (with_reducible refine j_gNN ?_; refine j_icmp_neN (tgt := 50) dX9_does_26 (by decide) (by omega) (by omega) (fun c_26 => ?_) (fun c_26 => ?_)) | refine j_icmp_ne (tgt := 50) dX9_does_26 (by decide) (fun c_26 => ?_) (fun c_26 => ?_)
    · refine j_iload_n dX9_does_50 rfl ?_
      refine j_iconst (v := nI 2) dX9_does_51 (by decide +kernel) ?_
      first | (with_reducible refine j_gNN ?_; refine j_icmp_neN (tgt := 84) dX9_does_52 (by decide) (by omega) (by omega) (fun c_52 => ?_) (fun c_52 => ?_)) | refine j_icmp_ne (tgt := 84) dX9_does_52 (by decide) (fun c_52 => ?_) (fun c_52 => ?_)
      · refine j_iload_n dX9_does_84 rfl ?_
        refine j_iconst (v := nI 3) dX9_does_85 (by decide +kernel) ?_
        first | (with_reducible refine j_gNN ?_; refine j_icmp_neN (tgt := 112) dX9_does_86 (by decide) (by omega) (by omega) (fun c_86 => ?_) (fun c_86 => ?_)) | refine j_icmp_ne (tgt := 112) dX9_does_86 (by decide) (fun c_86 => ?_) (fun c_86 => ?_)
        · have e : yDoes W P Dn w C V = yAny W P C V := by unfold yDoes; rw [if_neg c_8, if_neg c_26, if_neg c_52, if_neg c_86]
          rw [e]
          first | refine j_aload_n dX9_does_112 rfl ?_ | refine j_aload_nN dX9_does_112 rfl ?_
          refine j_dV1 kl_X9_542 (m_isAny H hW hW8 hP hP6 hr hr2) dX9_does_113 rfl rfl (by decide) (Mo.h H) (Nat.le_of_ble_eq_true rfl) (by first | decide | omega) (by omega) (by omega) ?_
          refine j_iret dX9_does_116 ⟨_, rfl, bI_nar _⟩ (by omega) (by omega) ?_
          exact ⟨rfl, rfl⟩
        · obtain ⟨p, q, hp, hq, ep, eq⟩ := s3 c_86
          have e : yDoes W P Dn w C V = yCut W p q C V := by unfold yDoes; rw [if_neg c_8, if_neg c_26, if_neg c_52, if_pos c_86, ep, eq, ixn_nI (by omega), ixn_nI (by omega)]
          rw [e]
          first | refine j_aload_n dX9_does_89 rfl ?_ | refine j_aload_nN dX9_does_89 rfl ?_
          first | refine j_aload_n dX9_does_90 rfl ?_ | refine j_aload_nN dX9_does_90 rfl ?_
          refine j_getR dX9_does_91 fl_X9_35 rfl (Mo.h H) (Mo.R H _ _ _ rfl) ?_
          refine j_iload_n dX9_does_94 rfl ?_
          refine j_iconst (v := nI 1) dX9_does_95 (by decide +kernel) ?_
          first | (with_reducible refine j_gNN ?_; refine j_iaddN dX9_does_96 ?_) | refine j_iadd dX9_does_96 ?_
          refine j_iald dX9_does_97 (Mo.S H _ _ _ rfl) rfl (by omega) (by decide) (by first | assumption | ((first | rewrite [ym_c ne] | rewrite [ym_v 36 (by decide) (by decide)] | rewrite [ym_v 37 (by decide) (by decide)] | rewrite [ym_v 38 (by decide) (by decide)] | rewrite [ym_v 39 (by decide) (by decide)] | rewrite [ym_v 40 (by decide) (by decide)] | rewrite [ym_v 41 (by decide) (by decide)] | rewrite [ym_v 42 (by decide) (by decide)] | rewrite [ym_v 43 (by decide) (by decide)]); first | assumption | rfl) | rfl) ?_
          first | refine j_aload_n dX9_does_98 rfl ?_ | refine j_aload_nN dX9_does_98 rfl ?_
          refine j_getR dX9_does_99 fl_X9_35 rfl (Mo.h H) (Mo.R H _ _ _ rfl) ?_
          refine j_iload_n dX9_does_102 rfl ?_
          refine j_iconst (v := nI 3) dX9_does_103 (by decide +kernel) ?_
          first | (with_reducible refine j_gNN ?_; refine j_iaddN dX9_does_104 ?_) | refine j_iadd dX9_does_104 ?_
          refine j_iald dX9_does_105 (Mo.S H _ _ _ rfl) rfl (by omega) (by decide) (by first | assumption | ((first | rewrite [ym_c ne] | rewrite [ym_v 36 (by decide) (by decide)] | rewrite [ym_v 37 (by decide) (by decide)] | rewrite [ym_v 38 (by decide) (by decide)] | rewrite [ym_v 39 (by decide) (by decide)] | rewrite [ym_v 40 (by decide) (by decide)] | rewrite [ym_v 41 (by decide) (by decide)] | rewrite [ym_v 42 (by decide) (by decide)] | rewrite [ym_v 43 (by decide) (by decide)]); first | assumption | rfl) | rfl) ?_
          refine j_dV1 kl_X9_539 (m_isCut H hW hW8 (p := p) (b := q) (by omega) (by omega)) dX9_does_106 rfl rfl (by decide) (Mo.h H) (Nat.le_of_ble_eq_true rfl) (by first | decide | omega) (by omega) (by omega) ?_
          refine j_goto (tgt := 116) dX9_does_109 (by decide) ?_
          refine j_iret dX9_does_116 ⟨_, rfl, bI_nar _⟩ (by omega) (by omega) ?_
          exact ⟨rfl, rfl⟩
      · obtain ⟨p, k, q, hp, hk, hq, ep, ek, eq⟩ := s2 c_52
        have e : yDoes W P Dn w C V = ySay p k q C V := by unfold yDoes; rw [if_neg c_8, if_neg c_26, if_pos c_52, ep, ek, eq, ixn_nI (by omega), ixn_nI (by omega), ixn_nI (by omega)]
        rw [e]
        first | refine j_aload_n dX9_does_55 rfl ?_ | refine j_aload_nN dX9_does_55 rfl ?_
        first | refine j_aload_n dX9_does_56 rfl ?_ | refine j_aload_nN dX9_does_56 rfl ?_
        refine j_getR dX9_does_57 fl_X9_35 rfl (Mo.h H) (Mo.R H _ _ _ rfl) ?_
        refine j_iload_n dX9_does_60 rfl ?_
        refine j_iconst (v := nI 1) dX9_does_61 (by decide +kernel) ?_
        first | (with_reducible refine j_gNN ?_; refine j_iaddN dX9_does_62 ?_) | refine j_iadd dX9_does_62 ?_
        refine j_iald dX9_does_63 (Mo.S H _ _ _ rfl) rfl (by omega) (by decide) (by first | assumption | ((first | rewrite [ym_c ne] | rewrite [ym_v 36 (by decide) (by decide)] | rewrite [ym_v 37 (by decide) (by decide)] | rewrite [ym_v 38 (by decide) (by decide)] | rewrite [ym_v 39 (by decide) (by decide)] | rewrite [ym_v 40 (by decide) (by decide)] | rewrite [ym_v 41 (by decide) (by decide)] | rewrite [ym_v 42 (by decide) (by decide)] | rewrite [ym_v 43 (by decide) (by decide)]); first | assumption | rfl) | rfl) ?_
        first | refine j_aload_n dX9_does_64 rfl ?_ | refine j_aload_nN dX9_does_64 rfl ?_
        refine j_getR dX9_does_65 fl_X9_35 rfl (Mo.h H) (Mo.R H _ _ _ rfl) ?_
        refine j_iload_n dX9_does_68 rfl ?_
        refine j_iconst (v := nI 2) dX9_does_69 (by decide +kernel) ?_
        first | (with_reducible refine j_gNN ?_; refine j_iaddN dX9_does_70 ?_) | refine j_iadd dX9_does_70 ?_
        refine j_iald dX9_does_71 (Mo.S H _ _ _ rfl) rfl (by omega) (by decide) (by first | assumption | ((first | rewrite [ym_c ne] | rewrite [ym_v 36 (by decide) (by decide)] | rewrite [ym_v 37 (by decide) (by decide)] | rewrite [ym_v 38 (by decide) (by decide)] | rewrite [ym_v 39 (by decide) (by decide)] | rewrite [ym_v 40 (by decide) (by decide)] | rewrite [ym_v 41 (by decide) (by decide)] | rewrite [ym_v 42 (by decide) (by decide)] | rewrite [ym_v 43 (by decide) (by decide)]); first | assumption | rfl) | rfl) ?_
        first | refine j_aload_n dX9_does_72 rfl ?_ | refine j_aload_nN dX9_does_72 rfl ?_
        refine j_getR dX9_does_73 fl_X9_35 rfl (Mo.h H) (Mo.R H _ _ _ rfl) ?_
        refine j_iload_n dX9_does_76 rfl ?_
        refine j_iconst (v := nI 3) dX9_does_77 (by decide +kernel) ?_
        first | (with_reducible refine j_gNN ?_; refine j_iaddN dX9_does_78 ?_) | refine j_iadd dX9_does_78 ?_
        refine j_iald dX9_does_79 (Mo.S H _ _ _ rfl) rfl (by omega) (by decide) (by first | assumption | ((first | rewrite [ym_c ne] | rewrite [ym_v 36 (by decide) (by decide)] | rewrite [ym_v 37 (by decide) (by decide)] | rewrite [ym_v 38 (by decide) (by decide)] | rewrite [ym_v 39 (by decide) (by decide)] | rewrite [ym_v 40 (by decide) (by decide)] | rewrite [ym_v 41 (by decide) (by decide)] | rewrite [ym_v 42 (by decide) (by decide)] | rewrite [ym_v 43 (by decide) (by decide)]); first | assumption | rfl) | rfl) ?_
        refine j_dV1 kl_X9_530 (m_isSaid H (p := p) (k := k) (q := q) (by omega) (by omega)) dX9_does_80 rfl rfl (by decide) (Mo.h H) (Nat.le_of_ble_eq_true rfl) (by first | decide | omega) (by omega) (by omega) ?_
        refine j_iret dX9_does_83 ⟨_, rfl, bI_nar _⟩ (by omega) (by omega) ?_
        exact ⟨rfl, rfl⟩
    · obtain ⟨p, k, hp, hk, ep, ek⟩ := s1 c_26
      have e : yDoes W P Dn w C V = (mKeepB C p k, mKeep C p k, V) := by unfold yDoes; rw [if_neg c_8, if_pos c_26, ep, ek, ixn_nI (by omega), ixn_nI (by omega)]
      rw [e]
      first | refine j_aload_n dX9_does_29 rfl ?_ | refine j_aload_nN dX9_does_29 rfl ?_
      first | refine j_aload_n dX9_does_30 rfl ?_ | refine j_aload_nN dX9_does_30 rfl ?_
      refine j_getR dX9_does_31 fl_X9_35 rfl (Mo.h H) (Mo.R H _ _ _ rfl) ?_
      refine j_iload_n dX9_does_34 rfl ?_
      refine j_iconst (v := nI 1) dX9_does_35 (by decide +kernel) ?_
      first | (with_reducible refine j_gNN ?_; refine j_iaddN dX9_does_36 ?_) | refine j_iadd dX9_does_36 ?_
      refine j_iald dX9_does_37 (Mo.S H _ _ _ rfl) rfl (by omega) (by decide) (by first | assumption | ((first | rewrite [ym_c ne] | rewrite [ym_v 36 (by decide) (by decide)] | rewrite [ym_v 37 (by decide) (by decide)] | rewrite [ym_v 38 (by decide) (by decide)] | rewrite [ym_v 39 (by decide) (by decide)] | rewrite [ym_v 40 (by decide) (by decide)] | rewrite [ym_v 41 (by decide) (by decide)] | rewrite [ym_v 42 (by decide) (by decide)] | rewrite [ym_v 43 (by decide) (by decide)]); first | assumption | rfl) | rfl) ?_
      first | refine j_aload_n dX9_does_38 rfl ?_ | refine j_aload_nN dX9_does_38 rfl ?_
      refine j_getR dX9_does_39 fl_X9_35 rfl (Mo.h H) (Mo.R H _ _ _ rfl) ?_
      refine j_iload_n dX9_does_42 rfl ?_
      refine j_iconst (v := nI 2) dX9_does_43 (by decide +kernel) ?_
      first | (with_reducible refine j_gNN ?_; refine j_iaddN dX9_does_44 ?_) | refine j_iadd dX9_does_44 ?_
      refine j_iald dX9_does_45 (Mo.S H _ _ _ rfl) rfl (by omega) (by decide) (by first | assumption | ((first | rewrite [ym_c ne] | rewrite [ym_v 36 (by decide) (by decide)] | rewrite [ym_v 37 (by decide) (by decide)] | rewrite [ym_v 38 (by decide) (by decide)] | rewrite [ym_v 39 (by decide) (by decide)] | rewrite [ym_v 40 (by decide) (by decide)] | rewrite [ym_v 41 (by decide) (by decide)] | rewrite [ym_v 42 (by decide) (by decide)] | rewrite [ym_v 43 (by decide) (by decide)]); first | assumption | rfl) | rfl) ?_
      refine j_dV1 kl_X9_387 (m_keepsNow H (ym_c ne) (p := p) (k := k) (by omega) (by omega)) dX9_does_46 rfl rfl (by decide) (Mo.h H) (Nat.le_of_ble_eq_true rfl) (by first | decide | omega) (by omega) (by omega) ?_
      rw [ym_u ne]
      refine j_iret dX9_does_49 ⟨_, rfl, bI_nar _⟩ (by omega) (by omega) ?_
      exact ⟨rfl, rfl⟩
  · obtain ⟨n, hn, en⟩ := s0 c_8
    have e : yDoes W P Dn w C V = yDay W P Dn n C V := by unfold yDoes; rw [if_pos c_8, en, ixn_nI (by omega)]
    rw [e]
    first | refine j_aload_n dX9_does_11 rfl ?_ | refine j_aload_nN dX9_does_11 rfl ?_
    first | refine j_aload_n dX9_does_12 rfl ?_ | refine j_aload_nN dX9_does_12 rfl ?_
    refine j_getR dX9_does_13 fl_X9_35 rfl (Mo.h H) (Mo.R H _ _ _ rfl) ?_
    refine j_iload_n dX9_does_16 rfl ?_
    refine j_iconst (v := nI 1) dX9_does_17 (by decide +kernel) ?_
    first | (with_reducible refine j_gNN ?_; refine j_iaddN dX9_does_18 ?_) | refine j_iadd dX9_does_18 ?_
    refine j_iald dX9_does_19 (Mo.S H _ _ _ rfl) rfl (by omega) (by decide) (by first | assumption | ((first | rewrite [ym_c ne] | rewrite [ym_v 36 (by decide) (by decide)] | rewrite [ym_v 37 (by decide) (by decide)] | rewrite [ym_v 38 (by decide) (by decide)] | rewrite [ym_v 39 (by decide) (by decide)] | rewrite [ym_v 40 (by decide) (by decide)] | rewrite [ym_v 41 (by decide) (by decide)] | rewrite [ym_v 42 (by decide) (by decide)] | rewrite [ym_v 43 (by decide) (by decide)]); first | assumption | rfl) | rfl) ?_
    refine j_dV1 kl_X9_536 (m_anyDays H hw hn) dX9_does_20 rfl rfl (by decide) (Mo.h H) (Nat.le_of_ble_eq_true rfl) (by first | decide | omega) (by omega) (by omega) ?_
    refine j_iret dX9_does_23 ⟨_, rfl, bI_nar _⟩ (by omega) (by omega) ?_
    exact ⟨rfl, rfl⟩
theorem m_isSo (H : Mo (ym σ h ad C V) h ad) (hw : Wd C W P Dn) {w : Nat} (hw2 : w ≤ 440) (hS : Sw C W P w) (h5 : C w = nI 5) : Kd g l 3 MX9_isSo [.ref h, .int (nI w)] (ym σ h ad C V) (some (.int (bI (yHolds W w C)))) (ym σ h ad C V) := by
  obtain ⟨⟨hW, hW8⟩, ⟨hP, hP6⟩, ⟨hD, hD6⟩, hdn⟩ := id hw
  have ne : ad 20 ≠ h := Mo.nh H (i := 20) rfl
  obtain ⟨p, hp, ep, ek⟩ := hS.2.2.2.2.1 h5
  have epx : ixn (C (w + 1)) = p := by rw [ep, ixn_nI (by omega)]
  refine Kt.go (Y := MX9_isSo) (ls := [some (.ref h), some (.int (nI w)), none]) (by decide) (Nat.le_of_ble_eq_true rfl) rfl ?_
  first | refine j_aload_n dX9_isSo_0 rfl ?_ | refine j_aload_nN dX9_isSo_0 rfl ?_
  refine j_getR dX9_isSo_1 fl_X9_35 rfl (Mo.h H) (Mo.R H _ _ _ rfl) ?_
  refine j_iload_n dX9_isSo_4 rfl ?_
  refine j_bipush (v := nI 6) dX9_isSo_5 (by decide +kernel) ?_
  first | (with_reducible refine j_gNN ?_; refine j_iaddN dX9_isSo_7 ?_) | refine j_iadd dX9_isSo_7 ?_
  refine j_iald dX9_isSo_8 (Mo.S H _ _ _ rfl) rfl (by omega) (by decide) (by first | assumption | ((first | rewrite [ym_c ne] | rewrite [ym_v 36 (by decide) (by decide)] | rewrite [ym_v 37 (by decide) (by decide)] | rewrite [ym_v 38 (by decide) (by decide)] | rewrite [ym_v 39 (by decide) (by decide)] | rewrite [ym_v 40 (by decide) (by decide)] | rewrite [ym_v 41 (by decide) (by decide)] | rewrite [ym_v 42 (by decide) (by decide)] | rewrite [ym_v 43 (by decide) (by decide)]); first | assumption | rfl) | rfl) ?_
  first | (with_reducible refine j_gB ?_; refine j_if_neB (tgt := 33) dX9_isSo_9 (by decide) (fun c_9 => ?_) (fun c_9 => ?_)) | (with_reducible refine j_gC ?_; refine j_if_neC (tgt := 33) dX9_isSo_9 (by decide) (fun c_9 => ?_) (fun c_9 => ?_)) | (with_reducible refine j_gN ?_; refine j_if_neN (tgt := 33) dX9_isSo_9 (by decide) (by omega) (fun c_9 => ?_) (fun c_9 => ?_)) | refine j_if_ne (tgt := 33) dX9_isSo_9 (by decide) (fun c_9 => ?_) (fun c_9 => ?_)
  · first | refine j_aload_n dX9_isSo_33 rfl ?_ | refine j_aload_nN dX9_isSo_33 rfl ?_
    first | refine j_aload_n dX9_isSo_34 rfl ?_ | refine j_aload_nN dX9_isSo_34 rfl ?_
    refine j_getR dX9_isSo_35 fl_X9_35 rfl (Mo.h H) (Mo.R H _ _ _ rfl) ?_
    refine j_iload_n dX9_isSo_38 rfl ?_
    refine j_iconst (v := nI 1) dX9_isSo_39 (by decide +kernel) ?_
    first | (with_reducible refine j_gNN ?_; refine j_iaddN dX9_isSo_40 ?_) | refine j_iadd dX9_isSo_40 ?_
    refine j_iald dX9_isSo_41 (Mo.S H _ _ _ rfl) rfl (by omega) (by decide) (by first | assumption | ((first | rewrite [ym_c ne] | rewrite [ym_v 36 (by decide) (by decide)] | rewrite [ym_v 37 (by decide) (by decide)] | rewrite [ym_v 38 (by decide) (by decide)] | rewrite [ym_v 39 (by decide) (by decide)] | rewrite [ym_v 40 (by decide) (by decide)] | rewrite [ym_v 41 (by decide) (by decide)] | rewrite [ym_v 42 (by decide) (by decide)] | rewrite [ym_v 43 (by decide) (by decide)]); first | assumption | rfl) | rfl) ?_
    refine j_dV1 kl_X9_320 (m_hairOf H (ym_c ne) hW hW8 (p := p) (by omega)) dX9_isSo_42 rfl rfl (by decide) (Mo.h H) (Nat.le_of_ble_eq_true rfl) (by first | decide | omega) (by omega) (by omega) ?_
    refine j_istore_n dX9_isSo_45 (by decide) ?_
    first | refine j_aload_n dX9_isSo_46 rfl ?_ | refine j_aload_nN dX9_isSo_46 rfl ?_
    refine j_getR dX9_isSo_47 fl_X9_35 rfl (Mo.h H) (Mo.R H _ _ _ rfl) ?_
    refine j_iload_n dX9_isSo_50 rfl ?_
    refine j_bipush (v := nI 7) dX9_isSo_51 (by decide +kernel) ?_
    first | (with_reducible refine j_gNN ?_; refine j_iaddN dX9_isSo_53 ?_) | refine j_iadd dX9_isSo_53 ?_
    refine j_iald dX9_isSo_54 (Mo.S H _ _ _ rfl) rfl (by omega) (by decide) (by first | assumption | ((first | rewrite [ym_c ne] | rewrite [ym_v 36 (by decide) (by decide)] | rewrite [ym_v 37 (by decide) (by decide)] | rewrite [ym_v 38 (by decide) (by decide)] | rewrite [ym_v 39 (by decide) (by decide)] | rewrite [ym_v 40 (by decide) (by decide)] | rewrite [ym_v 41 (by decide) (by decide)] | rewrite [ym_v 42 (by decide) (by decide)] | rewrite [ym_v 43 (by decide) (by decide)]); first | assumption | rfl) | rfl) ?_
    refine j_bipush (v := nI 60) dX9_isSo_55 (by decide +kernel) ?_
    first | (with_reducible refine j_gNN ?_; refine j_icmp_neN (tgt := 80) dX9_isSo_57 (by decide) (by omega) (by omega) (fun c_57 => ?_) (fun c_57 => ?_)) | refine j_icmp_ne (tgt := 80) dX9_isSo_57 (by decide) (fun c_57 => ?_) (fun c_57 => ?_)
    · first | refine j_aload_n dX9_isSo_80 rfl ?_ | refine j_aload_nN dX9_isSo_80 rfl ?_
      refine j_getR dX9_isSo_81 fl_X9_35 rfl (Mo.h H) (Mo.R H _ _ _ rfl) ?_
      refine j_iload_n dX9_isSo_84 rfl ?_
      refine j_bipush (v := nI 7) dX9_isSo_85 (by decide +kernel) ?_
      first | (with_reducible refine j_gNN ?_; refine j_iaddN dX9_isSo_87 ?_) | refine j_iadd dX9_isSo_87 ?_
      refine j_iald dX9_isSo_88 (Mo.S H _ _ _ rfl) rfl (by omega) (by decide) (by first | assumption | ((first | rewrite [ym_c ne] | rewrite [ym_v 36 (by decide) (by decide)] | rewrite [ym_v 37 (by decide) (by decide)] | rewrite [ym_v 38 (by decide) (by decide)] | rewrite [ym_v 39 (by decide) (by decide)] | rewrite [ym_v 40 (by decide) (by decide)] | rewrite [ym_v 41 (by decide) (by decide)] | rewrite [ym_v 42 (by decide) (by decide)] | rewrite [ym_v 43 (by decide) (by decide)]); first | assumption | rfl) | rfl) ?_
      refine j_bipush (v := nI 62) dX9_isSo_89 (by decide +kernel) ?_
      first | (with_reducible refine j_gNN ?_; refine j_icmp_neN (tgt := 114) dX9_isSo_91 (by decide) (by omega) (by omega) (fun c_91 => ?_) (fun c_91 => ?_)) | refine j_icmp_ne (tgt := 114) dX9_isSo_91 (by decide) (fun c_91 => ?_) (fun c_91 => ?_)
      · refine j_iload_n dX9_isSo_114 rfl ?_
        first | refine j_aload_n dX9_isSo_115 rfl ?_ | refine j_aload_nN dX9_isSo_115 rfl ?_
        refine j_getR dX9_isSo_116 fl_X9_35 rfl (Mo.h H) (Mo.R H _ _ _ rfl) ?_
        refine j_iload_n dX9_isSo_119 rfl ?_
        refine j_iconst (v := nI 2) dX9_isSo_120 (by decide +kernel) ?_
        first | (with_reducible refine j_gNN ?_; refine j_iaddN dX9_isSo_121 ?_) | refine j_iadd dX9_isSo_121 ?_
        refine j_iald dX9_isSo_122 (Mo.S H _ _ _ rfl) rfl (by omega) (by decide) (by first | assumption | ((first | rewrite [ym_c ne] | rewrite [ym_v 36 (by decide) (by decide)] | rewrite [ym_v 37 (by decide) (by decide)] | rewrite [ym_v 38 (by decide) (by decide)] | rewrite [ym_v 39 (by decide) (by decide)] | rewrite [ym_v 40 (by decide) (by decide)] | rewrite [ym_v 41 (by decide) (by decide)] | rewrite [ym_v 42 (by decide) (by decide)] | rewrite [ym_v 43 (by decide) (by decide)]); first | assumption | rfl) | rfl) ?_
        first | (with_reducible refine j_gNN ?_; refine j_icmp_neN (tgt := 130) dX9_isSo_123 (by decide) (by omega) (by omega) (fun c_123 => ?_) (fun c_123 => ?_)) | refine j_icmp_ne (tgt := 130) dX9_isSo_123 (by decide) (fun c_123 => ?_) (fun c_123 => ?_)
        · refine j_iconst (v := nI 0) dX9_isSo_130 (by decide +kernel) ?_
          refine j_iret dX9_isSo_131 ⟨_, rfl, rfl⟩ (by omega) (by omega) ?_
          refine ⟨?_, rfl⟩
          unfold yHolds
          rw [if_neg c_9, epx]
          first
          | (rw [if_pos c_57, decide_eq_true (Int32.not_le.mp c_69)]; rfl)
          | (rw [if_pos c_57, decide_eq_false (Int32.not_lt.mpr c_69)]; rfl)
          | (rw [if_neg c_57, if_pos c_91, decide_eq_true (Int32.not_le.mp c_103)]; rfl)
          | (rw [if_neg c_57, if_pos c_91, decide_eq_false (Int32.not_lt.mpr c_103)]; rfl)
          | (rw [if_neg c_57, if_neg c_91, decide_eq_true c_123]; rfl)
          | (rw [if_neg c_57, if_neg c_91, decide_eq_false c_123]; rfl)
        · refine j_iconst (v := nI 1) dX9_isSo_126 (by decide +kernel) ?_
          refine j_goto (tgt := 131) dX9_isSo_127 (by decide) ?_
          refine j_iret dX9_isSo_131 ⟨_, rfl, rfl⟩ (by omega) (by omega) ?_
          refine ⟨?_, rfl⟩
          unfold yHolds
          rw [if_neg c_9, epx]
          first
          | (rw [if_pos c_57, decide_eq_true (Int32.not_le.mp c_69)]; rfl)
          | (rw [if_pos c_57, decide_eq_false (Int32.not_lt.mpr c_69)]; rfl)
          | (rw [if_neg c_57, if_pos c_91, decide_eq_true (Int32.not_le.mp c_103)]; rfl)
          | (rw [if_neg c_57, if_pos c_91, decide_eq_false (Int32.not_lt.mpr c_103)]; rfl)
          | (rw [if_neg c_57, if_neg c_91, decide_eq_true c_123]; rfl)
          | (rw [if_neg c_57, if_neg c_91, decide_eq_false c_123]; rfl)
      · refine j_iload_n dX9_isSo_94 rfl ?_
        first | refine j_aload_n dX9_isSo_95 rfl ?_ | refine j_aload_nN dX9_isSo_95 rfl ?_
        refine j_getR dX9_isSo_96 fl_X9_35 rfl (Mo.h H) (Mo.R H _ _ _ rfl) ?_
        refine j_iload_n dX9_isSo_99 rfl ?_
        refine j_iconst (v := nI 2) dX9_isSo_100 (by decide +kernel) ?_
        first | (with_reducible refine j_gNN ?_; refine j_iaddN dX9_isSo_101 ?_) | refine j_iadd dX9_isSo_101 ?_
        refine j_iald dX9_isSo_102 (Mo.S H _ _ _ rfl) rfl (by omega) (by decide) (by first | assumption | ((first | rewrite [ym_c ne] | rewrite [ym_v 36 (by decide) (by decide)] | rewrite [ym_v 37 (by decide) (by decide)] | rewrite [ym_v 38 (by decide) (by decide)] | rewrite [ym_v 39 (by decide) (by decide)] | rewrite [ym_v 40 (by decide) (by decide)] | rewrite [ym_v 41 (by decide) (by decide)] | rewrite [ym_v 42 (by decide) (by decide)] | rewrite [ym_v 43 (by decide) (by decide)]); first | assumption | rfl) | rfl) ?_
        first | (with_reducible refine j_gNN ?_; refine j_icmp_leN (tgt := 110) dX9_isSo_103 (by decide) (by omega) (by omega) (fun c_103 => ?_) (fun c_103 => ?_)) | refine j_icmp_le (tgt := 110) dX9_isSo_103 (by decide) (fun c_103 => ?_) (fun c_103 => ?_)
        · refine j_iconst (v := nI 0) dX9_isSo_110 (by decide +kernel) ?_
          refine j_goto (tgt := 131) dX9_isSo_111 (by decide) ?_
          refine j_iret dX9_isSo_131 ⟨_, rfl, rfl⟩ (by omega) (by omega) ?_
          refine ⟨?_, rfl⟩
          unfold yHolds
          rw [if_neg c_9, epx]
          first
          | (rw [if_pos c_57, decide_eq_true (Int32.not_le.mp c_69)]; rfl)
          | (rw [if_pos c_57, decide_eq_false (Int32.not_lt.mpr c_69)]; rfl)
          | (rw [if_neg c_57, if_pos c_91, decide_eq_true (Int32.not_le.mp c_103)]; rfl)
          | (rw [if_neg c_57, if_pos c_91, decide_eq_false (Int32.not_lt.mpr c_103)]; rfl)
          | (rw [if_neg c_57, if_neg c_91, decide_eq_true c_123]; rfl)
          | (rw [if_neg c_57, if_neg c_91, decide_eq_false c_123]; rfl)
        · refine j_iconst (v := nI 1) dX9_isSo_106 (by decide +kernel) ?_
          refine j_goto (tgt := 131) dX9_isSo_107 (by decide) ?_
          refine j_iret dX9_isSo_131 ⟨_, rfl, rfl⟩ (by omega) (by omega) ?_
          refine ⟨?_, rfl⟩
          unfold yHolds
          rw [if_neg c_9, epx]
          first
          | (rw [if_pos c_57, decide_eq_true (Int32.not_le.mp c_69)]; rfl)
          | (rw [if_pos c_57, decide_eq_false (Int32.not_lt.mpr c_69)]; rfl)
          | (rw [if_neg c_57, if_pos c_91, decide_eq_true (Int32.not_le.mp c_103)]; rfl)
          | (rw [if_neg c_57, if_pos c_91, decide_eq_false (Int32.not_lt.mpr c_103)]; rfl)
          | (rw [if_neg c_57, if_neg c_91, decide_eq_true c_123]; rfl)
          | (rw [if_neg c_57, if_neg c_91, decide_eq_false c_123]; rfl)
    · refine j_iload_n dX9_isSo_60 rfl ?_
      first | refine j_aload_n dX9_isSo_61 rfl ?_ | refine j_aload_nN dX9_isSo_61 rfl ?_
      refine j_getR dX9_isSo_62 fl_X9_35 rfl (Mo.h H) (Mo.R H _ _ _ rfl) ?_
      refine j_iload_n dX9_isSo_65 rfl ?_
      refine j_iconst (v := nI 2) dX9_isSo_66 (by decide +kernel) ?_
      first | (with_reducible refine j_gNN ?_; refine j_iaddN dX9_isSo_67 ?_) | refine j_iadd dX9_isSo_67 ?_
      refine j_iald dX9_isSo_68 (Mo.S H _ _ _ rfl) rfl (by omega) (by decide) (by first | assumption | ((first | rewrite [ym_c ne] | rewrite [ym_v 36 (by decide) (by decide)] | rewrite [ym_v 37 (by decide) (by decide)] | rewrite [ym_v 38 (by decide) (by decide)] | rewrite [ym_v 39 (by decide) (by decide)] | rewrite [ym_v 40 (by decide) (by decide)] | rewrite [ym_v 41 (by decide) (by decide)] | rewrite [ym_v 42 (by decide) (by decide)] | rewrite [ym_v 43 (by decide) (by decide)]); first | assumption | rfl) | rfl) ?_
      first | (with_reducible refine j_gNN ?_; refine j_icmp_geN (tgt := 76) dX9_isSo_69 (by decide) (by omega) (by omega) (fun c_69 => ?_) (fun c_69 => ?_)) | refine j_icmp_ge (tgt := 76) dX9_isSo_69 (by decide) (fun c_69 => ?_) (fun c_69 => ?_)
      · refine j_iconst (v := nI 0) dX9_isSo_76 (by decide +kernel) ?_
        refine j_goto (tgt := 131) dX9_isSo_77 (by decide) ?_
        refine j_iret dX9_isSo_131 ⟨_, rfl, rfl⟩ (by omega) (by omega) ?_
        refine ⟨?_, rfl⟩
        unfold yHolds
        rw [if_neg c_9, epx]
        first
        | (rw [if_pos c_57, decide_eq_true (Int32.not_le.mp c_69)]; rfl)
        | (rw [if_pos c_57, decide_eq_false (Int32.not_lt.mpr c_69)]; rfl)
        | (rw [if_neg c_57, if_pos c_91, decide_eq_true (Int32.not_le.mp c_103)]; rfl)
        | (rw [if_neg c_57, if_pos c_91, decide_eq_false (Int32.not_lt.mpr c_103)]; rfl)
        | (rw [if_neg c_57, if_neg c_91, decide_eq_true c_123]; rfl)
        | (rw [if_neg c_57, if_neg c_91, decide_eq_false c_123]; rfl)
      · refine j_iconst (v := nI 1) dX9_isSo_72 (by decide +kernel) ?_
        refine j_goto (tgt := 131) dX9_isSo_73 (by decide) ?_
        refine j_iret dX9_isSo_131 ⟨_, rfl, rfl⟩ (by omega) (by omega) ?_
        refine ⟨?_, rfl⟩
        unfold yHolds
        rw [if_neg c_9, epx]
        first
        | (rw [if_pos c_57, decide_eq_true (Int32.not_le.mp c_69)]; rfl)
        | (rw [if_pos c_57, decide_eq_false (Int32.not_lt.mpr c_69)]; rfl)
        | (rw [if_neg c_57, if_pos c_91, decide_eq_true (Int32.not_le.mp c_103)]; rfl)
        | (rw [if_neg c_57, if_pos c_91, decide_eq_false (Int32.not_lt.mpr c_103)]; rfl)
        | (rw [if_neg c_57, if_neg c_91, decide_eq_true c_123]; rfl)
        | (rw [if_neg c_57, if_neg c_91, decide_eq_false c_123]; rfl)
  · obtain ⟨k, hk, ek⟩ := ek c_9
    have e : yHolds W w C = hs (C (37 + p)) k := by unfold yHolds; rw [if_pos c_9, epx, ek, ixn_nI (by omega)]
    rw [e]
    first | refine j_aload_n dX9_isSo_12 rfl ?_ | refine j_aload_nN dX9_isSo_12 rfl ?_
    first | refine j_aload_n dX9_isSo_13 rfl ?_ | refine j_aload_nN dX9_isSo_13 rfl ?_
    refine j_getR dX9_isSo_14 fl_X9_35 rfl (Mo.h H) (Mo.R H _ _ _ rfl) ?_
    refine j_iload_n dX9_isSo_17 rfl ?_
    refine j_iconst (v := nI 1) dX9_isSo_18 (by decide +kernel) ?_
    first | (with_reducible refine j_gNN ?_; refine j_iaddN dX9_isSo_19 ?_) | refine j_iadd dX9_isSo_19 ?_
    refine j_iald dX9_isSo_20 (Mo.S H _ _ _ rfl) rfl (by omega) (by decide) (by first | assumption | ((first | rewrite [ym_c ne] | rewrite [ym_v 36 (by decide) (by decide)] | rewrite [ym_v 37 (by decide) (by decide)] | rewrite [ym_v 38 (by decide) (by decide)] | rewrite [ym_v 39 (by decide) (by decide)] | rewrite [ym_v 40 (by decide) (by decide)] | rewrite [ym_v 41 (by decide) (by decide)] | rewrite [ym_v 42 (by decide) (by decide)] | rewrite [ym_v 43 (by decide) (by decide)]); first | assumption | rfl) | rfl) ?_
    first | refine j_aload_n dX9_isSo_21 rfl ?_ | refine j_aload_nN dX9_isSo_21 rfl ?_
    refine j_getR dX9_isSo_22 fl_X9_35 rfl (Mo.h H) (Mo.R H _ _ _ rfl) ?_
    refine j_iload_n dX9_isSo_25 rfl ?_
    refine j_iconst (v := nI 2) dX9_isSo_26 (by decide +kernel) ?_
    first | (with_reducible refine j_gNN ?_; refine j_iaddN dX9_isSo_27 ?_) | refine j_iadd dX9_isSo_27 ?_
    refine j_iald dX9_isSo_28 (Mo.S H _ _ _ rfl) rfl (by omega) (by decide) (by first | assumption | ((first | rewrite [ym_c ne] | rewrite [ym_v 36 (by decide) (by decide)] | rewrite [ym_v 37 (by decide) (by decide)] | rewrite [ym_v 38 (by decide) (by decide)] | rewrite [ym_v 39 (by decide) (by decide)] | rewrite [ym_v 40 (by decide) (by decide)] | rewrite [ym_v 41 (by decide) (by decide)] | rewrite [ym_v 42 (by decide) (by decide)] | rewrite [ym_v 43 (by decide) (by decide)]); first | assumption | rfl) | rfl) ?_
    refine j_dV1 kl_X9_366 (m_knows H (ym_c ne) (p := p) (k := k) (by omega)) dX9_isSo_29 rfl rfl (by decide) (Mo.h H) (Nat.le_of_ble_eq_true rfl) (by first | decide | omega) (by omega) (by omega) ?_
    refine j_iret dX9_isSo_32 ⟨_, rfl, bI_nar _⟩ (by omega) (by omega) ?_
    exact ⟨rfl, rfl⟩
end M20
