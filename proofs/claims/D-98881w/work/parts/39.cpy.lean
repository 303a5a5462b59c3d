/-! System.arraycopy; LENSES: a row of ints laid over the pure heap's places -/
set_option maxRecDepth 100000
theorem nfw : nativeFrameWords "java/lang/System" "arraycopy" 5 = 7 := by decide +kernel
theorem asg_self {vm : Vm} (c : ClassId) : vm.assignable c c = true := by
  show vm.assignableAux _ c c = true; unfold Vm.assignableAux; simp
def sUR (σ : Sg) (a : Nat) (f : Nat → Option Nat) : Sg := (σ.1, σ.2.1, σ.2.2.1, up σ.2.2.2 a f)
theorem sUR_e {σ : Sg} {a : Nat} {f : Nat → Option Nat} : (sUR σ a f).2.2.2 a = f := up_eq _ _ _
theorem sUR_n {σ : Sg} {a b : Nat} {f : Nat → Option Nat} (h : b ≠ a) : (sUR σ a f).2.2.2 b = σ.2.2.2 b := up_ne h
section CP
variable {g : Gx} {l : Launch} {d : Nat} {Y : Mi} {av : List Value} {mc ms : Nat} {Qr : Option Value → Sg → Prop} {Qx : Nat → String → Sg → Prop} {c0 n0 pc : Nat} {ls : List (Option Value)} {st : List Value} {σ : Sg}
theorem j_sg {σ' : Sg} (h : σ = σ') (k : Tj g l d Y av mc ms Qr Qx c0 n0 pc ls st σ') : Tj g l d Y av mc ms Qr Qx c0 n0 pc ls st σ := by rw [h]; exact k
theorem j_cpI {a b N0 N1 sp dp n ix : Nat} (hd : decode Y.2.1 pc = .ok (.invokestatic ix, 3)) (hw : Cond.methodLink Y.1.cls ix arraycopyName ∈ lw_all) (ha : σ.1 a = some (20, N0)) (hb : σ.1 b = some (20, N1)) (h0 : sp + n ≤ N0) (h1 : dp + n ≤ N1) (hN0 : N0 < 2 ^ 31) (hN1 : N1 < 2 ^ 31) (hrest : (st.map fun v => v.category).sum ≤ 8)
    (kk : Tj g l d Y av mc ms Qr Qx c0 n0 (pc + 3) ls st (sU σ b (va_cpy (σ.2.1 a) (σ.2.1 b) sp dp n))) : Tj g l d Y av mc ms Qr Qx c0 n0 pc ls (.int (nI n) :: .int (nI dp) :: .ref b :: .int (nI sp) :: .ref a :: st) σ := by
  intro p e s m below meth c H locs la C hM hS hl
  have hts := C.2.2.2.2.2.2.1
  obtain ⟨q0, hq0⟩ := hM.at ha
  obtain ⟨q1, hq1⟩ := hM.at hb
  have e1 : (nI sp).toNatClampNeg = sp := nI_clamp (by omega)
  have e2 : (nI dp).toNatClampNeg = dp := nI_clamp (by omega)
  have e3 : (nI n).toNatClampNeg = n := nI_clamp (by omega)
  refine va_copyi (f := σ.2.1 a) (g := σ.2.1 b) (ty := .int) C.1 C.2.1 (C.2.2.2.1.trans hl.1.symm) C.2.2.2.2.2.1 (hts _ hw) (hts _ q738) (hts _ q737) (hts _ q193) C.2.2.2.2.2.2.2.1.2.1 hM.P hM.D hS q0 q1 0 0 hq0 hq1 rfl rfl rfl (nI_pos (by omega)) (nI_pos (by omega)) (nI_pos (by omega)) (by rw [e1, e3]; exact h0) (by rw [e2, e3]; exact h1) (fun i _ => rfl) (by unfold zR; dsimp only; omega) (by rw [nfw]; unfold zR; dsimp only; omega) hd (fun H1 locs1 hP1 _ hS1 => ?_)
  rw [e1, e2, e3] at hP1
  refine kk p e s m below meth c H1 locs1 la C (hM.set hb hq1 hP1 rfl ?_ (fun q hq => ⟨up_ne hq, rfl, rfl⟩) (fun _ _ => trivial)) hS1 hl
  show (Sum.inl (g.2.1 20, N1, .inl (up σ.2.1 b (va_cpy (σ.2.1 a) (σ.2.1 b) sp dp n) b)) : va_E) = _
  rw [up_eq]
/-- references: all of class ci -/
theorem j_cpR {a b N0 N1 sp dp n ix t ci : Nat} (hd : decode Y.2.1 pc = .ok (.invokestatic ix, 3)) (hw : Cond.methodLink Y.1.cls ix arraycopyName ∈ lw_all) (ht : ∀ g : Gx, (zTs g)[t - 20]? = some (g.2.1 t, .object (zCn ci))) (h25 : 25 ≤ t) (hci : ci < 14) (ha : σ.1 a = some (t, N0)) (hb : σ.1 b = some (t, N1)) (hel : ∀ i, i < n → ∀ y, σ.2.2.2 a (sp + i) = some y → σ.1 y = some (ci, 0)) (h0 : sp + n ≤ N0) (h1 : dp + n ≤ N1) (hN0 : N0 < 2 ^ 31) (hN1 : N1 < 2 ^ 31) (hrest : (st.map fun v => v.category).sum ≤ 8)
    (kk : Tj g l d Y av mc ms Qr Qx c0 n0 (pc + 3) ls st (sUR σ b (va_cpy (σ.2.2.2 a) (σ.2.2.2 b) sp dp n))) : Tj g l d Y av mc ms Qr Qx c0 n0 pc ls (.int (nI n) :: .int (nI dp) :: .ref b :: .int (nI sp) :: .ref a :: st) σ := by
  intro p e s m below meth c H locs la C hM hS hl
  have hts := C.2.2.2.2.2.2.1
  obtain ⟨q0, hq0⟩ := hM.at ha
  obtain ⟨q1, hq1⟩ := hM.at hb
  have hq1' := hq1
  rw [ze_q h25] at hq0 hq1
  have e1 : (nI sp).toNatClampNeg = sp := nI_clamp (by omega)
  have e2 : (nI dp).toNatClampNeg = dp := nI_clamp (by omega)
  have e3 : (nI n).toNatClampNeg = n := nI_clamp (by omega)
  refine va_copyq (f := σ.2.2.2 a) (g := σ.2.2.2 b) (C := zCn ci) C.1 C.2.1 (C.2.2.2.1.trans hl.1.symm) C.2.2.2.2.2.1 (hts _ hw) (hts _ q738) (hts _ q737) (hts _ q193) C.2.2.2.2.2.2.2.1.2.1 hM.P hM.D hS q0 q1 (t - 20) (t - 20) hq0 hq1 (ht g) (ht g) (nI_pos (by omega)) (nI_pos (by omega)) (nI_pos (by omega)) (by rw [e1, e3]; exact h0) (by rw [e2, e3]; exact h1) (fun i hi y hy => ?_) (fun comp cc q1 q2 => by cases q1.symm.trans q2; exact asg_self _) (by unfold zR; dsimp only; omega) (by rw [nfw]; unfold zR; dsimp only; omega) hd (fun H1 locs1 hP1 _ hS1 => ?_)
  · rw [e3] at hi
    rw [e1] at hy
    exact zrecv C hM hci (hel i hi y hy)
  rw [e1, e2, e3] at hP1
  refine kk p e s m below meth c H1 locs1 la C (hM.set hb hq1' hP1 rfl ?_ (fun q hq => ⟨rfl, rfl, up_ne hq⟩) (fun _ _ => zfit_q h25 _)) hS1 hl
  rw [ze_q h25]
  show (Sum.inl (g.2.1 t, N1, .inr (.inr (.inr (.inr (up σ.2.2.2 b (va_cpy (σ.2.2.2 a) (σ.2.2.2 b) sp dp n) b))))) : va_E) = _
  rw [up_eq]
end CP
/-! lenses -/
def put (σ : Sg) (L : Nat → Nat → Option Nat) (C : Nat → Int32) : Sg := (σ.1, (fun a k => match L a k with
  | some i => C i
  | none => σ.2.1 a k), σ.2.2.1, σ.2.2.2)
def Linj (L : Nat → Nat → Option Nat) : Prop := ∀ a k b j i, L a k = some i → L b j = some i → a = b ∧ k = j
section LZ
variable {σ : Sg} {L L2 : Nat → Nat → Option Nat} {C D : Nat → Int32} {a k i : Nat}
theorem put_at {b j : Nat} : (put σ L C).2.1 b j = (match L b j with
  | some i => C i
  | none => σ.2.1 b j) := rfl
theorem pg (h : L a k = some i) : (put σ L C).2.1 a k = C i := by rw [put_at, h]
theorem pgn (h : L a k = none) : (put σ L C).2.1 a k = σ.2.1 a k := by rw [put_at, h]
theorem sg_ext {σ τ : Sg} (h1 : σ.1 = τ.1) (h2 : ∀ a k, σ.2.1 a k = τ.2.1 a k) (h3 : σ.2.2 = τ.2.2) : σ = τ := by
  obtain ⟨a, b, c⟩ := σ
  obtain ⟨a', b', c'⟩ := τ
  have : b = b' := funext fun x => funext fun y => h2 x y
  cases h1; cases h3; cases this; rfl
theorem sI_at {b j : Nat} {x : Int32} : (sI σ a k x).2.1 b j = if b = a ∧ j = k then x else σ.2.1 b j := by
  show up σ.2.1 a (up (σ.2.1 a) k x) b j = _
  unfold up
  by_cases h1 : b = a
  · subst h1
    by_cases h2 : j = k <;> simp [h2]
  · simp [h1]
theorem put_w {x : Int32} (hL : Linj L) (h : L a k = some i) : sI (put σ L C) a k x = put σ L (up C i x) := by
  refine sg_ext rfl (fun b j => ?_) rfl
  rw [sI_at]
  by_cases e : b = a ∧ j = k
  · obtain ⟨rfl, rfl⟩ := e
    rw [if_pos ⟨rfl, rfl⟩, pg h, up_eq]
  · rw [if_neg e, put_at, put_at]
    cases q : L b j with
    | none => rfl
    | some i' =>
      have : i' ≠ i := fun e2 => e (by subst e2; exact hL _ _ _ _ _ q h)
      exact (up_ne this).symm
theorem put_put : put (put σ L C) L D = put σ L D := by
  refine sg_ext rfl (fun b j => ?_) rfl
  rw [put_at, put_at, put_at]
  cases L b j <;> rfl
theorem put_n {x : Int32} (h : L a k = none) : sI (put σ L C) a k x = put (sI σ a k x) L C := by
  refine sg_ext rfl (fun b j => ?_) rfl
  rw [sI_at, put_at, put_at, sI_at]
  by_cases e : b = a ∧ j = k
  · obtain ⟨rfl, rfl⟩ := e
    rw [if_pos ⟨rfl, rfl⟩, h, if_pos ⟨rfl, rfl⟩]
  · rw [if_neg e, if_neg e]
theorem put_nU {F : Nat → Int32} (h : ∀ j, L a j = none) : sU (put σ L C) a F = put (sU σ a F) L C := by
  refine sg_ext rfl (fun b j => ?_) rfl
  rw [put_at]
  by_cases e : b = a
  · subst e; rw [sU_e, h, sU_e]
  · rw [sU_n e, put_at, sU_n e]
theorem put_L {x : Int64} : sL (put σ L C) a k x = put (sL σ a k x) L C := rfl
theorem put_R {x : Option Nat} : sR (put σ L C) a k x = put (sR σ a k x) L C := rfl
theorem put_UL {F : Nat → Int64} : sUL (put σ L C) a F = put (sUL σ a F) L C := rfl
theorem put_UR {F : Nat → Option Nat} : sUR (put σ L C) a F = put (sUR σ a F) L C := rfl
theorem put_cg (h : ∀ a k i, L a k = some i → C i = D i) : put σ L C = put σ L D := by
  refine sg_ext rfl (fun b j => ?_) rfl
  rw [put_at, put_at]
  cases q : L b j with
  | none => rfl
  | some i => exact h _ _ _ q
theorem put_id (h : ∀ a k i, L a k = some i → σ.2.1 a k = C i) : put σ L C = σ := by
  refine sg_ext rfl (fun b j => ?_) rfl
  rw [put_at]
  cases q : L b j with
  | none => rfl
  | some i => exact (h _ _ _ q).symm
theorem put_com (hd : ∀ a k, L a k = none ∨ L2 a k = none) : put (put σ L C) L2 D = put (put σ L2 D) L C := by
  refine sg_ext rfl (fun b j => ?_) rfl
  rw [put_at, put_at, put_at, put_at]
  rcases hd b j with h | h
  · rw [h]
  · rw [h]
theorem put_N {q t n : Nat} (h : ∀ j, L q j = none) : sN (put σ L C) q t n = put (sN σ q t n) L C := by
  refine sg_ext rfl (fun b j => ?_) rfl
  rw [put_at]
  show up (put σ L C).2.1 q (fun _ => 0) b j = _
  by_cases e : b = q
  · subst e
    rw [up_eq, h]
    show _ = up σ.2.1 b (fun _ => 0) b j
    rw [up_eq]
  · rw [up_ne e, put_at]
    show _ = (match L b j with
      | some i => C i
      | none => up σ.2.1 q (fun _ => 0) b j)
    rw [up_ne e]
end LZ
