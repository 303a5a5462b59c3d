/-! THE MODEL: cuts; days ahead; ranges -/
set_option maxRecDepth 100000
def cutS (C : Nat → Int32) (p b : Nat) : Nat → Int32
  | 0 => nI 0
  | j + 1 => if hs (C (43 + p)) j = true ∧ ¬ C (49 + 8 * p + j) < C 4 ∧ hs (C (37 + b)) j = false then cutS C p b j ||| bt j else cutS C p b j
def cutR (C : Nat → Int32) (p : Nat) : Nat → Nat → Int32
  | 0 => C
  | j + 1 => if hs (C (43 + p)) j = true then up (cutR C p j) (49 + 8 * p + j) (nI 0) else cutR C p j
theorem cutR_eq {C : Nat → Int32} {p : Nat} : ∀ j i, (i < 49 + 8 * p ∨ 49 + 8 * p + j ≤ i) → cutR C p j i = C i := by
  intro j
  induction j with
  | zero => intro i _; rfl
  | succ j ih =>
    intro i hi
    rw [cutR]
    split
    · rw [up_ne (by omega)]; exact ih i (by omega)
    · exact ih i (by omega)
def cutE (S : Int32) (b : Nat) (E : Nat → Int32) : Nat → Nat → Int32 := fun j => itr (fun k D => if hs S k = true then mStrand D b k else D) j E
theorem cutE_fr {S : Int32} {b : Nat} {E : Nat → Int32} (hb : b < 6) : ∀ j, j ≤ 8 → Fr E (cutE S b E j) := by
  intro j
  induction j with
  | zero => intro _; exact Fr.rf
  | succ j ih =>
    intro hj
    refine (ih (by omega)).tr ?_
    show Fr _ (if hs S j = true then mStrand (cutE S b E j) b j else cutE S b E j)
    split
    · exact mStrand_fr hb (by omega)
    · exact Fr.rf
def mCutB (C : Nat → Int32) (p b : Nat) : Bool := decide (p ≠ b) && !decide (C (31 + b) = 0)
def mCutS (C : Nat → Int32) (W p b : Nat) : Int32 := cutS C p b W
def mCutE0 (C : Nat → Int32) (W p b : Nat) : Nat → Int32 := up (cutR C p W) (37 + b) (cutR C p W (37 + b) ||| cutS C p b W)
def mCutC (C : Nat → Int32) (W p b : Nat) : Nat → Int32 := up (cutE (mCutS C W p b) b (mCutE0 C W p b) W) 8 (cutE (mCutS C W p b) b (mCutE0 C W p b) W 8 + nI 1)
def mCutV (C : Nat → Int32) (W p b : Nat) : Int32 := if mCutB C p b then mCutS C W p b else -1
def mCut (C : Nat → Int32) (W p b : Nat) : Nat → Int32 := if mCutB C p b then mCutC C W p b else C
theorem mCutE0_fr {C : Nat → Int32} {W p b : Nat} (hW : W ≤ 8) (hp : p < 6) (hb : b < 6) : Fr C (mCutE0 C W p b) := by
  have h : Fr C (cutR C p W) := fun i hi => cutR_eq W i (by omega)
  exact h.up (by omega)
theorem mCut_fr {C : Nat → Int32} {W p b : Nat} (hW : W ≤ 8) (hp : p < 6) (hb : b < 6) : Fr C (mCut C W p b) := by
  unfold mCut
  split
  · exact ((mCutE0_fr hW hp hb).tr (cutE_fr hb W hW)).up (by omega)
  · exact Fr.rf
/-- the first n places of A, the rest of B -/
def cpN (n : Nat) (A B : Nat → Int32) : Nat → Int32 := fun k => if k < n then A k else B k
theorem cpN_0 {A B : Nat → Int32} : cpN 0 A B = B := by funext k; exact if_neg (Nat.not_lt_zero k)
theorem cpN_s {n : Nat} {A B : Nat → Int32} : up (cpN n A B) n (A n) = cpN (n + 1) A B := by
  funext k
  unfold up cpN
  by_cases h : k = n
  · subst h; rw [if_pos rfl, if_pos (by omega)]
  · rw [if_neg h]
    by_cases h2 : k < n
    · rw [if_pos h2, if_pos (by omega)]
    · rw [if_neg h2, if_neg (by omega)]
theorem cpN_back {n : Nat} {A B D : Nat → Int32} (h : ∀ k, n ≤ k → D k = A k) : cpN n (cpN n A B) D = A := by
  funext k
  unfold cpN
  by_cases hk : k < n
  · rw [if_pos hk, if_pos hk]
  · rw [if_neg hk]; exact h k (by omega)
section M4
variable {g : Gx} {l : Launch} {σ : Sg} {h : Nat} {ad : Nat → Nat} {C : Nat → Int32}
theorem m_cuts (H : Mo σ h ad) (hC : σ.2.1 (ad 20) = C) {W p b : Nat} (hW : C 0 = nI W) (hW8 : W ≤ 8) (hp : p < 6) (hb : b < 6) : Kd g l 2 MX9_cuts [.ref h, .int (nI p), .int (nI b)] σ (some (.int (mCutV C W p b))) (sU σ (ad 20) (mCut C W p b)) := by
  refine Kt.go (Y := MX9_cuts) (ls := [some (.ref h), some (.int (nI p)), some (.int (nI b)), none, none]) (by decide) (Nat.le_of_ble_eq_true rfl) rfl ?_
  refine j_iload_n dX9_cuts_0 rfl ?_
  refine j_iload_n dX9_cuts_1 rfl ?_
  first | (with_reducible refine j_gNN ?_; refine j_icmp_eqN (tgt := 17) dX9_cuts_2 (by decide) (by omega) (by omega) (fun c_2 => ?_) (fun c_2 => ?_)) | refine j_icmp_eq (tgt := 17) dX9_cuts_2 (by decide) (fun c_2 => ?_) (fun c_2 => ?_)
  · refine j_iconst (v := -1) dX9_cuts_17 (by decide +kernel) ?_
    refine j_iret dX9_cuts_18 ⟨_, rfl, rfl⟩ (by omega) (by omega) ?_
    have e : mCutB C p b = false := by first | simp [mCutB, c_2, c_14] | simp [mCutB, c_2]
    exact ⟨by rw [mCutV, e]; rfl, by rw [mCut, e, ← hC]; exact sU_self.symm⟩
  · first | refine j_aload_n dX9_cuts_5 rfl ?_ | refine j_aload_nN dX9_cuts_5 rfl ?_
    refine j_getR dX9_cuts_6 fl_X9_35 rfl (Mo.h H) (Mo.R H _ _ _ rfl) ?_
    refine j_bipush (v := nI 31) dX9_cuts_9 (by decide +kernel) ?_
    refine j_iload_n dX9_cuts_11 rfl ?_
    first | (with_reducible refine j_gNN ?_; refine j_iaddN dX9_cuts_12 ?_) | refine j_iadd dX9_cuts_12 ?_
    refine j_iald dX9_cuts_13 (Mo.S H _ _ _ rfl) rfl (by omega) (by decide) (by first | assumption | (rewrite [hC]; first | assumption | rfl) | rfl) ?_
    first | (with_reducible refine j_gB ?_; refine j_if_neB (tgt := 19) dX9_cuts_14 (by decide) (fun c_14 => ?_) (fun c_14 => ?_)) | (with_reducible refine j_gC ?_; refine j_if_neC (tgt := 19) dX9_cuts_14 (by decide) (fun c_14 => ?_) (fun c_14 => ?_)) | (with_reducible refine j_gN ?_; refine j_if_neN (tgt := 19) dX9_cuts_14 (by decide) (by omega) (fun c_14 => ?_) (fun c_14 => ?_)) | refine j_if_ne (tgt := 19) dX9_cuts_14 (by decide) (fun c_14 => ?_) (fun c_14 => ?_)
    · refine j_iconst (v := nI 0) dX9_cuts_19 (by decide +kernel) ?_
      refine j_istore_n dX9_cuts_20 (by decide) ?_
      refine j_iconst (v := nI 0) dX9_cuts_21 (by decide +kernel) ?_
      refine j_istore dX9_cuts_22 (by decide) ?_
      have eB : mCutB C p b = true := by
        unfold mCutB
        simp only [ne_eq, c_2, not_false_eq_true, decide_true, Bool.true_and, Bool.not_eq_true', decide_eq_false_iff_not]
        exact c_14
      have H0 := H
      have key2 : ∀ j, j ≤ W → ∀ D, D = cutE (mCutS C W p b) b (mCutE0 C W p b) j → Td g l 2 MX9_cuts [.ref h, .int (nI p), .int (nI b)] (sU σ (ad 20) (mCut C W p b)) (some (.int (mCutV C W p b))) 127 [some (.ref h), some (.int (nI p)), some (.int (nI b)), some (.int (mCutS C W p b)), some (.int (nI j))] [] (sU σ (ad 20) D) := by
        refine loop_up fun j hj ih => ?_
        intro D hD
        have H : Mo (sU σ (ad 20) D) h ad := H0
        have hC : (sU σ (ad 20) D).2.1 (ad 20) = D := sU_e
        have hF : Fr C D := by rw [hD]; exact (mCutE0_fr hW8 hp hb).tr (cutE_fr hb j (by omega))
        have hD0 := (hF 0 (by omega)).trans hW
        have hs1 : cutE (mCutS C W p b) b (mCutE0 C W p b) (j + 1) = if hs (mCutS C W p b) j = true then mStrand D b j else D := by rw [hD]; rfl
        refine j_iload dX9_cuts_127 rfl ?_
        first | refine j_aload_n dX9_cuts_129 rfl ?_ | refine j_aload_nN dX9_cuts_129 rfl ?_
        refine j_getR dX9_cuts_130 fl_X9_35 rfl (Mo.h H) (Mo.R H _ _ _ rfl) ?_
        refine j_iconst (v := nI 0) dX9_cuts_133 (by decide +kernel) ?_
        refine j_iald dX9_cuts_134 (Mo.S H _ _ _ rfl) rfl (by omega) (by decide) (by first | assumption | (rewrite [hC]; first | assumption | rfl) | rfl) ?_
        first | (with_reducible refine j_gNN ?_; refine j_icmp_geN (tgt := 160) dX9_cuts_135 (by decide) (by omega) (by omega) (fun c_135 => ?_) (fun c_135 => ?_)) | refine j_icmp_ge (tgt := 160) dX9_cuts_135 (by decide) (fun c_135 => ?_) (fun c_135 => ?_)
        · first | refine j_aload_n dX9_cuts_160 rfl ?_ | refine j_aload_nN dX9_cuts_160 rfl ?_
          refine j_getR dX9_cuts_161 fl_X9_35 rfl (Mo.h H) (Mo.R H _ _ _ rfl) ?_
          refine j_bipush (v := nI 8) dX9_cuts_164 (by decide +kernel) ?_
          refine j_dup2 dX9_cuts_166 rfl rfl ?_
          refine j_iald dX9_cuts_167 (Mo.S H _ _ _ rfl) rfl (by omega) (by decide) (by first | assumption | (rewrite [hC]; first | assumption | rfl) | rfl) ?_
          refine j_iconst (v := nI 1) dX9_cuts_168 (by decide +kernel) ?_
          first | (with_reducible refine j_gNN ?_; refine j_iaddN dX9_cuts_169 ?_) | refine j_iadd dX9_cuts_169 ?_
          refine j_iast dX9_cuts_170 (Mo.S H _ _ _ rfl) rfl (by omega) (by decide) ?_
          refine j_iload_n dX9_cuts_171 rfl ?_
          refine j_iret dX9_cuts_172 ⟨_, rfl, rfl⟩ (by omega) (by omega) ?_
          have e : j = W := by omega
          subst e
          refine ⟨by rw [mCutV, eB]; rfl, ?_⟩
          rw [mCut, eB, if_pos rfl, mCutC, sI_U, sU_U, sU_e, ← hD]
        · refine j_iload_n dX9_cuts_138 rfl ?_
          refine j_iload dX9_cuts_139 rfl ?_
          refine j_dS1 kl_X9_106 (k_has _ _ _ _ j) dX9_cuts_141 rfl rfl (Nat.le_of_ble_eq_true rfl) (by first | decide | omega) (by omega) (by omega) ?_
          first | (with_reducible refine j_gB ?_; refine j_if_eqB (tgt := 154) dX9_cuts_144 (by decide) (fun c_144 => ?_) (fun c_144 => ?_)) | (with_reducible refine j_gC ?_; refine j_if_eqC (tgt := 154) dX9_cuts_144 (by decide) (fun c_144 => ?_) (fun c_144 => ?_)) | (with_reducible refine j_gN ?_; refine j_if_eqN (tgt := 154) dX9_cuts_144 (by decide) (by omega) (fun c_144 => ?_) (fun c_144 => ?_)) | refine j_if_eq (tgt := 154) dX9_cuts_144 (by decide) (fun c_144 => ?_) (fun c_144 => ?_)
          · first | refine j_iincN dX9_cuts_154 rfl (by decide) ?_ | refine j_iinc dX9_cuts_154 rfl rfl (by decide) ?_
            refine j_goto (tgt := 127) dX9_cuts_157 (by decide) ?_
            first
            | exact ih (by omega) _ (by rw [hs1, c_144]; rfl)
            | exact j_eq rfl rfl sU_U (ih (by omega) _ (by rw [hs1, if_pos c_144]))
          · first | refine j_aload_n dX9_cuts_147 rfl ?_ | refine j_aload_nN dX9_cuts_147 rfl ?_
            refine j_iload_n dX9_cuts_148 rfl ?_
            refine j_iload dX9_cuts_149 rfl ?_
            refine j_dV0 kl_X9_384 (m_strandIs H hC hb (by omega)) dX9_cuts_151 rfl rfl (by decide) (Mo.h H) (Nat.le_of_ble_eq_true rfl) (by first | decide | omega) (by omega) (by omega) ?_
            first | refine j_iincN dX9_cuts_154 rfl (by decide) ?_ | refine j_iinc dX9_cuts_154 rfl rfl (by decide) ?_
            refine j_goto (tgt := 127) dX9_cuts_157 (by decide) ?_
            first
            | exact ih (by omega) _ (by rw [hs1, c_144]; rfl)
            | exact j_eq rfl rfl sU_U (ih (by omega) _ (by rw [hs1, if_pos c_144]))
      have key1 : ∀ j, j ≤ W → ∀ D, D = cutR C p j → Td g l 2 MX9_cuts [.ref h, .int (nI p), .int (nI b)] (sU σ (ad 20) (mCut C W p b)) (some (.int (mCutV C W p b))) 24 [some (.ref h), some (.int (nI p)), some (.int (nI b)), some (.int (cutS C p b j)), some (.int (nI j))] [] (sU σ (ad 20) D) := by
        refine loop_up fun j hj ih => ?_
        intro D hD
        have H : Mo (sU σ (ad 20) D) h ad := H0
        have hC : (sU σ (ad 20) D).2.1 (ad 20) = D := sU_e
        have hD0 : D 0 = nI W := by rw [hD, cutR_eq j 0 (by omega)]; exact hW
        have q4 : D 4 = C 4 := by rw [hD, cutR_eq j 4 (by omega)]
        have qk : D (43 + p) = C (43 + p) := by rw [hD, cutR_eq j _ (by omega)]
        have qn : D (37 + b) = C (37 + b) := by rw [hD, cutR_eq j _ (by omega)]
        have ql : D (49 + 8 * p + j) = C (49 + 8 * p + j) := by rw [hD, cutR_eq j _ (by omega)]
        refine j_iload dX9_cuts_24 rfl ?_
        first | refine j_aload_n dX9_cuts_26 rfl ?_ | refine j_aload_nN dX9_cuts_26 rfl ?_
        refine j_getR dX9_cuts_27 fl_X9_35 rfl (Mo.h H) (Mo.R H _ _ _ rfl) ?_
        refine j_iconst (v := nI 0) dX9_cuts_30 (by decide +kernel) ?_
        refine j_iald dX9_cuts_31 (Mo.S H _ _ _ rfl) rfl (by omega) (by decide) (by first | assumption | (rewrite [hC]; first | assumption | rfl) | rfl) ?_
        first | (with_reducible refine j_gNN ?_; refine j_icmp_geN (tgt := 111) dX9_cuts_32 (by decide) (by omega) (by omega) (fun c_32 => ?_) (fun c_32 => ?_)) | refine j_icmp_ge (tgt := 111) dX9_cuts_32 (by decide) (fun c_32 => ?_) (fun c_32 => ?_)
        · have e : j = W := by omega
          subst e
          first | refine j_aload_n dX9_cuts_111 rfl ?_ | refine j_aload_nN dX9_cuts_111 rfl ?_
          refine j_getR dX9_cuts_112 fl_X9_35 rfl (Mo.h H) (Mo.R H _ _ _ rfl) ?_
          refine j_bipush (v := nI 37) dX9_cuts_115 (by decide +kernel) ?_
          refine j_iload_n dX9_cuts_117 rfl ?_
          first | (with_reducible refine j_gNN ?_; refine j_iaddN dX9_cuts_118 ?_) | refine j_iadd dX9_cuts_118 ?_
          refine j_dup2 dX9_cuts_119 rfl rfl ?_
          refine j_iald dX9_cuts_120 (Mo.S H _ _ _ rfl) rfl (by omega) (by decide) (by first | assumption | (rewrite [hC]; first | assumption | rfl) | rfl) ?_
          refine j_iload_n dX9_cuts_121 rfl ?_
          refine j_ior dX9_cuts_122 ?_
          refine j_iast dX9_cuts_123 (Mo.S H _ _ _ rfl) rfl (by omega) (by decide) ?_
          refine j_iconst (v := nI 0) dX9_cuts_124 (by decide +kernel) ?_
          refine j_istore dX9_cuts_125 (by decide) ?_
          refine j_eq rfl rfl ?_ (key2 0 (by omega) (mCutE0 C j p b) rfl)
          rw [sU_I, mCutE0, ← hD, qn]
        · first | refine j_aload_n dX9_cuts_35 rfl ?_ | refine j_aload_nN dX9_cuts_35 rfl ?_
          refine j_iload_n dX9_cuts_36 rfl ?_
          refine j_iload dX9_cuts_37 rfl ?_
          refine j_dV1 kl_X9_317 (m_keeps H hC hp) dX9_cuts_39 rfl rfl (by decide) (Mo.h H) (Nat.le_of_ble_eq_true rfl) (by first | decide | omega) (by omega) (by omega) ?_
          rw [qk]
          first | (with_reducible refine j_gB ?_; refine j_if_neB (tgt := 48) dX9_cuts_42 (by decide) (fun c_42 => ?_) (fun c_42 => ?_)) | (with_reducible refine j_gC ?_; refine j_if_neC (tgt := 48) dX9_cuts_42 (by decide) (fun c_42 => ?_) (fun c_42 => ?_)) | (with_reducible refine j_gN ?_; refine j_if_neN (tgt := 48) dX9_cuts_42 (by decide) (by omega) (fun c_42 => ?_) (fun c_42 => ?_)) | refine j_if_ne (tgt := 48) dX9_cuts_42 (by decide) (fun c_42 => ?_) (fun c_42 => ?_)
          · first | refine j_aload_n dX9_cuts_48 rfl ?_ | refine j_aload_nN dX9_cuts_48 rfl ?_
            refine j_getR dX9_cuts_49 fl_X9_35 rfl (Mo.h H) (Mo.R H _ _ _ rfl) ?_
            refine j_bipush (v := nI 49) dX9_cuts_52 (by decide +kernel) ?_
            refine j_bipush (v := nI 8) dX9_cuts_54 (by decide +kernel) ?_
            refine j_iload_n dX9_cuts_56 rfl ?_
            first | (with_reducible refine j_gNN ?_; refine j_imulN dX9_cuts_57 ?_) | refine j_imul dX9_cuts_57 ?_
            first | (with_reducible refine j_gNN ?_; refine j_iaddN dX9_cuts_58 ?_) | refine j_iadd dX9_cuts_58 ?_
            refine j_iload dX9_cuts_59 rfl ?_
            first | (with_reducible refine j_gNN ?_; refine j_iaddN dX9_cuts_61 ?_) | refine j_iadd dX9_cuts_61 ?_
            refine j_iald dX9_cuts_62 (Mo.S H _ _ _ rfl) rfl (by omega) (by decide) (by first | assumption | (rewrite [hC]; first | assumption | rfl) | rfl) ?_
            first | refine j_aload_n dX9_cuts_63 rfl ?_ | refine j_aload_nN dX9_cuts_63 rfl ?_
            refine j_getR dX9_cuts_64 fl_X9_35 rfl (Mo.h H) (Mo.R H _ _ _ rfl) ?_
            refine j_iconst (v := nI 4) dX9_cuts_67 (by decide +kernel) ?_
            refine j_iald dX9_cuts_68 (Mo.S H _ _ _ rfl) rfl (by omega) (by decide) (by first | assumption | (rewrite [hC]; first | assumption | rfl) | rfl) ?_
            first | (with_reducible refine j_gNN ?_; refine j_icmp_ltN (tgt := 89) dX9_cuts_69 (by decide) (by omega) (by omega) (fun c_69 => ?_) (fun c_69 => ?_)) | refine j_icmp_lt (tgt := 89) dX9_cuts_69 (by decide) (fun c_69 => ?_) (fun c_69 => ?_)
            · have eR : cutR C p (j + 1) = up D (49 + 8 * p + j) (nI 0) := by rw [cutR, if_pos c_42, ← hD]
              first
              | (have eS : cutS C p b (j + 1) = cutS C p b j := by rw [cutS, if_neg (fun q => q.2.1 c_69)]
                 refine j_eq (ls' := [some (.ref h), some (.int (nI p)), some (.int (nI b)), some (.int (cutS C p b (j + 1))), some (.int (nI j))]) (by rw [eS]) rfl rfl ?_
                 first | refine j_aload_n dX9_cuts_89 rfl ?_ | refine j_aload_nN dX9_cuts_89 rfl ?_
                 refine j_getR dX9_cuts_90 fl_X9_35 rfl (Mo.h H) (Mo.R H _ _ _ rfl) ?_
                 refine j_bipush (v := nI 49) dX9_cuts_93 (by decide +kernel) ?_
                 refine j_bipush (v := nI 8) dX9_cuts_95 (by decide +kernel) ?_
                 refine j_iload_n dX9_cuts_97 rfl ?_
                 first | (with_reducible refine j_gNN ?_; refine j_imulN dX9_cuts_98 ?_) | refine j_imul dX9_cuts_98 ?_
                 first | (with_reducible refine j_gNN ?_; refine j_iaddN dX9_cuts_99 ?_) | refine j_iadd dX9_cuts_99 ?_
                 refine j_iload dX9_cuts_100 rfl ?_
                 first | (with_reducible refine j_gNN ?_; refine j_iaddN dX9_cuts_102 ?_) | refine j_iadd dX9_cuts_102 ?_
                 refine j_iconst (v := nI 0) dX9_cuts_103 (by decide +kernel) ?_
                 refine j_iast dX9_cuts_104 (Mo.S H _ _ _ rfl) rfl (by omega) (by decide) ?_
                 first | refine j_iincN dX9_cuts_105 rfl (by decide) ?_ | refine j_iinc dX9_cuts_105 rfl rfl (by decide) ?_
                 refine j_goto (tgt := 24) dX9_cuts_108 (by decide) ?_
                 exact j_eq rfl rfl sU_I (ih (by omega) _ eR.symm)
                 )
              | (have eS : cutS C p b (j + 1) = cutS C p b j := by rw [cutS, if_neg (fun q => by rw [c_79] at q; exact absurd q.2.2 (by decide))]
                 refine j_eq (ls' := [some (.ref h), some (.int (nI p)), some (.int (nI b)), some (.int (cutS C p b (j + 1))), some (.int (nI j))]) (by rw [eS]) rfl rfl ?_
                 first | refine j_aload_n dX9_cuts_89 rfl ?_ | refine j_aload_nN dX9_cuts_89 rfl ?_
                 refine j_getR dX9_cuts_90 fl_X9_35 rfl (Mo.h H) (Mo.R H _ _ _ rfl) ?_
                 refine j_bipush (v := nI 49) dX9_cuts_93 (by decide +kernel) ?_
                 refine j_bipush (v := nI 8) dX9_cuts_95 (by decide +kernel) ?_
                 refine j_iload_n dX9_cuts_97 rfl ?_
                 first | (with_reducible refine j_gNN ?_; refine j_imulN dX9_cuts_98 ?_) | refine j_imul dX9_cuts_98 ?_
                 first | (with_reducible refine j_gNN ?_; refine j_iaddN dX9_cuts_99 ?_) | refine j_iadd dX9_cuts_99 ?_
                 refine j_iload dX9_cuts_100 rfl ?_
                 first | (with_reducible refine j_gNN ?_; refine j_iaddN dX9_cuts_102 ?_) | refine j_iadd dX9_cuts_102 ?_
                 refine j_iconst (v := nI 0) dX9_cuts_103 (by decide +kernel) ?_
                 refine j_iast dX9_cuts_104 (Mo.S H _ _ _ rfl) rfl (by omega) (by decide) ?_
                 first | refine j_iincN dX9_cuts_105 rfl (by decide) ?_ | refine j_iinc dX9_cuts_105 rfl rfl (by decide) ?_
                 refine j_goto (tgt := 24) dX9_cuts_108 (by decide) ?_
                 exact j_eq rfl rfl sU_I (ih (by omega) _ eR.symm)
                 )
              | (have eS : cutS C p b (j + 1) = cutS C p b j ||| bt j := by rw [cutS, if_pos ⟨c_42, c_69, c_79⟩]
                 refine j_eq (ls' := [some (.ref h), some (.int (nI p)), some (.int (nI b)), some (.int (cutS C p b (j + 1))), some (.int (nI j))]) (by rw [eS]; rfl) rfl rfl ?_
                 first | refine j_aload_n dX9_cuts_89 rfl ?_ | refine j_aload_nN dX9_cuts_89 rfl ?_
                 refine j_getR dX9_cuts_90 fl_X9_35 rfl (Mo.h H) (Mo.R H _ _ _ rfl) ?_
                 refine j_bipush (v := nI 49) dX9_cuts_93 (by decide +kernel) ?_
                 refine j_bipush (v := nI 8) dX9_cuts_95 (by decide +kernel) ?_
                 refine j_iload_n dX9_cuts_97 rfl ?_
                 first | (with_reducible refine j_gNN ?_; refine j_imulN dX9_cuts_98 ?_) | refine j_imul dX9_cuts_98 ?_
                 first | (with_reducible refine j_gNN ?_; refine j_iaddN dX9_cuts_99 ?_) | refine j_iadd dX9_cuts_99 ?_
                 refine j_iload dX9_cuts_100 rfl ?_
                 first | (with_reducible refine j_gNN ?_; refine j_iaddN dX9_cuts_102 ?_) | refine j_iadd dX9_cuts_102 ?_
                 refine j_iconst (v := nI 0) dX9_cuts_103 (by decide +kernel) ?_
                 refine j_iast dX9_cuts_104 (Mo.S H _ _ _ rfl) rfl (by omega) (by decide) ?_
                 first | refine j_iincN dX9_cuts_105 rfl (by decide) ?_ | refine j_iinc dX9_cuts_105 rfl rfl (by decide) ?_
                 refine j_goto (tgt := 24) dX9_cuts_108 (by decide) ?_
                 exact j_eq rfl rfl sU_I (ih (by omega) _ eR.symm)
                 )
            · first | refine j_aload_n dX9_cuts_72 rfl ?_ | refine j_aload_nN dX9_cuts_72 rfl ?_
              refine j_iload_n dX9_cuts_73 rfl ?_
              refine j_iload dX9_cuts_74 rfl ?_
              refine j_dV1 kl_X9_366 (m_knows H hC hb) dX9_cuts_76 rfl rfl (by decide) (Mo.h H) (Nat.le_of_ble_eq_true rfl) (by first | decide | omega) (by omega) (by omega) ?_
              rw [qn]
              first | (with_reducible refine j_gB ?_; refine j_if_neB (tgt := 89) dX9_cuts_79 (by decide) (fun c_79 => ?_) (fun c_79 => ?_)) | (with_reducible refine j_gC ?_; refine j_if_neC (tgt := 89) dX9_cuts_79 (by decide) (fun c_79 => ?_) (fun c_79 => ?_)) | (with_reducible refine j_gN ?_; refine j_if_neN (tgt := 89) dX9_cuts_79 (by decide) (by omega) (fun c_79 => ?_) (fun c_79 => ?_)) | refine j_if_ne (tgt := 89) dX9_cuts_79 (by decide) (fun c_79 => ?_) (fun c_79 => ?_)
              · have eR : cutR C p (j + 1) = up D (49 + 8 * p + j) (nI 0) := by rw [cutR, if_pos c_42, ← hD]
                first
                | (have eS : cutS C p b (j + 1) = cutS C p b j := by rw [cutS, if_neg (fun q => q.2.1 c_69)]
                   refine j_eq (ls' := [some (.ref h), some (.int (nI p)), some (.int (nI b)), some (.int (cutS C p b (j + 1))), some (.int (nI j))]) (by rw [eS]) rfl rfl ?_
                   first | refine j_aload_n dX9_cuts_89 rfl ?_ | refine j_aload_nN dX9_cuts_89 rfl ?_
                   refine j_getR dX9_cuts_90 fl_X9_35 rfl (Mo.h H) (Mo.R H _ _ _ rfl) ?_
                   refine j_bipush (v := nI 49) dX9_cuts_93 (by decide +kernel) ?_
                   refine j_bipush (v := nI 8) dX9_cuts_95 (by decide +kernel) ?_
                   refine j_iload_n dX9_cuts_97 rfl ?_
                   first | (with_reducible refine j_gNN ?_; refine j_imulN dX9_cuts_98 ?_) | refine j_imul dX9_cuts_98 ?_
                   first | (with_reducible refine j_gNN ?_; refine j_iaddN dX9_cuts_99 ?_) | refine j_iadd dX9_cuts_99 ?_
                   refine j_iload dX9_cuts_100 rfl ?_
                   first | (with_reducible refine j_gNN ?_; refine j_iaddN dX9_cuts_102 ?_) | refine j_iadd dX9_cuts_102 ?_
                   refine j_iconst (v := nI 0) dX9_cuts_103 (by decide +kernel) ?_
                   refine j_iast dX9_cuts_104 (Mo.S H _ _ _ rfl) rfl (by omega) (by decide) ?_
                   first | refine j_iincN dX9_cuts_105 rfl (by decide) ?_ | refine j_iinc dX9_cuts_105 rfl rfl (by decide) ?_
                   refine j_goto (tgt := 24) dX9_cuts_108 (by decide) ?_
                   exact j_eq rfl rfl sU_I (ih (by omega) _ eR.symm)
                   )
                | (have eS : cutS C p b (j + 1) = cutS C p b j := by rw [cutS, if_neg (fun q => by rw [c_79] at q; exact absurd q.2.2 (by decide))]
                   refine j_eq (ls' := [some (.ref h), some (.int (nI p)), some (.int (nI b)), some (.int (cutS C p b (j + 1))), some (.int (nI j))]) (by rw [eS]) rfl rfl ?_
                   first | refine j_aload_n dX9_cuts_89 rfl ?_ | refine j_aload_nN dX9_cuts_89 rfl ?_
                   refine j_getR dX9_cuts_90 fl_X9_35 rfl (Mo.h H) (Mo.R H _ _ _ rfl) ?_
                   refine j_bipush (v := nI 49) dX9_cuts_93 (by decide +kernel) ?_
                   refine j_bipush (v := nI 8) dX9_cuts_95 (by decide +kernel) ?_
                   refine j_iload_n dX9_cuts_97 rfl ?_
                   first | (with_reducible refine j_gNN ?_; refine j_imulN dX9_cuts_98 ?_) | refine j_imul dX9_cuts_98 ?_
                   first | (with_reducible refine j_gNN ?_; refine j_iaddN dX9_cuts_99 ?_) | refine j_iadd dX9_cuts_99 ?_
                   refine j_iload dX9_cuts_100 rfl ?_
                   first | (with_reducible refine j_gNN ?_; refine j_iaddN dX9_cuts_102 ?_) | refine j_iadd dX9_cuts_102 ?_
                   refine j_iconst (v := nI 0) dX9_cuts_103 (by decide +kernel) ?_
                   refine j_iast dX9_cuts_104 (Mo.S H _ _ _ rfl) rfl (by omega) (by decide) ?_
                   first | refine j_iincN dX9_cuts_105 rfl (by decide) ?_ | refine j_iinc dX9_cuts_105 rfl rfl (by decide) ?_
                   refine j_goto (tgt := 24) dX9_cuts_108 (by decide) ?_
                   exact j_eq rfl rfl sU_I (ih (by omega) _ eR.symm)
                   )
                | (have eS : cutS C p b (j + 1) = cutS C p b j ||| bt j := by rw [cutS, if_pos ⟨c_42, c_69, c_79⟩]
                   refine j_eq (ls' := [some (.ref h), some (.int (nI p)), some (.int (nI b)), some (.int (cutS C p b (j + 1))), some (.int (nI j))]) (by rw [eS]; rfl) rfl rfl ?_
                   first | refine j_aload_n dX9_cuts_89 rfl ?_ | refine j_aload_nN dX9_cuts_89 rfl ?_
                   refine j_getR dX9_cuts_90 fl_X9_35 rfl (Mo.h H) (Mo.R H _ _ _ rfl) ?_
                   refine j_bipush (v := nI 49) dX9_cuts_93 (by decide +kernel) ?_
                   refine j_bipush (v := nI 8) dX9_cuts_95 (by decide +kernel) ?_
                   refine j_iload_n dX9_cuts_97 rfl ?_
                   first | (with_reducible refine j_gNN ?_; refine j_imulN dX9_cuts_98 ?_) | refine j_imul dX9_cuts_98 ?_
                   first | (with_reducible refine j_gNN ?_; refine j_iaddN dX9_cuts_99 ?_) | refine j_iadd dX9_cuts_99 ?_
                   refine j_iload dX9_cuts_100 rfl ?_
                   first | (with_reducible refine j_gNN ?_; refine j_iaddN dX9_cuts_102 ?_) | refine j_iadd dX9_cuts_102 ?_
                   refine j_iconst (v := nI 0) dX9_cuts_103 (by decide +kernel) ?_
                   refine j_iast dX9_cuts_104 (Mo.S H _ _ _ rfl) rfl (by omega) (by decide) ?_
                   first | refine j_iincN dX9_cuts_105 rfl (by decide) ?_ | refine j_iinc dX9_cuts_105 rfl rfl (by decide) ?_
                   refine j_goto (tgt := 24) dX9_cuts_108 (by decide) ?_
                   exact j_eq rfl rfl sU_I (ih (by omega) _ eR.symm)
                   )
              · refine j_iload_n dX9_cuts_82 rfl ?_
                refine j_iconst (v := nI 1) dX9_cuts_83 (by decide +kernel) ?_
                refine j_iload dX9_cuts_84 rfl ?_
                refine j_ishl dX9_cuts_86 ?_
                refine j_ior dX9_cuts_87 ?_
                refine j_istore_n dX9_cuts_88 (by decide) ?_
                have eR : cutR C p (j + 1) = up D (49 + 8 * p + j) (nI 0) := by rw [cutR, if_pos c_42, ← hD]
                first
                | (have eS : cutS C p b (j + 1) = cutS C p b j := by rw [cutS, if_neg (fun q => q.2.1 c_69)]
                   refine j_eq (ls' := [some (.ref h), some (.int (nI p)), some (.int (nI b)), some (.int (cutS C p b (j + 1))), some (.int (nI j))]) (by rw [eS]) rfl rfl ?_
                   first | refine j_aload_n dX9_cuts_89 rfl ?_ | refine j_aload_nN dX9_cuts_89 rfl ?_
                   refine j_getR dX9_cuts_90 fl_X9_35 rfl (Mo.h H) (Mo.R H _ _ _ rfl) ?_
                   refine j_bipush (v := nI 49) dX9_cuts_93 (by decide +kernel) ?_
                   refine j_bipush (v := nI 8) dX9_cuts_95 (by decide +kernel) ?_
                   refine j_iload_n dX9_cuts_97 rfl ?_
                   first | (with_reducible refine j_gNN ?_; refine j_imulN dX9_cuts_98 ?_) | refine j_imul dX9_cuts_98 ?_
                   first | (with_reducible refine j_gNN ?_; refine j_iaddN dX9_cuts_99 ?_) | refine j_iadd dX9_cuts_99 ?_
                   refine j_iload dX9_cuts_100 rfl ?_
                   first | (with_reducible refine j_gNN ?_; refine j_iaddN dX9_cuts_102 ?_) | refine j_iadd dX9_cuts_102 ?_
                   refine j_iconst (v := nI 0) dX9_cuts_103 (by decide +kernel) ?_
                   refine j_iast dX9_cuts_104 (Mo.S H _ _ _ rfl) rfl (by omega) (by decide) ?_
                   first | refine j_iincN dX9_cuts_105 rfl (by decide) ?_ | refine j_iinc dX9_cuts_105 rfl rfl (by decide) ?_
                   refine j_goto (tgt := 24) dX9_cuts_108 (by decide) ?_
                   exact j_eq rfl rfl sU_I (ih (by omega) _ eR.symm)
                   )
                | (have eS : cutS C p b (j + 1) = cutS C p b j := by rw [cutS, if_neg (fun q => by rw [c_79] at q; exact absurd q.2.2 (by decide))]
                   refine j_eq (ls' := [some (.ref h), some (.int (nI p)), some (.int (nI b)), some (.int (cutS C p b (j + 1))), some (.int (nI j))]) (by rw [eS]) rfl rfl ?_
                   first | refine j_aload_n dX9_cuts_89 rfl ?_ | refine j_aload_nN dX9_cuts_89 rfl ?_
                   refine j_getR dX9_cuts_90 fl_X9_35 rfl (Mo.h H) (Mo.R H _ _ _ rfl) ?_
                   refine j_bipush (v := nI 49) dX9_cuts_93 (by decide +kernel) ?_
                   refine j_bipush (v := nI 8) dX9_cuts_95 (by decide +kernel) ?_
                   refine j_iload_n dX9_cuts_97 rfl ?_
                   first | (with_reducible refine j_gNN ?_; refine j_imulN dX9_cuts_98 ?_) | refine j_imul dX9_cuts_98 ?_
                   first | (with_reducible refine j_gNN ?_; refine j_iaddN dX9_cuts_99 ?_) | refine j_iadd dX9_cuts_99 ?_
                   refine j_iload dX9_cuts_100 rfl ?_
                   first | (with_reducible refine j_gNN ?_; refine j_iaddN dX9_cuts_102 ?_) | refine j_iadd dX9_cuts_102 ?_
                   refine j_iconst (v := nI 0) dX9_cuts_103 (by decide +kernel) ?_
                   refine j_iast dX9_cuts_104 (Mo.S H _ _ _ rfl) rfl (by omega) (by decide) ?_
                   first | refine j_iincN dX9_cuts_105 rfl (by decide) ?_ | refine j_iinc dX9_cuts_105 rfl rfl (by decide) ?_
                   refine j_goto (tgt := 24) dX9_cuts_108 (by decide) ?_
                   exact j_eq rfl rfl sU_I (ih (by omega) _ eR.symm)
                   )
                | (have eS : cutS C p b (j + 1) = cutS C p b j ||| bt j := by rw [cutS, if_pos ⟨c_42, c_69, c_79⟩]
                   refine j_eq (ls' := [some (.ref h), some (.int (nI p)), some (.int (nI b)), some (.int (cutS C p b (j + 1))), some (.int (nI j))]) (by rw [eS]; rfl) rfl rfl ?_
                   first | refine j_aload_n dX9_cuts_89 rfl ?_ | refine j_aload_nN dX9_cuts_89 rfl ?_
                   refine j_getR dX9_cuts_90 fl_X9_35 rfl (Mo.h H) (Mo.R H _ _ _ rfl) ?_
                   refine j_bipush (v := nI 49) dX9_cuts_93 (by decide +kernel) ?_
                   refine j_bipush (v := nI 8) dX9_cuts_95 (by decide +kernel) ?_
                   refine j_iload_n dX9_cuts_97 rfl ?_
                   first | (with_reducible refine j_gNN ?_; refine j_imulN dX9_cuts_98 ?_) | refine j_imul dX9_cuts_98 ?_
                   first | (with_reducible refine j_gNN ?_; refine j_iaddN dX9_cuts_99 ?_) | refine j_iadd dX9_cuts_99 ?_
                   refine j_iload dX9_cuts_100 rfl ?_
                   first | (with_reducible refine j_gNN ?_; refine j_iaddN dX9_cuts_102 ?_) | refine j_iadd dX9_cuts_102 ?_
                   refine j_iconst (v := nI 0) dX9_cuts_103 (by decide +kernel) ?_
                   refine j_iast dX9_cuts_104 (Mo.S H _ _ _ rfl) rfl (by omega) (by decide) ?_
                   first | refine j_iincN dX9_cuts_105 rfl (by decide) ?_ | refine j_iinc dX9_cuts_105 rfl rfl (by decide) ?_
                   refine j_goto (tgt := 24) dX9_cuts_108 (by decide) ?_
                   exact j_eq rfl rfl sU_I (ih (by omega) _ eR.symm)
                   )
          · refine j_goto (tgt := 105) dX9_cuts_45 (by decide) ?_
            first | refine j_iincN dX9_cuts_105 rfl (by decide) ?_ | refine j_iinc dX9_cuts_105 rfl rfl (by decide) ?_
            refine j_goto (tgt := 24) dX9_cuts_108 (by decide) ?_
            exact j_eq (by rw [cutS, if_neg (by simp [c_42])]; rfl) rfl rfl (ih (by omega) _ (by rw [cutR, if_neg (by simp [c_42])]; exact hD))
      exact j_eq rfl rfl (by rw [← hC]; exact sU_self.symm) (key1 0 (by omega) _ rfl)
    · refine j_iconst (v := -1) dX9_cuts_17 (by decide +kernel) ?_
      refine j_iret dX9_cuts_18 ⟨_, rfl, rfl⟩ (by omega) (by omega) ?_
      have e : mCutB C p b = false := by first | simp [mCutB, c_2, c_14] | simp [mCutB, c_2]
      exact ⟨by rw [mCutV, e]; rfl, by rw [mCut, e, ← hC]; exact sU_self.symm⟩
theorem m_puts (H : Mo σ h ad) (hC : σ.2.1 (ad 20) = C) {A : Nat → Int32} (hA : σ.2.1 (ad 21) = A) : Kd g l 0 MX9_puts [.ref h] σ none (sU σ (ad 21) (cpN 175 C A)) := by
  have ne : ad 20 ≠ ad 21 := Mo.ne H (by decide) (by decide) (by decide)
  refine Kt.go (Y := MX9_puts) (ls := [some (.ref h), none]) (by decide) (Nat.le_of_ble_eq_true rfl) rfl ?_
  have key : ∀ j, j ≤ 175 → ∀ D, D = cpN j C A → Td g l 0 MX9_puts [.ref h] (sU σ (ad 21) (cpN 175 C A)) none 2 [some (.ref h), some (.int (nI j))] [] (sU σ (ad 21) D) := by
    refine loop_up fun j hj ih => ?_
    intro D hD
    have H0 := H
    have H : Mo (sU σ (ad 21) D) h ad := H0
    have hC0 := hC
    have hC : (sU σ (ad 21) D).2.1 (ad 20) = C := (sU_n ne).trans hC0
    refine j_iload_n dX9_puts_2 rfl ?_
    refine j_sipush (v := nI 175) dX9_puts_3 (by decide +kernel) ?_
    first | (with_reducible refine j_gNN ?_; refine j_icmp_geN (tgt := 27) dX9_puts_6 (by decide) (by omega) (by omega) (fun c_6 => ?_) (fun c_6 => ?_)) | refine j_icmp_ge (tgt := 27) dX9_puts_6 (by decide) (fun c_6 => ?_) (fun c_6 => ?_)
    · refine j_vret dX9_puts_27 rfl (by omega) (by omega) ?_
      exact ⟨rfl, by rw [hD, show j = 175 by omega]⟩
    · first | refine j_aload_n dX9_puts_9 rfl ?_ | refine j_aload_nN dX9_puts_9 rfl ?_
      refine j_getR dX9_puts_10 fl_X9_38 rfl (Mo.h H) (Mo.R H _ _ _ rfl) ?_
      refine j_iload_n dX9_puts_13 rfl ?_
      first | refine j_aload_n dX9_puts_14 rfl ?_ | refine j_aload_nN dX9_puts_14 rfl ?_
      refine j_getR dX9_puts_15 fl_X9_35 rfl (Mo.h H) (Mo.R H _ _ _ rfl) ?_
      refine j_iload_n dX9_puts_18 rfl ?_
      refine j_iald dX9_puts_19 (Mo.S H _ _ _ rfl) rfl (by omega) (by decide) (by first | assumption | (rewrite [hC]; first | assumption | rfl) | rfl) ?_
      refine j_iast dX9_puts_20 (Mo.S H _ _ _ rfl) rfl (by omega) (by decide) ?_
      first | refine j_iincN dX9_puts_21 rfl (by decide) ?_ | refine j_iinc dX9_puts_21 rfl rfl (by decide) ?_
      refine j_goto (tgt := 2) dX9_puts_24 (by decide) ?_
      exact j_eq rfl rfl sU_I (ih (by omega) _ (by rw [hD]; exact cpN_s))
  refine j_iconst (v := nI 0) dX9_puts_0 (by decide +kernel) ?_
  refine j_istore_n dX9_puts_1 (by decide) ?_
  exact j_eq rfl rfl (by rw [cpN_0, ← hA]; exact sU_self.symm) (key 0 (by omega) _ rfl)
theorem m_givesB (H : Mo σ h ad) (hC : σ.2.1 (ad 20) = C) {A : Nat → Int32} (hA : σ.2.1 (ad 21) = A) : Kd g l 0 MX9_gives [.ref h] σ none (sU σ (ad 20) (cpN 175 A C)) := by
  have ne : ad 21 ≠ ad 20 := Mo.ne H (by decide) (by decide) (by decide)
  refine Kt.go (Y := MX9_gives) (ls := [some (.ref h), none]) (by decide) (Nat.le_of_ble_eq_true rfl) rfl ?_
  have key : ∀ j, j ≤ 175 → ∀ D, D = cpN j A C → Td g l 0 MX9_gives [.ref h] (sU σ (ad 20) (cpN 175 A C)) none 2 [some (.ref h), some (.int (nI j))] [] (sU σ (ad 20) D) := by
    refine loop_up fun j hj ih => ?_
    intro D hD
    have H0 := H
    have H : Mo (sU σ (ad 20) D) h ad := H0
    have hC0 := hC
    have hC : (sU σ (ad 20) D).2.1 (ad 21) = A := (sU_n ne).trans hA
    refine j_iload_n dX9_gives_2 rfl ?_
    refine j_sipush (v := nI 175) dX9_gives_3 (by decide +kernel) ?_
    first | (with_reducible refine j_gNN ?_; refine j_icmp_geN (tgt := 27) dX9_gives_6 (by decide) (by omega) (by omega) (fun c_6 => ?_) (fun c_6 => ?_)) | refine j_icmp_ge (tgt := 27) dX9_gives_6 (by decide) (fun c_6 => ?_) (fun c_6 => ?_)
    · refine j_vret dX9_gives_27 rfl (by omega) (by omega) ?_
      exact ⟨rfl, by rw [hD, show j = 175 by omega]⟩
    · first | refine j_aload_n dX9_gives_9 rfl ?_ | refine j_aload_nN dX9_gives_9 rfl ?_
      refine j_getR dX9_gives_10 fl_X9_35 rfl (Mo.h H) (Mo.R H _ _ _ rfl) ?_
      refine j_iload_n dX9_gives_13 rfl ?_
      first | refine j_aload_n dX9_gives_14 rfl ?_ | refine j_aload_nN dX9_gives_14 rfl ?_
      refine j_getR dX9_gives_15 fl_X9_38 rfl (Mo.h H) (Mo.R H _ _ _ rfl) ?_
      refine j_iload_n dX9_gives_18 rfl ?_
      refine j_iald dX9_gives_19 (Mo.S H _ _ _ rfl) rfl (by omega) (by decide) (by first | assumption | (rewrite [hC]; first | assumption | rfl) | rfl) ?_
      refine j_iast dX9_gives_20 (Mo.S H _ _ _ rfl) rfl (by omega) (by decide) ?_
      first | refine j_iincN dX9_gives_21 rfl (by decide) ?_ | refine j_iinc dX9_gives_21 rfl rfl (by decide) ?_
      refine j_goto (tgt := 2) dX9_gives_24 (by decide) ?_
      exact j_eq rfl rfl sU_I (ih (by omega) _ (by rw [hD]; exact cpN_s))
  refine j_iconst (v := nI 0) dX9_gives_0 (by decide +kernel) ?_
  refine j_istore_n dX9_gives_1 (by decide) ?_
  exact j_eq rfl rfl (by rw [cpN_0, ← hC]; exact sU_self.symm) (key 0 (by omega) _ rfl)
/-- days, and how many words are said in them -/
def mDaysS (W P Dn : Nat) (C : Nat → Int32) : Nat → Int32 × (Nat → Int32) := fun n => itr (fun _ s => (s.1 + mDayN s.2 W P Dn, mDay s.2 W P Dn)) n (nI 0, C)
def mDays (C : Nat → Int32) (W P Dn n : Nat) : Nat → Int32 := (mDaysS W P Dn C n).2
theorem mDays_fr {C : Nat → Int32} {W P Dn : Nat} (hw : Wd C W P Dn) : ∀ n, Fr C (mDays C W P Dn n) := by
  intro n
  induction n with
  | zero => exact Fr.rf
  | succ n ih => exact ih.tr (mDay_fr (hw.fr ih))
theorem m_goesAhead (H : Mo σ h ad) (hC : σ.2.1 (ad 20) = C) {A : Nat → Int32} (hA : σ.2.1 (ad 21) = A) {W P Dn n : Nat} (hn : n < 1000) (hw : Wd C W P Dn) : Kd g l 5 MX9_goesAhead [.ref h, .int (nI n)] σ none (sU (sU σ (ad 21) (cpN 175 C A)) (ad 20) (mDays C W P Dn n)) := by
  have ne : ad 20 ≠ ad 21 := Mo.ne H (by decide) (by decide) (by decide)
  refine Kt.go (Y := MX9_goesAhead) (ls := [some (.ref h), some (.int (nI n)), none]) (by decide) (Nat.le_of_ble_eq_true rfl) rfl ?_
  have key : ∀ j, j ≤ n → ∀ D, D = mDays C W P Dn j → Td g l 5 MX9_goesAhead [.ref h, .int (nI n)] (sU (sU σ (ad 21) (cpN 175 C A)) (ad 20) (mDays C W P Dn n)) none 6 [some (.ref h), some (.int (nI n)), some (.int (nI j))] [] (sU (sU σ (ad 21) (cpN 175 C A)) (ad 20) D) := by
    refine loop_up fun j hj ih => ?_
    intro D hD
    have H0 := H
    have H : Mo (sU (sU σ (ad 21) (cpN 175 C A)) (ad 20) D) h ad := H0
    have hC : (sU (sU σ (ad 21) (cpN 175 C A)) (ad 20) D).2.1 (ad 20) = D := sU_e
    have hw2 : Wd D W P Dn := by rw [hD]; exact hw.fr (mDays_fr hw j)
    refine j_iload_n dX9_goesAhead_6 rfl ?_
    refine j_iload_n dX9_goesAhead_7 rfl ?_
    first | (with_reducible refine j_gNN ?_; refine j_icmp_geN (tgt := 22) dX9_goesAhead_8 (by decide) (by omega) (by omega) (fun c_8 => ?_) (fun c_8 => ?_)) | refine j_icmp_ge (tgt := 22) dX9_goesAhead_8 (by decide) (fun c_8 => ?_) (fun c_8 => ?_)
    · refine j_vret dX9_goesAhead_22 rfl (by omega) (by omega) ?_
      exact ⟨rfl, by rw [hD, show j = n by omega]⟩
    · first | refine j_aload_n dX9_goesAhead_11 rfl ?_ | refine j_aload_nN dX9_goesAhead_11 rfl ?_
      refine j_dV1 kl_X9_381 (m_goesDay H hC hw2) dX9_goesAhead_12 rfl rfl (by decide) (Mo.h H) (Nat.le_of_ble_eq_true rfl) (by first | decide | omega) (by omega) (by omega) ?_
      rw [sU_U]
      refine j_pop dX9_goesAhead_15 rfl ?_
      first | refine j_iincN dX9_goesAhead_16 rfl (by decide) ?_ | refine j_iinc dX9_goesAhead_16 rfl rfl (by decide) ?_
      refine j_goto (tgt := 6) dX9_goesAhead_19 (by decide) ?_
      exact ih (by omega) _ (by rw [hD]; rfl)
  first | refine j_aload_n dX9_goesAhead_0 rfl ?_ | refine j_aload_nN dX9_goesAhead_0 rfl ?_
  refine j_dV0 kl_X9_406 (m_puts H hC hA) dX9_goesAhead_1 rfl rfl (by decide) (Mo.h H) (Nat.le_of_ble_eq_true rfl) (by first | decide | omega) (by omega) (by omega) ?_
  refine j_iconst (v := nI 0) dX9_goesAhead_4 (by decide +kernel) ?_
  refine j_istore_n dX9_goesAhead_5 (by decide) ?_
  exact j_eq rfl rfl (by rw [show mDays C W P Dn 0 = (sU σ (ad 21) (cpN 175 C A)).2.1 (ad 20) from ((sU_n ne).trans hC).symm]; exact sU_self.symm) (key 0 (by omega) _ rfl)
theorem m_isAhead (n : Int32) : Kd g l 1 MX9_isAhead [.int n] σ (some (.int (bI (inL n.toInt64 0 200)))) σ := by
  refine Kt.go (Y := MX9_isAhead) (ls := [some (.int n)]) (by decide) (Nat.le_of_ble_eq_true rfl) rfl ?_
  refine j_iload_n dX9_isAhead_0 rfl ?_
  refine j_i2l dX9_isAhead_1 ?_
  refine j_lconst (v := 0) dX9_isAhead_2 (by decide +kernel) ?_
  refine j_ldc2 (v := 200) dX9_isAhead_3 q2179 ?_
  refine j_dS1 kl_X9_102 (k_inL _ _ _) dX9_isAhead_6 rfl rfl (Nat.le_of_ble_eq_true rfl) (by first | decide | omega) (by omega) (by omega) ?_
  refine j_iret dX9_isAhead_9 ⟨_, rfl, bI_nar _⟩ (by omega) (by omega) ?_
  exact ⟨rfl, rfl⟩
theorem m_isPersonAt (H : Mo σ h ad) (hC : σ.2.1 (ad 20) = C) {P : Nat} (hP : C 1 = nI P) (hP6 : P ≤ 6) (p : Int32) : Kd g l 1 MX9_isPersonAt [.ref h, .int p] σ (some (.int (bI (okN p P)))) σ := by
  rw [← inL_n (by omega)]
  refine Kt.go (Y := MX9_isPersonAt) (ls := [some (.ref h), some (.int p)]) (by decide) (Nat.le_of_ble_eq_true rfl) rfl ?_
  refine j_iload_n dX9_isPersonAt_0 rfl ?_
  refine j_i2l dX9_isPersonAt_1 ?_
  refine j_lconst (v := 0) dX9_isPersonAt_2 (by decide +kernel) ?_
  first | refine j_aload_n dX9_isPersonAt_3 rfl ?_ | refine j_aload_nN dX9_isPersonAt_3 rfl ?_
  refine j_getR dX9_isPersonAt_4 fl_X9_35 rfl (Mo.h H) (Mo.R H _ _ _ rfl) ?_
  refine j_iconst (v := nI 1) dX9_isPersonAt_7 (by decide +kernel) ?_
  refine j_iald dX9_isPersonAt_8 (Mo.S H _ _ _ rfl) rfl (by omega) (by decide) (by first | assumption | (rewrite [hC]; first | assumption | rfl) | rfl) ?_
  refine j_iconst (v := nI 1) dX9_isPersonAt_9 (by decide +kernel) ?_
  refine j_isub dX9_isPersonAt_10 ?_
  refine j_i2l dX9_isPersonAt_11 ?_
  refine j_dS1 kl_X9_102 (k_inL _ _ _) dX9_isPersonAt_12 rfl rfl (Nat.le_of_ble_eq_true rfl) (by first | decide | omega) (by omega) (by omega) ?_
  refine j_iret dX9_isPersonAt_15 ⟨_, rfl, bI_nar _⟩ (by omega) (by omega) ?_
  exact ⟨rfl, rfl⟩
theorem m_isDinnerAt (H : Mo σ h ad) (hC : σ.2.1 (ad 20) = C) {P : Nat} (hP : C 2 = nI P) (hP6 : P ≤ 6) (p : Int32) : Kd g l 1 MX9_isDinnerAt [.ref h, .int p] σ (some (.int (bI (okN p P)))) σ := by
  rw [← inL_n (by omega)]
  refine Kt.go (Y := MX9_isDinnerAt) (ls := [some (.ref h), some (.int p)]) (by decide) (Nat.le_of_ble_eq_true rfl) rfl ?_
  refine j_iload_n dX9_isDinnerAt_0 rfl ?_
  refine j_i2l dX9_isDinnerAt_1 ?_
  refine j_lconst (v := 0) dX9_isDinnerAt_2 (by decide +kernel) ?_
  first | refine j_aload_n dX9_isDinnerAt_3 rfl ?_ | refine j_aload_nN dX9_isDinnerAt_3 rfl ?_
  refine j_getR dX9_isDinnerAt_4 fl_X9_35 rfl (Mo.h H) (Mo.R H _ _ _ rfl) ?_
  refine j_iconst (v := nI 2) dX9_isDinnerAt_7 (by decide +kernel) ?_
  refine j_iald dX9_isDinnerAt_8 (Mo.S H _ _ _ rfl) rfl (by omega) (by decide) (by first | assumption | (rewrite [hC]; first | assumption | rfl) | rfl) ?_
  refine j_iconst (v := nI 1) dX9_isDinnerAt_9 (by decide +kernel) ?_
  refine j_isub dX9_isDinnerAt_10 ?_
  refine j_i2l dX9_isDinnerAt_11 ?_
  refine j_dS1 kl_X9_102 (k_inL _ _ _) dX9_isDinnerAt_12 rfl rfl (Nat.le_of_ble_eq_true rfl) (by first | decide | omega) (by omega) (by omega) ?_
  refine j_iret dX9_isDinnerAt_15 ⟨_, rfl, bI_nar _⟩ (by omega) (by omega) ?_
  exact ⟨rfl, rfl⟩
theorem m_isWordAtL (H : Mo σ h ad) (hC : σ.2.1 (ad 20) = C) {P : Nat} (hP : C 0 = nI P) (p : Int64) : Kd g l 1 MX9_isWordAt [.ref h, .long p] σ (some (.int (bI (inL p 0 (nI P - nI 1).toInt64)))) σ := by
  refine Kt.go (Y := MX9_isWordAt) (ls := [some (.ref h), some (.long p), none]) (by decide) (Nat.le_of_ble_eq_true rfl) rfl ?_
  refine j_lload_n dX9_isWordAt_0 rfl ?_
  refine j_lconst (v := 0) dX9_isWordAt_1 (by decide +kernel) ?_
  first | refine j_aload_n dX9_isWordAt_2 rfl ?_ | refine j_aload_nN dX9_isWordAt_2 rfl ?_
  refine j_getR dX9_isWordAt_3 fl_X9_35 rfl (Mo.h H) (Mo.R H _ _ _ rfl) ?_
  refine j_iconst (v := nI 0) dX9_isWordAt_6 (by decide +kernel) ?_
  refine j_iald dX9_isWordAt_7 (Mo.S H _ _ _ rfl) rfl (by omega) (by decide) (by first | assumption | (rewrite [hC]; first | assumption | rfl) | rfl) ?_
  refine j_iconst (v := nI 1) dX9_isWordAt_8 (by decide +kernel) ?_
  refine j_isub dX9_isWordAt_9 ?_
  refine j_i2l dX9_isWordAt_10 ?_
  refine j_dS1 kl_X9_102 (k_inL _ _ _) dX9_isWordAt_11 rfl rfl (Nat.le_of_ble_eq_true rfl) (by first | decide | omega) (by omega) (by omega) ?_
  refine j_iret dX9_isWordAt_14 ⟨_, rfl, bI_nar _⟩ (by omega) (by omega) ?_
  exact ⟨rfl, rfl⟩
theorem m_isWordAt (H : Mo σ h ad) (hC : σ.2.1 (ad 20) = C) {P : Nat} (hP : C 0 = nI P) (hP8 : P ≤ 8) (p : Int32) : Kd g l 1 MX9_isWordAt [.ref h, .long p.toInt64] σ (some (.int (bI (okN p P)))) σ := by
  rw [← inL_n (by omega)]
  exact m_isWordAtL H hC hP p.toInt64
theorem m_refuse (H : Mo σ h ad) (w : Int32) : Kd g l 0 MX9_refuse [.ref h, .int w] σ (some (.int (-1))) (sI σ h 0 w) := k_refuse H w
end M4
