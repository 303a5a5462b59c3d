/-! NUMBERS: the rules with natural numbers; what the pure heap answers behind a write; contracts of methods that are functions -/
set_option maxRecDepth 100000
theorem nI_mul (a b : Nat) : nI a * nI b = nI (a * b) := (Int32.ofNat_mul a b).symm
theorem nI_sub {a b : Nat} (h : b ≤ a) : nI a - nI b = nI (a - b) := by
  have e : a = (a - b) + b := by omega
  rw [e, ← nI_add, Int32.add_sub_cancel, Nat.add_sub_cancel]
section TN
variable {g : Gx} {l : Launch} {d : Nat} {Y : Mi} {av : List Value} {mc ms : Nat} {Qr : Option Value → Sg → Prop} {Qx : Nat → String → Sg → Prop} {c0 n0 pc : Nat} {ls : List (Option Value)} {st : List Value} {σ : Sg}
theorem j_iaddN {a b : Nat} (hd : decode Y.2.1 pc = .ok (.iadd, 1)) (k : Tj g l d Y av mc ms Qr Qx c0 n0 (pc + 1) ls (.int (nI (a + b)) :: st) σ) : Tj g l d Y av mc ms Qr Qx c0 n0 pc ls (.int (nI b) :: .int (nI a) :: st) σ :=
  j_iadd hd (by rw [nI_add]; exact k)
theorem j_imulN {a b : Nat} (hd : decode Y.2.1 pc = .ok (.imul, 1)) (k : Tj g l d Y av mc ms Qr Qx c0 n0 (pc + 1) ls (.int (nI (a * b)) :: st) σ) : Tj g l d Y av mc ms Qr Qx c0 n0 pc ls (.int (nI b) :: .int (nI a) :: st) σ :=
  j_imul hd (by rw [nI_mul]; exact k)
theorem j_isubN {a b : Nat} (hd : decode Y.2.1 pc = .ok (.isub, 1)) (h : b ≤ a) (k : Tj g l d Y av mc ms Qr Qx c0 n0 (pc + 1) ls (.int (nI (a - b)) :: st) σ) : Tj g l d Y av mc ms Qr Qx c0 n0 pc ls (.int (nI b) :: .int (nI a) :: st) σ :=
  j_isub hd (by rw [nI_sub h]; exact k)
theorem j_iincN {i n : Nat} {m : Nat} (hd : decode Y.2.1 pc = .ok (.iinc i (n : Int), 3)) (h : ls[i]? = some (some (.int (nI m)))) (hi : i < Y.2.2.1) (k : Tj g l d Y av mc ms Qr Qx c0 n0 (pc + 3) (zs1 ls i (.int (nI (m + n)))) st σ) : Tj g l d Y av mc ms Qr Qx c0 n0 pc ls st σ :=
  j_iinc hd h (v := nI (m + n)) (by rw [← nI_add]; congr 1) hi k
/-- the number on top by another name -/
theorem j_top {x y : Int32} (h : x = y) (k : Tj g l d Y av mc ms Qr Qx c0 n0 pc ls (.int y :: st) σ) : Tj g l d Y av mc ms Qr Qx c0 n0 pc ls (.int x :: st) σ := by rw [h]; exact k
theorem j_topL {x y : Int64} (h : x = y) (k : Tj g l d Y av mc ms Qr Qx c0 n0 pc ls (.long y :: st) σ) : Tj g l d Y av mc ms Qr Qx c0 n0 pc ls (.long x :: st) σ := by rw [h]; exact k
theorem j_eq {ls' : List (Option Value)} {st' : List Value} {σ' : Sg} (h1 : ls = ls') (h2 : st = st') (h3 : σ = σ') (k : Tj g l d Y av mc ms Qr Qx c0 n0 pc ls' st' σ') : Tj g l d Y av mc ms Qr Qx c0 n0 pc ls st σ := by rw [h1, h2, h3]; exact k
theorem j_if_eqN {a : Nat} {off : Int} {tgt : Nat} (hd : decode Y.2.1 pc = .ok (.ifCond .eq off, 3)) (ht : (pc : Int) + off = (tgt : Int)) (ha : a < 2 ^ 31) (kt : a = 0 → Tj g l d Y av mc ms Qr Qx c0 n0 tgt ls st σ) (kf : ¬ a = 0 → Tj g l d Y av mc ms Qr Qx c0 n0 (pc + 3) ls st σ) : Tj g l d Y av mc ms Qr Qx c0 n0 pc ls (.int (nI a) :: st) σ :=
  j_if_eq hd ht (fun q => kt ((nI_eq ha (by decide)).mp (q.trans nI_0.symm))) (fun q => kf (fun e => q (by rw [e]; exact nI_0)))
theorem j_if_neN {a : Nat} {off : Int} {tgt : Nat} (hd : decode Y.2.1 pc = .ok (.ifCond .ne off, 3)) (ht : (pc : Int) + off = (tgt : Int)) (ha : a < 2 ^ 31) (kt : ¬ a = 0 → Tj g l d Y av mc ms Qr Qx c0 n0 tgt ls st σ) (kf : a = 0 → Tj g l d Y av mc ms Qr Qx c0 n0 (pc + 3) ls st σ) : Tj g l d Y av mc ms Qr Qx c0 n0 pc ls (.int (nI a) :: st) σ := by
  by_cases h : a = 0
  · exact j_if_ne hd ht (fun q => absurd (by rw [h]; exact nI_0) q) (fun _ => kf h)
  · exact j_if_ne hd ht (fun _ => kt h) (fun q => absurd (fun (e : nI a = 0) => h ((nI_eq ha (by decide)).mp (Eq.trans e nI_0.symm))) (fun q2 => by first | exact q q2 | exact q2 q))
theorem j_icmp_eqN {a b : Nat} {off : Int} {tgt : Nat} (hd : decode Y.2.1 pc = .ok (.if_icmp .eq off, 3)) (ht : (pc : Int) + off = (tgt : Int)) (ha : a < 2 ^ 31) (hb : b < 2 ^ 31) (kt : a = b → Tj g l d Y av mc ms Qr Qx c0 n0 tgt ls st σ) (kf : ¬ a = b → Tj g l d Y av mc ms Qr Qx c0 n0 (pc + 3) ls st σ) : Tj g l d Y av mc ms Qr Qx c0 n0 pc ls (.int (nI b) :: .int (nI a) :: st) σ :=
  j_icmp_eq hd ht (fun q => kt ((nI_eq ha hb).mp q)) (fun q => kf (fun e => q (by rw [e])))
theorem j_icmp_neN {a b : Nat} {off : Int} {tgt : Nat} (hd : decode Y.2.1 pc = .ok (.if_icmp .ne off, 3)) (ht : (pc : Int) + off = (tgt : Int)) (ha : a < 2 ^ 31) (hb : b < 2 ^ 31) (kt : ¬ a = b → Tj g l d Y av mc ms Qr Qx c0 n0 tgt ls st σ) (kf : a = b → Tj g l d Y av mc ms Qr Qx c0 n0 (pc + 3) ls st σ) : Tj g l d Y av mc ms Qr Qx c0 n0 pc ls (.int (nI b) :: .int (nI a) :: st) σ := by
  by_cases h : a = b
  · exact j_icmp_ne hd ht (fun q => absurd (by rw [h]) q) (fun _ => kf h)
  · exact j_icmp_ne hd ht (fun _ => kt h) (fun q => absurd (fun e => h ((nI_eq ha hb).mp e)) (fun q2 => by first | exact q q2 | exact q2 q))
theorem j_icmp_ltN {a b : Nat} {off : Int} {tgt : Nat} (hd : decode Y.2.1 pc = .ok (.if_icmp .lt off, 3)) (ht : (pc : Int) + off = (tgt : Int)) (ha : a < 2 ^ 31) (hb : b < 2 ^ 31) (kt : a < b → Tj g l d Y av mc ms Qr Qx c0 n0 tgt ls st σ) (kf : b ≤ a → Tj g l d Y av mc ms Qr Qx c0 n0 (pc + 3) ls st σ) : Tj g l d Y av mc ms Qr Qx c0 n0 pc ls (.int (nI b) :: .int (nI a) :: st) σ :=
  j_icmp_lt hd ht (fun q => kt ((nI_ltI ha hb).mp q)) (fun q => kf (Nat.not_lt.mp (fun e => q ((nI_ltI ha hb).mpr e))))
theorem j_icmp_geN {a b : Nat} {off : Int} {tgt : Nat} (hd : decode Y.2.1 pc = .ok (.if_icmp .ge off, 3)) (ht : (pc : Int) + off = (tgt : Int)) (ha : a < 2 ^ 31) (hb : b < 2 ^ 31) (kt : b ≤ a → Tj g l d Y av mc ms Qr Qx c0 n0 tgt ls st σ) (kf : a < b → Tj g l d Y av mc ms Qr Qx c0 n0 (pc + 3) ls st σ) : Tj g l d Y av mc ms Qr Qx c0 n0 pc ls (.int (nI b) :: .int (nI a) :: st) σ :=
  j_icmp_ge hd ht (fun q => kt ((nI_leI hb ha).mp q)) (fun q => kf (Nat.not_le.mp (fun e => q ((nI_leI hb ha).mpr e))))
theorem j_icmp_gtN {a b : Nat} {off : Int} {tgt : Nat} (hd : decode Y.2.1 pc = .ok (.if_icmp .gt off, 3)) (ht : (pc : Int) + off = (tgt : Int)) (ha : a < 2 ^ 31) (hb : b < 2 ^ 31) (kt : b < a → Tj g l d Y av mc ms Qr Qx c0 n0 tgt ls st σ) (kf : a ≤ b → Tj g l d Y av mc ms Qr Qx c0 n0 (pc + 3) ls st σ) : Tj g l d Y av mc ms Qr Qx c0 n0 pc ls (.int (nI b) :: .int (nI a) :: st) σ :=
  j_icmp_gt hd ht (fun q => kt ((nI_ltI hb ha).mp q)) (fun q => kf (Nat.not_lt.mp (fun e => q ((nI_ltI hb ha).mpr e))))
theorem j_icmp_leN {a b : Nat} {off : Int} {tgt : Nat} (hd : decode Y.2.1 pc = .ok (.if_icmp .le off, 3)) (ht : (pc : Int) + off = (tgt : Int)) (ha : a < 2 ^ 31) (hb : b < 2 ^ 31) (kt : a ≤ b → Tj g l d Y av mc ms Qr Qx c0 n0 tgt ls st σ) (kf : b < a → Tj g l d Y av mc ms Qr Qx c0 n0 (pc + 3) ls st σ) : Tj g l d Y av mc ms Qr Qx c0 n0 pc ls (.int (nI b) :: .int (nI a) :: st) σ :=
  j_icmp_le hd ht (fun q => kt ((nI_leI ha hb).mp q)) (fun q => kf (Nat.not_le.mp (fun e => q ((nI_leI ha hb).mpr e))))
/-- a contract of a method that is a function: it answers v, and leaves σ' -/
def Kd (g : Gx) (l : Launch) (d : Nat) (Y : Mi) (av : List Value) (σ : Sg) (v : Option Value) (σ' : Sg) : Prop := Kt g l d Y av σ 0 0 (fun r τ => r = v ∧ τ = σ') (fun _ _ _ => False)
variable {d' ix n L ci nb b0 : Nat} {y x : MethodName} {b : ByteArray} {r : Option FieldType} {As rest : List Value} {v : Option Value} {σ' : Sg}
theorem j_dV (hlk : zlV Y.1.cls ix (zCn ci) y b L r n) (hK : Kd g l d' (y, b, L, r, []) (.ref b0 :: As) σ v σ') (hd : decode Y.2.1 pc = .ok (.invokevirtual ix, 3)) (hst : st = As.reverse ++ .ref b0 :: rest) (hn : As.length = n) (hci : ci < 14) (hb : σ.1 b0 = some (ci, nb)) (hrest : (rest.map fun v => v.category).sum ≤ 8) (hdd : d' < d) (hc : c0 ≤ mc) (hs : n0 ≤ ms)
    (k : Tj g l d Y av mc ms Qr Qx c0 n0 (pc + 3) ls (v.toList ++ rest) σ') : Tj g l d Y av mc ms Qr Qx c0 n0 pc ls st σ :=
  j_callV hlk hK hd hst hn hci hb hrest hdd hc hs (fun _ _ q => by obtain ⟨rfl, rfl⟩ := q; exact k) (fun _ _ _ q => q.elim)
theorem j_dV1 {w : Value} (hlk : zlV Y.1.cls ix (zCn ci) y b L r n) (hK : Kd g l d' (y, b, L, r, []) (.ref b0 :: As) σ (some w) σ') (hd : decode Y.2.1 pc = .ok (.invokevirtual ix, 3)) (hst : st = As.reverse ++ .ref b0 :: rest) (hn : As.length = n) (hci : ci < 14) (hb : σ.1 b0 = some (ci, nb)) (hrest : (rest.map fun v => v.category).sum ≤ 8) (hdd : d' < d) (hc : c0 ≤ mc) (hs : n0 ≤ ms)
    (k : Tj g l d Y av mc ms Qr Qx c0 n0 (pc + 3) ls (w :: rest) σ') : Tj g l d Y av mc ms Qr Qx c0 n0 pc ls st σ :=
  j_dV hlk hK hd hst hn hci hb hrest hdd hc hs k
theorem j_dV0 (hlk : zlV Y.1.cls ix (zCn ci) y b L r n) (hK : Kd g l d' (y, b, L, r, []) (.ref b0 :: As) σ none σ') (hd : decode Y.2.1 pc = .ok (.invokevirtual ix, 3)) (hst : st = As.reverse ++ .ref b0 :: rest) (hn : As.length = n) (hci : ci < 14) (hb : σ.1 b0 = some (ci, nb)) (hrest : (rest.map fun v => v.category).sum ≤ 8) (hdd : d' < d) (hc : c0 ≤ mc) (hs : n0 ≤ ms)
    (k : Tj g l d Y av mc ms Qr Qx c0 n0 (pc + 3) ls rest σ') : Tj g l d Y av mc ms Qr Qx c0 n0 pc ls st σ :=
  j_dV hlk hK hd hst hn hci hb hrest hdd hc hs k
theorem j_dS (hlk : zlS Y.1.cls ix y b L r n) (hK : Kd g l d' (y, b, L, r, []) As σ v σ') (hd : decode Y.2.1 pc = .ok (.invokestatic ix, 3)) (hst : st = As.reverse ++ rest) (hn : As.length = n) (hrest : (rest.map fun v => v.category).sum ≤ 8) (hdd : d' < d) (hc : c0 ≤ mc) (hs : n0 ≤ ms)
    (k : Tj g l d Y av mc ms Qr Qx c0 n0 (pc + 3) ls (v.toList ++ rest) σ') : Tj g l d Y av mc ms Qr Qx c0 n0 pc ls st σ :=
  j_callS hlk hK hd hst hn hrest hdd hc hs (fun _ _ q => by obtain ⟨rfl, rfl⟩ := q; exact k) (fun _ _ _ q => q.elim)
theorem j_dS1 {w : Value} (hlk : zlS Y.1.cls ix y b L r n) (hK : Kd g l d' (y, b, L, r, []) As σ (some w) σ') (hd : decode Y.2.1 pc = .ok (.invokestatic ix, 3)) (hst : st = As.reverse ++ rest) (hn : As.length = n) (hrest : (rest.map fun v => v.category).sum ≤ 8) (hdd : d' < d) (hc : c0 ≤ mc) (hs : n0 ≤ ms)
    (k : Tj g l d Y av mc ms Qr Qx c0 n0 (pc + 3) ls (w :: rest) σ') : Tj g l d Y av mc ms Qr Qx c0 n0 pc ls st σ :=
  j_dS hlk hK hd hst hn hrest hdd hc hs k
theorem j_dS0 (hlk : zlS Y.1.cls ix y b L r n) (hK : Kd g l d' (y, b, L, r, []) As σ none σ') (hd : decode Y.2.1 pc = .ok (.invokestatic ix, 3)) (hst : st = As.reverse ++ rest) (hn : As.length = n) (hrest : (rest.map fun v => v.category).sum ≤ 8) (hdd : d' < d) (hc : c0 ≤ mc) (hs : n0 ≤ ms)
    (k : Tj g l d Y av mc ms Qr Qx c0 n0 (pc + 3) ls rest σ') : Tj g l d Y av mc ms Qr Qx c0 n0 pc ls st σ :=
  j_dS hlk hK hd hst hn hrest hdd hc hs k
theorem j_dSN {host : String} (hlk : zlSN Y.1.cls ix y host b L r n) (hK : Kd g l d' (y, b, L, r, []) As σ v σ') (hd : decode Y.2.1 pc = .ok (.invokestatic ix, 3)) (hst : st = As.reverse ++ rest) (hn : As.length = n) (hrest : (rest.map fun v => v.category).sum ≤ 8) (hdd : d' < d) (hc : c0 ≤ mc) (hs : n0 ≤ ms)
    (k : Tj g l d Y av mc ms Qr Qx c0 n0 (pc + 3) ls (v.toList ++ rest) σ') : Tj g l d Y av mc ms Qr Qx c0 n0 pc ls st σ :=
  j_callSN hlk hK hd hst hn hrest hdd hc hs (fun _ _ q => by obtain ⟨rfl, rfl⟩ := q; exact k) (fun _ _ _ q => q.elim)
theorem j_dSN1 {w : Value} {host : String} (hlk : zlSN Y.1.cls ix y host b L r n) (hK : Kd g l d' (y, b, L, r, []) As σ (some w) σ') (hd : decode Y.2.1 pc = .ok (.invokestatic ix, 3)) (hst : st = As.reverse ++ rest) (hn : As.length = n) (hrest : (rest.map fun v => v.category).sum ≤ 8) (hdd : d' < d) (hc : c0 ≤ mc) (hs : n0 ≤ ms)
    (k : Tj g l d Y av mc ms Qr Qx c0 n0 (pc + 3) ls (w :: rest) σ') : Tj g l d Y av mc ms Qr Qx c0 n0 pc ls st σ :=
  j_dSN hlk hK hd hst hn hrest hdd hc hs k
theorem j_dSN0 {host : String} (hlk : zlSN Y.1.cls ix y host b L r n) (hK : Kd g l d' (y, b, L, r, []) As σ none σ') (hd : decode Y.2.1 pc = .ok (.invokestatic ix, 3)) (hst : st = As.reverse ++ rest) (hn : As.length = n) (hrest : (rest.map fun v => v.category).sum ≤ 8) (hdd : d' < d) (hc : c0 ≤ mc) (hs : n0 ≤ ms)
    (k : Tj g l d Y av mc ms Qr Qx c0 n0 (pc + 3) ls rest σ') : Tj g l d Y av mc ms Qr Qx c0 n0 pc ls st σ :=
  j_dSN hlk hK hd hst hn hrest hdd hc hs k
theorem j_dI (hlk : zlI Y.1.cls ix y b L n) (hK : Kd g l d' (y, b, L, none, []) (.ref b0 :: As) σ v σ') (hd : decode Y.2.1 pc = .ok (.invokespecial ix, 3)) (hst : st = As.reverse ++ .ref b0 :: rest) (hn : As.length = n) (hrest : (rest.map fun v => v.category).sum ≤ 8) (hdd : d' < d) (hc : c0 ≤ mc) (hs : n0 ≤ ms)
    (k : Tj g l d Y av mc ms Qr Qx c0 n0 (pc + 3) ls (v.toList ++ rest) σ') : Tj g l d Y av mc ms Qr Qx c0 n0 pc ls st σ :=
  j_callI hlk hK hd hst hn hrest hdd hc hs (fun _ _ q => by obtain ⟨rfl, rfl⟩ := q; exact k) (fun _ _ _ q => q.elim)
theorem j_dI1 {w : Value} (hlk : zlI Y.1.cls ix y b L n) (hK : Kd g l d' (y, b, L, none, []) (.ref b0 :: As) σ (some w) σ') (hd : decode Y.2.1 pc = .ok (.invokespecial ix, 3)) (hst : st = As.reverse ++ .ref b0 :: rest) (hn : As.length = n) (hrest : (rest.map fun v => v.category).sum ≤ 8) (hdd : d' < d) (hc : c0 ≤ mc) (hs : n0 ≤ ms)
    (k : Tj g l d Y av mc ms Qr Qx c0 n0 (pc + 3) ls (w :: rest) σ') : Tj g l d Y av mc ms Qr Qx c0 n0 pc ls st σ :=
  j_dI hlk hK hd hst hn hrest hdd hc hs k
theorem j_dI0 (hlk : zlI Y.1.cls ix y b L n) (hK : Kd g l d' (y, b, L, none, []) (.ref b0 :: As) σ none σ') (hd : decode Y.2.1 pc = .ok (.invokespecial ix, 3)) (hst : st = As.reverse ++ .ref b0 :: rest) (hn : As.length = n) (hrest : (rest.map fun v => v.category).sum ≤ 8) (hdd : d' < d) (hc : c0 ≤ mc) (hs : n0 ≤ ms)
    (k : Tj g l d Y av mc ms Qr Qx c0 n0 (pc + 3) ls rest σ') : Tj g l d Y av mc ms Qr Qx c0 n0 pc ls st σ :=
  j_dI hlk hK hd hst hn hrest hdd hc hs k
theorem j_dIN {host : String} (hlk : zlIN Y.1.cls ix y host b L n) (hK : Kd g l d' (y, b, L, none, []) (.ref b0 :: As) σ v σ') (hd : decode Y.2.1 pc = .ok (.invokespecial ix, 3)) (hst : st = As.reverse ++ .ref b0 :: rest) (hn : As.length = n) (hrest : (rest.map fun v => v.category).sum ≤ 8) (hdd : d' < d) (hc : c0 ≤ mc) (hs : n0 ≤ ms)
    (k : Tj g l d Y av mc ms Qr Qx c0 n0 (pc + 3) ls (v.toList ++ rest) σ') : Tj g l d Y av mc ms Qr Qx c0 n0 pc ls st σ :=
  j_callIN hlk hK hd hst hn hrest hdd hc hs (fun _ _ q => by obtain ⟨rfl, rfl⟩ := q; exact k) (fun _ _ _ q => q.elim)
theorem j_dIN1 {w : Value} {host : String} (hlk : zlIN Y.1.cls ix y host b L n) (hK : Kd g l d' (y, b, L, none, []) (.ref b0 :: As) σ (some w) σ') (hd : decode Y.2.1 pc = .ok (.invokespecial ix, 3)) (hst : st = As.reverse ++ .ref b0 :: rest) (hn : As.length = n) (hrest : (rest.map fun v => v.category).sum ≤ 8) (hdd : d' < d) (hc : c0 ≤ mc) (hs : n0 ≤ ms)
    (k : Tj g l d Y av mc ms Qr Qx c0 n0 (pc + 3) ls (w :: rest) σ') : Tj g l d Y av mc ms Qr Qx c0 n0 pc ls st σ :=
  j_dIN hlk hK hd hst hn hrest hdd hc hs k
theorem j_dIN0 {host : String} (hlk : zlIN Y.1.cls ix y host b L n) (hK : Kd g l d' (y, b, L, none, []) (.ref b0 :: As) σ none σ') (hd : decode Y.2.1 pc = .ok (.invokespecial ix, 3)) (hst : st = As.reverse ++ .ref b0 :: rest) (hn : As.length = n) (hrest : (rest.map fun v => v.category).sum ≤ 8) (hdd : d' < d) (hc : c0 ≤ mc) (hs : n0 ≤ ms)
    (k : Tj g l d Y av mc ms Qr Qx c0 n0 (pc + 3) ls rest σ') : Tj g l d Y av mc ms Qr Qx c0 n0 pc ls st σ :=
  j_dIN hlk hK hd hst hn hrest hdd hc hs k
theorem j_dU {owner : String} (hlk : zlU Y.1.cls ix (zCn ci) owner x y b L r n) (hK : Kd g l d' (y, b, L, r, []) (.ref b0 :: As) σ v σ') (hd : decode Y.2.1 pc = .ok (.invokevirtual ix, 3)) (hst : st = As.reverse ++ .ref b0 :: rest) (hn : As.length = n) (hci : ci < 14) (hb : σ.1 b0 = some (ci, nb)) (hrest : (rest.map fun v => v.category).sum ≤ 8) (hdd : d' < d) (hc : c0 ≤ mc) (hs : n0 ≤ ms)
    (k : Tj g l d Y av mc ms Qr Qx c0 n0 (pc + 3) ls (v.toList ++ rest) σ') : Tj g l d Y av mc ms Qr Qx c0 n0 pc ls st σ :=
  j_callU hlk hK hd hst hn hci hb hrest hdd hc hs (fun _ _ q => by obtain ⟨rfl, rfl⟩ := q; exact k) (fun _ _ _ q => q.elim)
theorem j_dU1 {w : Value} {owner : String} (hlk : zlU Y.1.cls ix (zCn ci) owner x y b L r n) (hK : Kd g l d' (y, b, L, r, []) (.ref b0 :: As) σ (some w) σ') (hd : decode Y.2.1 pc = .ok (.invokevirtual ix, 3)) (hst : st = As.reverse ++ .ref b0 :: rest) (hn : As.length = n) (hci : ci < 14) (hb : σ.1 b0 = some (ci, nb)) (hrest : (rest.map fun v => v.category).sum ≤ 8) (hdd : d' < d) (hc : c0 ≤ mc) (hs : n0 ≤ ms)
    (k : Tj g l d Y av mc ms Qr Qx c0 n0 (pc + 3) ls (w :: rest) σ') : Tj g l d Y av mc ms Qr Qx c0 n0 pc ls st σ :=
  j_dU hlk hK hd hst hn hci hb hrest hdd hc hs k
theorem j_dU0 {owner : String} (hlk : zlU Y.1.cls ix (zCn ci) owner x y b L r n) (hK : Kd g l d' (y, b, L, r, []) (.ref b0 :: As) σ none σ') (hd : decode Y.2.1 pc = .ok (.invokevirtual ix, 3)) (hst : st = As.reverse ++ .ref b0 :: rest) (hn : As.length = n) (hci : ci < 14) (hb : σ.1 b0 = some (ci, nb)) (hrest : (rest.map fun v => v.category).sum ≤ 8) (hdd : d' < d) (hc : c0 ≤ mc) (hs : n0 ≤ ms)
    (k : Tj g l d Y av mc ms Qr Qx c0 n0 (pc + 3) ls rest σ') : Tj g l d Y av mc ms Qr Qx c0 n0 pc ls st σ :=
  j_dU hlk hK hd hst hn hci hb hrest hdd hc hs k
theorem j_dO {owner : String} (hlk : zlO Y.1.cls ix (zCn ci) owner x y b L r n) (hK : Kd g l d' (y, b, L, r, []) (.ref b0 :: As) σ v σ') (hd : decode Y.2.1 pc = .ok (.invokevirtual ix, 3)) (hst : st = As.reverse ++ .ref b0 :: rest) (hn : As.length = n) (hci : ci < 14) (hb : σ.1 b0 = some (ci, nb)) (hrest : (rest.map fun v => v.category).sum ≤ 8) (hdd : d' < d) (hc : c0 ≤ mc) (hs : n0 ≤ ms)
    (k : Tj g l d Y av mc ms Qr Qx c0 n0 (pc + 3) ls (v.toList ++ rest) σ') : Tj g l d Y av mc ms Qr Qx c0 n0 pc ls st σ :=
  j_callO hlk hK hd hst hn hci hb hrest hdd hc hs (fun _ _ q => by obtain ⟨rfl, rfl⟩ := q; exact k) (fun _ _ _ q => q.elim)
theorem j_dO1 {w : Value} {owner : String} (hlk : zlO Y.1.cls ix (zCn ci) owner x y b L r n) (hK : Kd g l d' (y, b, L, r, []) (.ref b0 :: As) σ (some w) σ') (hd : decode Y.2.1 pc = .ok (.invokevirtual ix, 3)) (hst : st = As.reverse ++ .ref b0 :: rest) (hn : As.length = n) (hci : ci < 14) (hb : σ.1 b0 = some (ci, nb)) (hrest : (rest.map fun v => v.category).sum ≤ 8) (hdd : d' < d) (hc : c0 ≤ mc) (hs : n0 ≤ ms)
    (k : Tj g l d Y av mc ms Qr Qx c0 n0 (pc + 3) ls (w :: rest) σ') : Tj g l d Y av mc ms Qr Qx c0 n0 pc ls st σ :=
  j_dO hlk hK hd hst hn hci hb hrest hdd hc hs k
theorem j_dO0 {owner : String} (hlk : zlO Y.1.cls ix (zCn ci) owner x y b L r n) (hK : Kd g l d' (y, b, L, r, []) (.ref b0 :: As) σ none σ') (hd : decode Y.2.1 pc = .ok (.invokevirtual ix, 3)) (hst : st = As.reverse ++ .ref b0 :: rest) (hn : As.length = n) (hci : ci < 14) (hb : σ.1 b0 = some (ci, nb)) (hrest : (rest.map fun v => v.category).sum ≤ 8) (hdd : d' < d) (hc : c0 ≤ mc) (hs : n0 ≤ ms)
    (k : Tj g l d Y av mc ms Qr Qx c0 n0 (pc + 3) ls rest σ') : Tj g l d Y av mc ms Qr Qx c0 n0 pc ls st σ :=
  j_dO hlk hK hd hst hn hci hb hrest hdd hc hs k
theorem j_dSU (hlk : zlSU Y.1.cls ix y b L r n) (hK : Kd g l d' (y, b, L, r, []) (.ref b0 :: As) σ v σ') (hd : decode Y.2.1 pc = .ok (.invokespecial ix, 3)) (hst : st = As.reverse ++ .ref b0 :: rest) (hn : As.length = n) (hci : ci < 14) (hb : σ.1 b0 = some (ci, nb)) (hrest : (rest.map fun v => v.category).sum ≤ 8) (hdd : d' < d) (hc : c0 ≤ mc) (hs : n0 ≤ ms)
    (k : Tj g l d Y av mc ms Qr Qx c0 n0 (pc + 3) ls (v.toList ++ rest) σ') : Tj g l d Y av mc ms Qr Qx c0 n0 pc ls st σ :=
  j_callSU hlk hK hd hst hn hci hb hrest hdd hc hs (fun _ _ q => by obtain ⟨rfl, rfl⟩ := q; exact k) (fun _ _ _ q => q.elim)
theorem j_dSU1 {w : Value} (hlk : zlSU Y.1.cls ix y b L r n) (hK : Kd g l d' (y, b, L, r, []) (.ref b0 :: As) σ (some w) σ') (hd : decode Y.2.1 pc = .ok (.invokespecial ix, 3)) (hst : st = As.reverse ++ .ref b0 :: rest) (hn : As.length = n) (hci : ci < 14) (hb : σ.1 b0 = some (ci, nb)) (hrest : (rest.map fun v => v.category).sum ≤ 8) (hdd : d' < d) (hc : c0 ≤ mc) (hs : n0 ≤ ms)
    (k : Tj g l d Y av mc ms Qr Qx c0 n0 (pc + 3) ls (w :: rest) σ') : Tj g l d Y av mc ms Qr Qx c0 n0 pc ls st σ :=
  j_dSU hlk hK hd hst hn hci hb hrest hdd hc hs k
theorem j_dSU0 (hlk : zlSU Y.1.cls ix y b L r n) (hK : Kd g l d' (y, b, L, r, []) (.ref b0 :: As) σ none σ') (hd : decode Y.2.1 pc = .ok (.invokespecial ix, 3)) (hst : st = As.reverse ++ .ref b0 :: rest) (hn : As.length = n) (hci : ci < 14) (hb : σ.1 b0 = some (ci, nb)) (hrest : (rest.map fun v => v.category).sum ≤ 8) (hdd : d' < d) (hc : c0 ≤ mc) (hs : n0 ≤ ms)
    (k : Tj g l d Y av mc ms Qr Qx c0 n0 (pc + 3) ls rest σ') : Tj g l d Y av mc ms Qr Qx c0 n0 pc ls st σ :=
  j_dSU hlk hK hd hst hn hci hb hrest hdd hc hs k
end TN
/-! what the pure heap answers behind a write -/
theorem sI_S {σ : Sg} {a k : Nat} {x : Int32} : (sI σ a k x).1 = σ.1 := rfl
theorem sI_L {σ : Sg} {a k : Nat} {x : Int32} : (sI σ a k x).2.2.1 = σ.2.2.1 := rfl
theorem sI_R {σ : Sg} {a k : Nat} {x : Int32} : (sI σ a k x).2.2.2 = σ.2.2.2 := rfl
theorem sI_e {σ : Sg} {a k : Nat} {x : Int32} : (sI σ a k x).2.1 a = up (σ.2.1 a) k x := up_eq _ _ _
theorem sI_n {σ : Sg} {a b k : Nat} {x : Int32} (h : b ≠ a) : (sI σ a k x).2.1 b = σ.2.1 b := up_ne h
theorem sL_S {σ : Sg} {a k : Nat} {x : Int64} : (sL σ a k x).1 = σ.1 := rfl
theorem sL_I {σ : Sg} {a k : Nat} {x : Int64} : (sL σ a k x).2.1 = σ.2.1 := rfl
theorem sL_R {σ : Sg} {a k : Nat} {x : Int64} : (sL σ a k x).2.2.2 = σ.2.2.2 := rfl
theorem sL_e {σ : Sg} {a k : Nat} {x : Int64} : (sL σ a k x).2.2.1 a = up (σ.2.2.1 a) k x := up_eq _ _ _
theorem sL_n {σ : Sg} {a b k : Nat} {x : Int64} (h : b ≠ a) : (sL σ a k x).2.2.1 b = σ.2.2.1 b := up_ne h
theorem sR_S {σ : Sg} {a k : Nat} {x : Option Nat} : (sR σ a k x).1 = σ.1 := rfl
theorem sR_I {σ : Sg} {a k : Nat} {x : Option Nat} : (sR σ a k x).2.1 = σ.2.1 := rfl
theorem sR_L {σ : Sg} {a k : Nat} {x : Option Nat} : (sR σ a k x).2.2.1 = σ.2.2.1 := rfl
theorem sR_e {σ : Sg} {a k : Nat} {x : Option Nat} : (sR σ a k x).2.2.2 a = up (σ.2.2.2 a) k x := up_eq _ _ _
theorem sR_n {σ : Sg} {a b k : Nat} {x : Option Nat} (h : b ≠ a) : (sR σ a k x).2.2.2 b = σ.2.2.2 b := up_ne h
/-- a row of ints replaced -/
def sU (σ : Sg) (a : Nat) (f : Nat → Int32) : Sg := (σ.1, up σ.2.1 a f, σ.2.2.1, σ.2.2.2)
theorem sU_S {σ : Sg} {a : Nat} {f : Nat → Int32} : (sU σ a f).1 = σ.1 := rfl
theorem sU_L {σ : Sg} {a : Nat} {f : Nat → Int32} : (sU σ a f).2.2.1 = σ.2.2.1 := rfl
theorem sU_R {σ : Sg} {a : Nat} {f : Nat → Int32} : (sU σ a f).2.2.2 = σ.2.2.2 := rfl
theorem sU_e {σ : Sg} {a : Nat} {f : Nat → Int32} : (sU σ a f).2.1 a = f := up_eq _ _ _
theorem sU_n {σ : Sg} {a b : Nat} {f : Nat → Int32} (h : b ≠ a) : (sU σ a f).2.1 b = σ.2.1 b := up_ne h
theorem sI_U {σ : Sg} {a k : Nat} {x : Int32} : sI σ a k x = sU σ a (up (σ.2.1 a) k x) := rfl
theorem sU_U {σ : Sg} {a : Nat} {f h : Nat → Int32} : sU (sU σ a f) a h = sU σ a h := by unfold sU; simp only [up_up]
theorem sU_self {σ : Sg} {a : Nat} : sU σ a (σ.2.1 a) = σ := by unfold sU; rw [up_self]
theorem sU_I {σ : Sg} {a k : Nat} {f : Nat → Int32} {x : Int32} : sI (sU σ a f) a k x = sU σ a (up f k x) := by rw [sI_U, sU_U, sU_e]
theorem sU_comm {σ : Sg} {a b : Nat} {f h : Nat → Int32} (hab : a ≠ b) : sU (sU σ a f) b h = sU (sU σ b h) a f := by unfold sU; simp only [up_comm σ.2.1 hab]
theorem sI_I {σ : Sg} {a k : Nat} {x y : Int32} : sI (sI σ a k x) a k y = sI σ a k y := by rw [sI_U, sI_e, sI_U, sU_U, up_up, ← sI_U]
