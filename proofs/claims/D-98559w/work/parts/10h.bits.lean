/-! THE PLAIN LAW, 8: sets as bits -/
set_option maxRecDepth 100000
theorem N_or (a b : Nat) : N a ||| N b = N (a ||| b) := by
  apply Int32.toBitVec_inj.mp
  show BitVec.ofNat 32 a ||| BitVec.ofNat 32 b = BitVec.ofNat 32 (a ||| b)
  rw [BitVec.ofNat_or]
theorem N_and (a b : Nat) : N a &&& N b = N (a &&& b) := by
  apply Int32.toBitVec_inj.mp
  show BitVec.ofNat 32 a &&& BitVec.ofNat 32 b = BitVec.ofNat 32 (a &&& b)
  rw [BitVec.ofNat_and]
theorem N_xor (a b : Nat) : N a ^^^ N b = N (a ^^^ b) := by
  apply Int32.toBitVec_inj.mp
  show BitVec.ofNat 32 a ^^^ BitVec.ofNat 32 b = BitVec.ofNat 32 (a ^^^ b)
  rw [BitVec.ofNat_xor]
theorem bt_N : ∀ p, p < 31 → bt p = N (2 ^ p) := by decide +kernel
theorem bt31 : ∀ p, p < 31 → N p &&& N 31 = N p := by decide +kernel
theorem N_shr {n k : Nat} (hn : n < 2147483648) (hk : k < 31) : N n >>> (N k &&& N 31) = N (n >>> k) := by
  rw [bt31 k hk]
  apply Int32.toBitVec_inj.mp
  show (BitVec.ofNat 32 n).sshiftRight' ((BitVec.ofNat 32 k).smod 32) = BitVec.ofNat 32 (n >>> k)
  have e : ∀ k, k < 31 → (BitVec.ofNat 32 k).smod 32 = BitVec.ofNat 32 k := by decide
  have h1 : n >>> k ≤ n := by rw [Nat.shiftRight_eq_div_pow]; exact Nat.div_le_self _ _
  rw [e k hk]
  apply BitVec.eq_of_toNat_eq
  rw [BitVec.toNat_sshiftRight'_of_msb_false]
  · rw [BitVec.toNat_ofNat, BitVec.toNat_ofNat, BitVec.toNat_ofNat, Nat.mod_eq_of_lt (by omega : n < 2 ^ 32), Nat.mod_eq_of_lt (by omega : k < 2 ^ 32), Nat.mod_eq_of_lt (by omega : n >>> k < 2 ^ 32)]
  · rw [BitVec.msb_eq_false_iff_two_mul_lt, BitVec.toNat_ofNat, Nat.mod_eq_of_lt (by omega : n < 2 ^ 32)]; omega
theorem and1 (n : Nat) : n &&& 1 = 0 ∨ n &&& 1 = 1 := by rw [Nat.and_one_is_mod]; omega
/-- a bit of a set -/
theorem tb_N {a k : Nat} (ha : a < 2147483648) (hk : k < 31) : ((N a >>> (N k &&& N 31)) &&& N 1 = N 1) = (a.testBit k = true) := by
  rw [N_shr ha hk, N_and]
  apply propext
  have e : a.testBit k = decide (a >>> k &&& 1 = 1) := by
    rw [Nat.testBit, Nat.and_comm]
    rcases and1 (a >>> k) with h | h <;> rw [h] <;> rfl
  rw [e, decide_eq_true_iff]
  rcases and1 (a >>> k) with h | h
  · rw [h, N_inj (by omega) (by omega)]
  · rw [h]; simp
/-- how many bits -/
def pc (n : Nat) : Nat := fd (fun k a => a + (n >>> k &&& 1)) 0 31 0
def bcx (x : Int32) : Int32 := match FJ16_bitCount x ((fun _ => 0), (fun _ => 0), (fun _ _ => 0), (fun _ _ => none), 0) with
  | some (r, _) => r
  | none => 0
theorem bc_x {x : Int32} {σ : Mm} : FJ16_bitCount x σ = some (bcx x, σ) := rfl
theorem bcx_N : ∀ n, n < 4096 → bcx (N n) = N (pc n) := by decide +kernel
theorem J_bitCount {n : Nat} {σ : Mm} (h : n < 4096) : FJ16_bitCount (N n) σ = some (N (pc n), σ) := by rw [bc_x, bcx_N n h]
def ntx (x : Int32) : Int32 := match FJ16_numberOfTrailingZeros x ((fun _ => 0), (fun _ => 0), (fun _ _ => 0), (fun _ _ => none), 0) with
  | some (r, _) => r
  | none => 0
theorem nt_x {x : Int32} {σ : Mm} : FJ16_numberOfTrailingZeros x σ = some (ntx x, σ) := by
  unfold ntx FJ16_numberOfTrailingZeros jn
  dsimp only
  repeat' split
  all_goals first | rfl | simp_all
/-- the least bit -/
def lb (n : Nat) : Nat := ((List.range 12).find? fun k => n.testBit k).getD 32
theorem ntx_N : ∀ n, n < 1024 → ntx (N n) = N (lb n) := by decide +kernel
theorem J_ntz {n : Nat} {σ : Mm} (h : n < 1024) : FJ16_numberOfTrailingZeros (N n) σ = some (N (lb n), σ) := by rw [nt_x, ntx_N n h]
theorem M_bits_4 {σ : Mm} {np : Nat} (y : Int32) (hn : np = 31) (kx : Int32 → Mm → Option (Int32 × Mm)) (k : Nat) : ∀ (i n : Nat) (a : Int32), i + k = np → k < n → FX8_bits_4 y n a (N i) σ kx = kx (fd (fun k a => a + ((y >>> (N k &&& N 31)) &&& N 1)) i k a) σ := by
  induction k with
  | zero =>
    intro i n a hi hk
    obtain ⟨n, rfl⟩ : ∃ n', n = n' + 1 := ⟨n - 1, by omega⟩
    rw [FX8_bits_4]
    simp (disch := omega) only [l0_, l1_, N_add, N_mul, up1_app, mI_wA, wA_wA, Option.bind_some, Option.bind_none, jn, nle1_, nle2_, nle3_, nle0_, nlt1_, nlt2_, nlt3_, nlt0_, neq10_, neq01_, neq20_, neq30_, neq21_, neq31_, neq12_, neq32_, neq00_, neq11_, if_true, if_false, N_lt, N_le, N_inj, N_m1, m1_N, m1_lt, m1_le, N_ltm, N_lem, m1_m1, show (31 : Int32) = N np from by rw [hn]; rfl, fd, show (31 : Int32) = N 31 from rfl, show np ≤ i from by omega]
  | succ k ih =>
    intro i n a hi hk
    obtain ⟨n, rfl⟩ : ∃ n', n = n' + 1 := ⟨n - 1, by omega⟩
    have hlt : i < np := by omega
    rw [FX8_bits_4]
    simp (disch := omega) only [l0_, l1_, N_add, N_mul, up1_app, mI_wA, wA_wA, Option.bind_some, Option.bind_none, jn, nle1_, nle2_, nle3_, nle0_, nlt1_, nlt2_, nlt3_, nlt0_, neq10_, neq01_, neq20_, neq30_, neq21_, neq31_, neq12_, neq32_, neq00_, neq11_, if_true, if_false, N_lt, N_le, N_inj, N_m1, m1_N, m1_lt, m1_le, N_ltm, N_lem, m1_m1, show (31 : Int32) = N np from by rw [hn]; rfl, fd, show (31 : Int32) = N 31 from rfl, show ¬ np ≤ i from by omega, ih (i + 1) n]
    all_goals (try (repeat' split))
    all_goals first | (with_reducible rfl) | (simp only [*, if_true, if_false]; done) | (rename_i hh9; exact absurd hh9 (by decide)) | rfl | simp_all
def bix (x : Int32) : Int32 := fd (fun k a => a + ((x >>> (N k &&& N 31)) &&& N 1)) 0 31 (N 0)
theorem bix_fd {n : Nat} (hn : n < 2147483648) (k : Nat) : ∀ i a, i + k ≤ 31 → fd (fun k a => a + ((N n >>> (N k &&& N 31)) &&& N 1)) i k (N a) = N (fd (fun k a => a + (n >>> k &&& 1)) i k a) := by
  induction k with
  | zero => intro i a _; rfl
  | succ k ih =>
    intro i a h
    rw [fd, fd, N_shr hn (by omega), N_and, N_add]
    exact ih _ _ (by omega)
theorem M_bits {n : Nat} {σ : Mm} (h : n < 2147483648) : FX8_bits (N n) σ = some (N (pc n), σ) := by
  unfold pc
  rw [← bix_fd h 31 0 0 (by omega)]
  unfold FX8_bits
  simp only [↓m1_, l0_, l1_, l2_, l3_, l4_, l5_, l6_, l7_, l8_, l9_, l10_, l11_, l12_, l13_, l14_, l15_, l16_, l17_, l18_, l19_, l20_, l21_, l22_, l23_, l24_, l25_, l26_, l27_, l28_, l29_, l30_, l31_, l32_, l40_, l48_, l57_, l59_, l60_, l61_, l62_, l63_, l72_, l77_, l90_, l97_, l99_, l100_, l122_, l128_, l172_, l255_, l272_, l284_, l285_, l286_, l287_, l288_, l289_, l299_, l300_, l320_, l400_, l584_, l984_, l999_, l1023_, l1024_, l4095_, l6424_, l7008_, l10240_, l12345_, l32767_, l100000_, l1103515245_, l2000000000_]
  rw [M_bits_4 (N n) rfl _ 31 0 fu _ (by omega) (by unfold fu; omega)]
