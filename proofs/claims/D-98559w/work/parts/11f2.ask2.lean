/-! passes -/
set_option maxRecDepth 100000
theorem M_pass_44 {σ : Mm} {np : Nat} (s b : Nat) (hs : s < 256) (hb : b < 100) (h : FM σ) (hn : mI σ 63 3 = N np) (hn0 : np ≤ 10) (hF : ∀ p, p < np → ∃ m, m < 256 ∧ PA (mI σ 63) p 0 = N m) (kx : Int32 → Mm → Option (Int32 × Mm)) (k : Nat) : ∀ (i n : Nat) (a : Int32), i + k = np → k < n → FX8_passes_44 62 (N s) (N b) n a (N i) σ kx = kx (fd (fun p a => a ||| (if N b < N (pc (ix (PA (mI σ 63) p 0) ^^^ s)) then N 0 else bt p)) i k a) σ := by
  induction k with
  | zero =>
    intro i n a hi hk
    obtain ⟨n, rfl⟩ : ∃ n', n = n' + 1 := ⟨n - 1, by omega⟩
    rw [FX8_passes_44]
    simp (disch := first | omega | ((repeat (first | apply FM_t | apply FM_o | apply FM_w)); exact h)) only [↓m1_, l0_, l1_, l2_, l3_, l4_, l5_, l6_, l7_, l8_, l9_, l10_, l11_, l12_, l13_, l14_, l15_, l16_, l17_, l18_, l19_, l20_, l21_, l22_, l23_, l24_, l25_, l26_, l27_, l28_, l29_, l30_, l31_, l32_, l40_, l48_, l57_, l59_, l60_, l61_, l62_, l63_, l72_, l77_, l90_, l97_, l99_, l100_, l122_, l128_, l172_, l255_, l272_, l284_, l285_, l286_, l287_, l288_, l289_, l299_, l300_, l320_, l400_, l584_, l984_, l999_, l1023_, l1024_, l4095_, l6424_, l7008_, l10240_, l12345_, l32767_, l100000_, l1103515245_, l2000000000_, N_add, N_mul, up1_app, mI_wA, wA_wA, Option.bind_some, Option.bind_none, jn, fm_ck, fm_rv, fm_gI, fm_pI, fm_gR1, fm_gR2, fm_gR4, fm_gR5, fm_gR7, fm_gR14, fm_gR19, fm_gR21, fm_gR22, fm_gR23, fm_gR24, fm_gR25, fm_rd63, fm_wr63, fm_rd64, fm_wr64, fm_rd65, fm_wr65, fm_rd66, fm_wr66, fm_rd67, fm_wr67, fm_rd68, fm_wr68, fm_rd69, fm_wr69, fm_rd70, fm_wr70, fm_rd71, fm_wr71, fm_rd72, fm_wr72, fm_rd73, fm_wr73, fm_rd74, fm_wr74, nle1_, nle2_, nle3_, nle0_, nlt1_, nlt2_, nlt3_, nlt0_, neq10_, neq01_, neq20_, neq30_, neq21_, neq31_, neq12_, neq32_, neq00_, neq11_, if_true, if_false, N_lt, N_le, N_inj, N_m1, m1_N, m1_lt, m1_le, N_ltm, N_lem, m1_m1, pa_, ha_, hn, fd, show np ≤ i from by omega]
  | succ k ih =>
    intro i n a hi hk
    obtain ⟨n, rfl⟩ : ∃ n', n = n' + 1 := ⟨n - 1, by omega⟩
    have hlt : i < np := by omega
    obtain ⟨m, hm, em⟩ := hF i hlt
    have hx := x256 hm hs
    have hp := pc_lt (m ^^^ s) (by omega)
    have e1 : FX8_bits (N (m ^^^ s)) σ = some (N (pc (m ^^^ s)), σ) := M_bits (Nat.lt_trans hx (by decide))
    obtain ⟨r, e2⟩ : ∃ r, pc (m ^^^ s) = r := ⟨_, rfl⟩
    rw [e2] at e1 hp
    rw [FX8_passes_44]
    obtain ⟨y, hy⟩ : ∃ y, y = N s := ⟨_, rfl⟩
    have e0 : PA (mI σ 63) i 0 ^^^ N s = N (m ^^^ s) := by rw [em, N_xor]
    have e3 : FX8_bits (PA (mI σ 63) i 0 ^^^ N s) σ = some (N r, σ) := by rw [e0]; exact e1
    rw [fd]
    have e4 : pc (ix (PA (mI σ 63) i 0) ^^^ s) = r := by rw [em, ix_N (by omega)]; exact e2
    rw [e4]
    clear e0 e1 e2 e4
    have e5 : FX8_of 62 (N i) 0 σ = some (PA (mI σ 63) i 0, σ) := M_of (w := 0) h (by omega) (by omega)
    have e6 : aI 100 (some 63) 3 σ = some (N np) := by rw [l3_, fm_rd63 h (by omega), hn]
    rw [fm_gR1 h, Option.bind_some, e6, Option.bind_some, if_neg (by rw [N_le (by omega) (by omega)]; omega), fm_ck h, e5, Option.bind_some]
    show (FX8_bits (PA (mI σ 63) i 0 ^^^ N s) σ).bind _ = _
    rw [e3, Option.bind_some]
    simp (disch := omega) only [jn, ↓m1_, l0_, l1_, l2_, l3_, l4_, l5_, l6_, l7_, l8_, l9_, l10_, l11_, l12_, l13_, l14_, l15_, l16_, l17_, l18_, l19_, l20_, l21_, l22_, l23_, l24_, l25_, l26_, l27_, l28_, l29_, l30_, l31_, l32_, l40_, l48_, l57_, l59_, l60_, l61_, l62_, l63_, l72_, l77_, l90_, l97_, l99_, l100_, l122_, l128_, l172_, l255_, l272_, l284_, l285_, l286_, l287_, l288_, l289_, l299_, l300_, l320_, l400_, l584_, l984_, l999_, l1023_, l1024_, l4095_, l6424_, l7008_, l10240_, l12345_, l32767_, l100000_, l1103515245_, l2000000000_, nle1_, nle2_, nle3_, nle0_, nlt1_, nlt2_, nlt3_, nlt0_, neq10_, neq01_, neq20_, neq30_, neq21_, neq31_, neq12_, neq32_, neq00_, neq11_, if_true, if_false, N_lt, N_le, N_inj, N_m1, m1_N, m1_lt, m1_le, N_ltm, N_lem, m1_m1, N_add, bt_]
    by_cases hq : b < r
    · simp (disch := omega) only [hq, if_true, ih (i + 1) n]
    · simp (disch := omega) only [hq, if_false, ih (i + 1) n]
