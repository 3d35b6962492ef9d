/-! THE PLAIN LAW, 40: the model's free hook, holders -/
set_option maxRecDepth 100000
theorem M_free_2 {σ : Mm} {nh : Nat} (h : FM σ) (hn : mI σ 63 4 = N nh) (hn0 : nh ≤ 12) (kx : Mm → Option (Int32 × Mm)) (ky : Int32 → Mm → Option (Int32 × Mm)) (k : Nat) : ∀ (i n : Nat) , i + k = nh → k < n → FX8_freeHook_2 62 n (N i) σ kx ky = (match sr (fun h => HA (mI σ 63) h = M1) i k with | none => kx σ | some j => ky (N j) σ) := by
  induction k with
  | zero =>
    intro i n hi hk
    obtain ⟨n, rfl⟩ : ∃ n', n = n' + 1 := ⟨n - 1, by omega⟩
    rw [FX8_freeHook_2]
    simp (disch := first | exact h | omega) only [↓m1_, l0_, l1_, l2_, l3_, l4_, l5_, l6_, l7_, l8_, l9_, l10_, l11_, l12_, l13_, l14_, l15_, l16_, l17_, l18_, l19_, l20_, l21_, l22_, l23_, l24_, l25_, l26_, l27_, l28_, l29_, l30_, l31_, l32_, l40_, l48_, l57_, l59_, l60_, l61_, l62_, l63_, l72_, l77_, l90_, l97_, l99_, l100_, l122_, l128_, l172_, l255_, l272_, l284_, l285_, l286_, l287_, l288_, l289_, l299_, l300_, l320_, l400_, l584_, l984_, l999_, l1023_, l1024_, l4095_, l6424_, l7008_, l10240_, l12345_, l32767_, l100000_, l1103515245_, l2000000000_, N_add, N_mul, up1_app, mI_wA, wA_wA, Option.bind_some, Option.bind_none, jn, fm_ck, fm_rv, fm_gI, fm_pI, fm_gR1, fm_gR2, fm_gR4, fm_gR5, fm_gR7, fm_gR14, fm_gR19, fm_gR21, fm_gR22, fm_gR23, fm_gR24, fm_gR25, fm_rd63, fm_wr63, fm_rd64, fm_wr64, fm_rd65, fm_wr65, fm_rd66, fm_wr66, fm_rd67, fm_wr67, fm_rd68, fm_wr68, fm_rd69, fm_wr69, fm_rd70, fm_wr70, fm_rd71, fm_wr71, fm_rd72, fm_wr72, fm_rd73, fm_wr73, fm_rd74, fm_wr74, nle1_, nle2_, nle3_, nle0_, nlt1_, nlt2_, nlt3_, nlt0_, neq10_, neq01_, neq20_, neq30_, neq21_, neq31_, neq12_, neq32_, neq00_, neq11_, if_true, if_false, N_lt, N_le, N_inj, N_m1, m1_N, m1_lt, m1_le, N_ltm, N_lem, m1_m1, pa_, ha_, hn, sr, show nh ≤ i from by omega]
  | succ k ih =>
    intro i n hi hk
    obtain ⟨n, rfl⟩ : ∃ n', n = n' + 1 := ⟨n - 1, by omega⟩
    have hlt : i < nh := by omega
    rw [FX8_freeHook_2]
    simp (disch := first | exact h | omega) only [↓m1_, l0_, l1_, l2_, l3_, l4_, l5_, l6_, l7_, l8_, l9_, l10_, l11_, l12_, l13_, l14_, l15_, l16_, l17_, l18_, l19_, l20_, l21_, l22_, l23_, l24_, l25_, l26_, l27_, l28_, l29_, l30_, l31_, l32_, l40_, l48_, l57_, l59_, l60_, l61_, l62_, l63_, l72_, l77_, l90_, l97_, l99_, l100_, l122_, l128_, l172_, l255_, l272_, l284_, l285_, l286_, l287_, l288_, l289_, l299_, l300_, l320_, l400_, l584_, l984_, l999_, l1023_, l1024_, l4095_, l6424_, l7008_, l10240_, l12345_, l32767_, l100000_, l1103515245_, l2000000000_, N_add, N_mul, up1_app, mI_wA, wA_wA, Option.bind_some, Option.bind_none, jn, fm_ck, fm_rv, fm_gI, fm_pI, fm_gR1, fm_gR2, fm_gR4, fm_gR5, fm_gR7, fm_gR14, fm_gR19, fm_gR21, fm_gR22, fm_gR23, fm_gR24, fm_gR25, fm_rd63, fm_wr63, fm_rd64, fm_wr64, fm_rd65, fm_wr65, fm_rd66, fm_wr66, fm_rd67, fm_wr67, fm_rd68, fm_wr68, fm_rd69, fm_wr69, fm_rd70, fm_wr70, fm_rd71, fm_wr71, fm_rd72, fm_wr72, fm_rd73, fm_wr73, fm_rd74, fm_wr74, nle1_, nle2_, nle3_, nle0_, nlt1_, nlt2_, nlt3_, nlt0_, neq10_, neq01_, neq20_, neq30_, neq21_, neq31_, neq12_, neq32_, neq00_, neq11_, if_true, if_false, N_lt, N_le, N_inj, N_m1, m1_N, m1_lt, m1_le, N_ltm, N_lem, m1_m1, pa_, ha_, hn, sr, show ¬ nh ≤ i from by omega, ih (i + 1) n]
    all_goals (try (repeat' split))
    all_goals first | (with_reducible rfl) | (simp only [*, if_true, if_false]; done) | (rename_i hh9; exact absurd hh9 (by decide)) | rfl | simp_all
theorem M_holders_4 {σ : Mm} {np : Nat} (h : FM σ) (hn : mI σ 63 3 = N np) (hn0 : np ≤ 10) (kx : Int32 → Mm → Option (Int32 × Mm)) (k : Nat) : ∀ (i n : Nat) (a : Int32), i + k = np → k < n → FX8_holders_4 62 n a (N i) σ kx = kx (fd (fun p a => a ||| (if PA (mI σ 63) p 3 = M1 then N 0 else bt p)) i k a) σ := by
  induction k with
  | zero =>
    intro i n a hi hk
    obtain ⟨n, rfl⟩ : ∃ n', n = n' + 1 := ⟨n - 1, by omega⟩
    rw [FX8_holders_4]
    simp (disch := first | exact h | omega) only [↓m1_, l0_, l1_, l2_, l3_, l4_, l5_, l6_, l7_, l8_, l9_, l10_, l11_, l12_, l13_, l14_, l15_, l16_, l17_, l18_, l19_, l20_, l21_, l22_, l23_, l24_, l25_, l26_, l27_, l28_, l29_, l30_, l31_, l32_, l40_, l48_, l57_, l59_, l60_, l61_, l62_, l63_, l72_, l77_, l90_, l97_, l99_, l100_, l122_, l128_, l172_, l255_, l272_, l284_, l285_, l286_, l287_, l288_, l289_, l299_, l300_, l320_, l400_, l584_, l984_, l999_, l1023_, l1024_, l4095_, l6424_, l7008_, l10240_, l12345_, l32767_, l100000_, l1103515245_, l2000000000_, N_add, N_mul, up1_app, mI_wA, wA_wA, Option.bind_some, Option.bind_none, jn, fm_ck, fm_rv, fm_gI, fm_pI, fm_gR1, fm_gR2, fm_gR4, fm_gR5, fm_gR7, fm_gR14, fm_gR19, fm_gR21, fm_gR22, fm_gR23, fm_gR24, fm_gR25, fm_rd63, fm_wr63, fm_rd64, fm_wr64, fm_rd65, fm_wr65, fm_rd66, fm_wr66, fm_rd67, fm_wr67, fm_rd68, fm_wr68, fm_rd69, fm_wr69, fm_rd70, fm_wr70, fm_rd71, fm_wr71, fm_rd72, fm_wr72, fm_rd73, fm_wr73, fm_rd74, fm_wr74, nle1_, nle2_, nle3_, nle0_, nlt1_, nlt2_, nlt3_, nlt0_, neq10_, neq01_, neq20_, neq30_, neq21_, neq31_, neq12_, neq32_, neq00_, neq11_, if_true, if_false, N_lt, N_le, N_inj, N_m1, m1_N, m1_lt, m1_le, N_ltm, N_lem, m1_m1, pa_, ha_, hn, fd, M_of, bt_, show np ≤ i from by omega]
  | succ k ih =>
    intro i n a hi hk
    obtain ⟨n, rfl⟩ : ∃ n', n = n' + 1 := ⟨n - 1, by omega⟩
    have hlt : i < np := by omega
    rw [FX8_holders_4]
    simp (disch := first | exact h | omega) only [↓m1_, l0_, l1_, l2_, l3_, l4_, l5_, l6_, l7_, l8_, l9_, l10_, l11_, l12_, l13_, l14_, l15_, l16_, l17_, l18_, l19_, l20_, l21_, l22_, l23_, l24_, l25_, l26_, l27_, l28_, l29_, l30_, l31_, l32_, l40_, l48_, l57_, l59_, l60_, l61_, l62_, l63_, l72_, l77_, l90_, l97_, l99_, l100_, l122_, l128_, l172_, l255_, l272_, l284_, l285_, l286_, l287_, l288_, l289_, l299_, l300_, l320_, l400_, l584_, l984_, l999_, l1023_, l1024_, l4095_, l6424_, l7008_, l10240_, l12345_, l32767_, l100000_, l1103515245_, l2000000000_, N_add, N_mul, up1_app, mI_wA, wA_wA, Option.bind_some, Option.bind_none, jn, fm_ck, fm_rv, fm_gI, fm_pI, fm_gR1, fm_gR2, fm_gR4, fm_gR5, fm_gR7, fm_gR14, fm_gR19, fm_gR21, fm_gR22, fm_gR23, fm_gR24, fm_gR25, fm_rd63, fm_wr63, fm_rd64, fm_wr64, fm_rd65, fm_wr65, fm_rd66, fm_wr66, fm_rd67, fm_wr67, fm_rd68, fm_wr68, fm_rd69, fm_wr69, fm_rd70, fm_wr70, fm_rd71, fm_wr71, fm_rd72, fm_wr72, fm_rd73, fm_wr73, fm_rd74, fm_wr74, nle1_, nle2_, nle3_, nle0_, nlt1_, nlt2_, nlt3_, nlt0_, neq10_, neq01_, neq20_, neq30_, neq21_, neq31_, neq12_, neq32_, neq00_, neq11_, if_true, if_false, N_lt, N_le, N_inj, N_m1, m1_N, m1_lt, m1_le, N_ltm, N_lem, m1_m1, pa_, ha_, hn, fd, M_of, bt_, show ¬ np ≤ i from by omega, ih (i + 1) n]
    all_goals (try (repeat' split))
    all_goals first | (with_reducible rfl) | (simp only [*, if_true, if_false]; done) | (rename_i hh9; exact absurd hh9 (by decide)) | rfl | simp_all
section
variable {np nh : Nat} {σ : Mm}
theorem M_free (h : FM σ) (hn : mI σ 63 4 = N nh) (hn0 : nh ≤ 12) : FX8_freeHook 62 σ = some (oN (aHookOf (mI σ 63) nh M1), σ) := by
  unfold FX8_freeHook aHookOf
  simp only [↓m1_, l0_, l1_, l2_, l3_, l4_, l5_, l6_, l7_, l8_, l9_, l10_, l11_, l12_, l13_, l14_, l15_, l16_, l17_, l18_, l19_, l20_, l21_, l22_, l23_, l24_, l25_, l26_, l27_, l28_, l29_, l30_, l31_, l32_, l40_, l48_, l57_, l59_, l60_, l61_, l62_, l63_, l72_, l77_, l90_, l97_, l99_, l100_, l122_, l128_, l172_, l255_, l272_, l284_, l285_, l286_, l287_, l288_, l289_, l299_, l300_, l320_, l400_, l584_, l984_, l999_, l1023_, l1024_, l4095_, l6424_, l7008_, l10240_, l12345_, l32767_, l100000_, l1103515245_, l2000000000_]
  rw [M_free_2 h hn hn0 _ _ nh 0 fu (by omega) (by unfold fu; omega)]
  cases sr (fun h => HA (mI σ 63) h = M1) 0 nh <;> rfl
theorem M_holders (h : FM σ) (hn : mI σ 63 3 = N np) (hn0 : np ≤ 10) : FX8_holders 62 σ = some (aHolders (mI σ 63) np, σ) := by
  unfold FX8_holders aHolders
  simp only [↓m1_, l0_, l1_, l2_, l3_, l4_, l5_, l6_, l7_, l8_, l9_, l10_, l11_, l12_, l13_, l14_, l15_, l16_, l17_, l18_, l19_, l20_, l21_, l22_, l23_, l24_, l25_, l26_, l27_, l28_, l29_, l30_, l31_, l32_, l40_, l48_, l57_, l59_, l60_, l61_, l62_, l63_, l72_, l77_, l90_, l97_, l99_, l100_, l122_, l128_, l172_, l255_, l272_, l284_, l285_, l286_, l287_, l288_, l289_, l299_, l300_, l320_, l400_, l584_, l984_, l999_, l1023_, l1024_, l4095_, l6424_, l7008_, l10240_, l12345_, l32767_, l100000_, l1103515245_, l2000000000_]
  rw [M_holders_4 h hn hn0 _ np 0 fu _ (by omega) (by unfold fu; omega)]
end
