/-! THE PLAIN LAW, 22: the model's acts -/
set_option maxRecDepth 100000
theorem upT_PA {A : Nat → Int32} {a q w : Nat} {x : Int32} (hq : q < 10) (hw : w < 6) (ha : 172 ≤ a) : PA (up1 A a x) q w = PA A q w := by unfold PA up1; rw [if_neg (by omega)]
section
variable {σ : Mm}
theorem M_hands {p h : Nat} (hF : FM σ) (hp : p < 10) (hh : h < 12) : FX8_handsIn 62 (N p) (N h) σ = some (PA (mI σ 63) p 2, wA σ 63 (aHands (mI σ 63) p h)) := by
  have h := hF
  unfold FX8_handsIn
  simp (disch := first | omega | ((repeat (first | apply FM_t | apply FM_o | apply FM_w)); exact h)) only [↓m1_, l0_, l1_, l2_, l3_, l4_, l5_, l6_, l7_, l8_, l9_, l10_, l11_, l12_, l13_, l14_, l15_, l16_, l17_, l18_, l19_, l20_, l21_, l22_, l23_, l24_, l25_, l26_, l27_, l28_, l29_, l30_, l31_, l32_, l40_, l48_, l57_, l59_, l60_, l61_, l62_, l63_, l72_, l77_, l90_, l97_, l99_, l100_, l122_, l128_, l172_, l255_, l272_, l284_, l285_, l286_, l287_, l288_, l289_, l299_, l300_, l320_, l400_, l584_, l984_, l999_, l1023_, l1024_, l4095_, l6424_, l7008_, l10240_, l12345_, l32767_, l100000_, l1103515245_, l2000000000_, N_add, N_mul, up1_app, mI_wA, wA_wA, Option.bind_some, Option.bind_none, jn, fm_ck, fm_rv, fm_gI, fm_pI, fm_gR1, fm_gR2, fm_gR4, fm_gR5, fm_gR7, fm_gR14, fm_gR19, fm_gR21, fm_gR22, fm_gR23, fm_gR24, fm_gR25, fm_rd63, fm_wr63, fm_rd64, fm_wr64, fm_rd65, fm_wr65, fm_rd66, fm_wr66, fm_rd67, fm_wr67, fm_rd68, fm_wr68, fm_rd69, fm_wr69, fm_rd70, fm_wr70, fm_rd71, fm_wr71, fm_rd72, fm_wr72, fm_rd73, fm_wr73, fm_rd74, fm_wr74, nle1_, nle2_, nle3_, nle0_, nlt1_, nlt2_, nlt3_, nlt0_, neq10_, neq01_, neq20_, neq30_, neq21_, neq31_, neq12_, neq32_, neq00_, neq11_, if_true, if_false, N_lt, N_le, N_inj, N_m1, m1_N, m1_lt, m1_le, N_ltm, N_lem, m1_m1, pa_, ha_, M_of, M_has2, M_writes]
  rfl
theorem M_gets {p t : Nat} (hF : FM σ) (hp : p < 10) (hh : t < 12) (ht : PA (mI σ 63) p 3 = N t) : FX8_gets 62 (N p) σ = some (HA (mI σ 63) t, wA σ 63 (aGets (mI σ 63) p t)) := by
  have h := hF
  unfold FX8_gets
  simp (disch := first | omega | ((repeat (first | apply FM_t | apply FM_o | apply FM_w)); exact h)) only [↓m1_, l0_, l1_, l2_, l3_, l4_, l5_, l6_, l7_, l8_, l9_, l10_, l11_, l12_, l13_, l14_, l15_, l16_, l17_, l18_, l19_, l20_, l21_, l22_, l23_, l24_, l25_, l26_, l27_, l28_, l29_, l30_, l31_, l32_, l40_, l48_, l57_, l59_, l60_, l61_, l62_, l63_, l72_, l77_, l90_, l97_, l99_, l100_, l122_, l128_, l172_, l255_, l272_, l284_, l285_, l286_, l287_, l288_, l289_, l299_, l300_, l320_, l400_, l584_, l984_, l999_, l1023_, l1024_, l4095_, l6424_, l7008_, l10240_, l12345_, l32767_, l100000_, l1103515245_, l2000000000_, N_add, N_mul, up1_app, mI_wA, wA_wA, Option.bind_some, Option.bind_none, jn, fm_ck, fm_rv, fm_gI, fm_pI, fm_gR1, fm_gR2, fm_gR4, fm_gR5, fm_gR7, fm_gR14, fm_gR19, fm_gR21, fm_gR22, fm_gR23, fm_gR24, fm_gR25, fm_rd63, fm_wr63, fm_rd64, fm_wr64, fm_rd65, fm_wr65, fm_rd66, fm_wr66, fm_rd67, fm_wr67, fm_rd68, fm_wr68, fm_rd69, fm_wr69, fm_rd70, fm_wr70, fm_rd71, fm_wr71, fm_rd72, fm_wr72, fm_rd73, fm_wr73, fm_rd74, fm_wr74, nle1_, nle2_, nle3_, nle0_, nlt1_, nlt2_, nlt3_, nlt0_, neq10_, neq01_, neq20_, neq30_, neq21_, neq31_, neq12_, neq32_, neq00_, neq11_, if_true, if_false, N_lt, N_le, N_inj, N_m1, m1_N, m1_lt, m1_le, N_ltm, N_lem, m1_m1, pa_, ha_, M_of, M_has2, M_writes, ht]
  rfl
theorem M_mixes {p q : Nat} (hF : FM σ) (hp : p < 10) (hq : q < 10) (hpq : p ≠ q) : FX8_mixes 62 (N p) (N q) σ = some (wA σ 63 (aMix (mI σ 63) p q)) := by
  have h := hF
  have hx : (if p < q then p else q) < 10 := by split <;> omega
  have hy : (if p < q then q else p) < 10 := by split <;> omega
  have e1 : (if N q ≤ N p then N q else N p) = N (if p < q then p else q) := by
    by_cases h1 : p < q
    · rw [if_pos h1, if_neg (by rw [N_le (by omega) (by omega)]; omega)]
    · rw [if_neg h1, if_pos (by rw [N_le (by omega) (by omega)]; omega)]
  have e2 : (if N p ≤ N q then N q else N p) = N (if p < q then q else p) := by
    by_cases h1 : p < q
    · rw [if_pos h1, if_pos (by rw [N_le (by omega) (by omega)]; omega)]
    · rw [if_neg h1, if_neg (by rw [N_le (by omega) (by omega)]; omega)]
  unfold FX8_mixes
  simp (disch := first | omega | ((repeat (first | apply FM_t | apply FM_o | apply FM_w)); exact h)) only [↓m1_, l0_, l1_, l2_, l3_, l4_, l5_, l6_, l7_, l8_, l9_, l10_, l11_, l12_, l13_, l14_, l15_, l16_, l17_, l18_, l19_, l20_, l21_, l22_, l23_, l24_, l25_, l26_, l27_, l28_, l29_, l30_, l31_, l32_, l40_, l48_, l57_, l59_, l60_, l61_, l62_, l63_, l72_, l77_, l90_, l97_, l99_, l100_, l122_, l128_, l172_, l255_, l272_, l284_, l285_, l286_, l287_, l288_, l289_, l299_, l300_, l320_, l400_, l584_, l984_, l999_, l1023_, l1024_, l4095_, l6424_, l7008_, l10240_, l12345_, l32767_, l100000_, l1103515245_, l2000000000_, N_add, N_mul, up1_app, mI_wA, wA_wA, Option.bind_some, Option.bind_none, jn, fm_ck, fm_rv, fm_gI, fm_pI, fm_gR1, fm_gR2, fm_gR4, fm_gR5, fm_gR7, fm_gR14, fm_gR19, fm_gR21, fm_gR22, fm_gR23, fm_gR24, fm_gR25, fm_rd63, fm_wr63, fm_rd64, fm_wr64, fm_rd65, fm_wr65, fm_rd66, fm_wr66, fm_rd67, fm_wr67, fm_rd68, fm_wr68, fm_rd69, fm_wr69, fm_rd70, fm_wr70, fm_rd71, fm_wr71, fm_rd72, fm_wr72, fm_rd73, fm_wr73, fm_rd74, fm_wr74, if_true, M_of, M_has2, M_lesser, M_greater, e1, e2, M_writes, uP_, PA_L, uP_PAn]
  rfl
theorem M_meets {p q : Nat} (hF : FM σ) (hp : p < 10) (hq : q < 10) (hpq : p ≠ q) : FX8_meets 62 (N p) (N q) σ = some (aBoth (mI σ 63) p q, wA σ 63 (aMeets (mI σ 63) p q)) := by
  have h := hF
  unfold FX8_meets
  simp (disch := first | omega | ((repeat (first | apply FM_t | apply FM_o | apply FM_w)); exact h)) only [↓m1_, l0_, l1_, l2_, l3_, l4_, l5_, l6_, l7_, l8_, l9_, l10_, l11_, l12_, l13_, l14_, l15_, l16_, l17_, l18_, l19_, l20_, l21_, l22_, l23_, l24_, l25_, l26_, l27_, l28_, l29_, l30_, l31_, l32_, l40_, l48_, l57_, l59_, l60_, l61_, l62_, l63_, l72_, l77_, l90_, l97_, l99_, l100_, l122_, l128_, l172_, l255_, l272_, l284_, l285_, l286_, l287_, l288_, l289_, l299_, l300_, l320_, l400_, l584_, l984_, l999_, l1023_, l1024_, l4095_, l6424_, l7008_, l10240_, l12345_, l32767_, l100000_, l1103515245_, l2000000000_, N_add, N_mul, up1_app, mI_wA, wA_wA, Option.bind_some, Option.bind_none, jn, fm_ck, fm_rv, fm_gI, fm_pI, fm_gR1, fm_gR2, fm_gR4, fm_gR5, fm_gR7, fm_gR14, fm_gR19, fm_gR21, fm_gR22, fm_gR23, fm_gR24, fm_gR25, fm_rd63, fm_wr63, fm_rd64, fm_wr64, fm_rd65, fm_wr65, fm_rd66, fm_wr66, fm_rd67, fm_wr67, fm_rd68, fm_wr68, fm_rd69, fm_wr69, fm_rd70, fm_wr70, fm_rd71, fm_wr71, fm_rd72, fm_wr72, fm_rd73, fm_wr73, fm_rd74, fm_wr74, if_true, M_of, M_has2, bt_, nb_, uP_, upT_PA, uP_PAs, uP_PAn]
  unfold aMeets uT
  rw [← Nat.add_assoc, ← Nat.add_assoc]
  rfl
end
