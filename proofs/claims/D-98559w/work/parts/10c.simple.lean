/-! THE PLAIN LAW, 3: the model's small methods -/
set_option maxRecDepth 100000
theorem M_isIn_in {a b c : Nat} {σ : Mm} (h1 : b ≤ a) (h2 : a ≤ c) (hc : c < 2147483648) : FX8_isIn (N a) (N b) (N c) σ = some (N 1, σ) := by
  unfold FX8_isIn
  rw [if_neg (by rw [N_lt (by omega) (by omega)]; omega), if_neg (by rw [N_lt (by omega) (by omega)]; omega), l1_, rZ_1]
theorem M_isIn_out {x : Int32} {b : Nat} {y : Int32} {σ : Mm} (h : x < N b ∨ y < x) : FX8_isIn x (N b) y σ = some (N 0, σ) := by
  unfold FX8_isIn
  by_cases h1 : x < N b
  · rw [if_pos h1, l0_, rZ_0]
  · rw [if_neg h1, if_pos (h.resolve_left h1), l0_, rZ_0]
theorem M_isOf {x y : Int32} {σ : Mm} : FX8_isOf x y σ = some ((if ((x >>> (y &&& N 31)) &&& N 1) = N 1 then N 1 else N 0), σ) := by
  unfold FX8_isOf
  simp only [↓m1_, l0_, l1_, l2_, l3_, l4_, l5_, l6_, l7_, l8_, l9_, l10_, l11_, l12_, l13_, l14_, l15_, l16_, l17_, l18_, l19_, l20_, l21_, l22_, l23_, l24_, l25_, l26_, l27_, l28_, l29_, l30_, l31_, l32_, l40_, l48_, l57_, l59_, l60_, l61_, l62_, l63_, l72_, l77_, l90_, l97_, l99_, l100_, l122_, l128_, l172_, l255_, l272_, l284_, l285_, l286_, l287_, l288_, l289_, l299_, l300_, l320_, l400_, l584_, l984_, l999_, l1023_, l1024_, l4095_, l6424_, l7008_, l10240_, l12345_, l32767_, l100000_, l1103515245_, l2000000000_, rZ_0, rZ_1]
  split <;> simp only [*, if_true, if_false]
theorem M_lesser {x y : Int32} {σ : Mm} : FX8_lesser x y σ = some ((if y ≤ x then y else x), σ) := by
  unfold FX8_lesser; split <;> rfl
theorem M_greater {x y : Int32} {σ : Mm} : FX8_greater x y σ = some ((if x ≤ y then y else x), σ) := by
  unfold FX8_greater; split <;> rfl
theorem M_isPerson_in {σ : Mm} {a n : Nat} (h : FM σ) (hn : mI σ 63 3 = N n) (hn' : n ≤ 10) (ha : a < n) : FX8_isPerson 62 (N a) σ = some (N 1, σ) := by
  unfold FX8_isPerson
  simp (disch := first | exact h | omega) only [↓m1_, l0_, l1_, l2_, l3_, l4_, l5_, l6_, l7_, l8_, l9_, l10_, l11_, l12_, l13_, l14_, l15_, l16_, l17_, l18_, l19_, l20_, l21_, l22_, l23_, l24_, l25_, l26_, l27_, l28_, l29_, l30_, l31_, l32_, l40_, l48_, l57_, l59_, l60_, l61_, l62_, l63_, l72_, l77_, l90_, l97_, l99_, l100_, l122_, l128_, l172_, l255_, l272_, l284_, l285_, l286_, l287_, l288_, l289_, l299_, l300_, l320_, l400_, l584_, l984_, l999_, l1023_, l1024_, l4095_, l6424_, l7008_, l10240_, l12345_, l32767_, l100000_, l1103515245_, l2000000000_, N_add, N_mul, up1_app, mI_wA, wA_wA, Option.bind_some, Option.bind_none, jn, fm_ck, fm_rv, fm_gI, fm_pI, fm_gR1, fm_gR2, fm_gR4, fm_gR5, fm_gR7, fm_gR14, fm_gR19, fm_gR21, fm_gR22, fm_gR23, fm_gR24, fm_gR25, fm_rd63, fm_wr63, fm_rd64, fm_wr64, fm_rd65, fm_wr65, fm_rd66, fm_wr66, fm_rd67, fm_wr67, fm_rd68, fm_wr68, fm_rd69, fm_wr69, fm_rd70, fm_wr70, fm_rd71, fm_wr71, fm_rd72, fm_wr72, fm_rd73, fm_wr73, fm_rd74, fm_wr74, hn, N_sub, M_isIn_in, rZ_1]
theorem M_isPerson_out {σ : Mm} {x : Int32} {n : Nat} (h : FM σ) (hn : mI σ 63 3 = N n) (hn' : n ≤ 10) (hx : x < N 0 ∨ N n ≤ x) : FX8_isPerson 62 x σ = some (N 0, σ) := by
  have hx' : x < N 0 ∨ N n - N 1 < x := hx.imp id fun hx => by
    rw [Int32.lt_iff_toInt_lt]
    rw [Int32.le_iff_toInt_le, N_int (by omega)] at hx
    rcases Nat.eq_zero_or_pos n with rfl | h0
    · have : (N 0 - N 1).toInt = -1 := by decide
      omega
    · rw [N_sub h0, N_int (by omega)]; omega
  unfold FX8_isPerson
  simp (disch := first | exact h | exact hx' | omega) only [↓m1_, l0_, l1_, l2_, l3_, l4_, l5_, l6_, l7_, l8_, l9_, l10_, l11_, l12_, l13_, l14_, l15_, l16_, l17_, l18_, l19_, l20_, l21_, l22_, l23_, l24_, l25_, l26_, l27_, l28_, l29_, l30_, l31_, l32_, l40_, l48_, l57_, l59_, l60_, l61_, l62_, l63_, l72_, l77_, l90_, l97_, l99_, l100_, l122_, l128_, l172_, l255_, l272_, l284_, l285_, l286_, l287_, l288_, l289_, l299_, l300_, l320_, l400_, l584_, l984_, l999_, l1023_, l1024_, l4095_, l6424_, l7008_, l10240_, l12345_, l32767_, l100000_, l1103515245_, l2000000000_, N_add, N_mul, up1_app, mI_wA, wA_wA, Option.bind_some, Option.bind_none, jn, fm_ck, fm_rv, fm_gI, fm_pI, fm_gR1, fm_gR2, fm_gR4, fm_gR5, fm_gR7, fm_gR14, fm_gR19, fm_gR21, fm_gR22, fm_gR23, fm_gR24, fm_gR25, fm_rd63, fm_wr63, fm_rd64, fm_wr64, fm_rd65, fm_wr65, fm_rd66, fm_wr66, fm_rd67, fm_wr67, fm_rd68, fm_wr68, fm_rd69, fm_wr69, fm_rd70, fm_wr70, fm_rd71, fm_wr71, fm_rd72, fm_wr72, fm_rd73, fm_wr73, fm_rd74, fm_wr74, hn, M_isIn_out, rZ_0]
theorem M_isHook_in {σ : Mm} {a n : Nat} (h : FM σ) (hn : mI σ 63 4 = N n) (hn' : n ≤ 12) (ha : a < n) : FX8_isHook 62 (N a) σ = some (N 1, σ) := by
  unfold FX8_isHook
  simp (disch := first | exact h | omega) only [↓m1_, l0_, l1_, l2_, l3_, l4_, l5_, l6_, l7_, l8_, l9_, l10_, l11_, l12_, l13_, l14_, l15_, l16_, l17_, l18_, l19_, l20_, l21_, l22_, l23_, l24_, l25_, l26_, l27_, l28_, l29_, l30_, l31_, l32_, l40_, l48_, l57_, l59_, l60_, l61_, l62_, l63_, l72_, l77_, l90_, l97_, l99_, l100_, l122_, l128_, l172_, l255_, l272_, l284_, l285_, l286_, l287_, l288_, l289_, l299_, l300_, l320_, l400_, l584_, l984_, l999_, l1023_, l1024_, l4095_, l6424_, l7008_, l10240_, l12345_, l32767_, l100000_, l1103515245_, l2000000000_, N_add, N_mul, up1_app, mI_wA, wA_wA, Option.bind_some, Option.bind_none, jn, fm_ck, fm_rv, fm_gI, fm_pI, fm_gR1, fm_gR2, fm_gR4, fm_gR5, fm_gR7, fm_gR14, fm_gR19, fm_gR21, fm_gR22, fm_gR23, fm_gR24, fm_gR25, fm_rd63, fm_wr63, fm_rd64, fm_wr64, fm_rd65, fm_wr65, fm_rd66, fm_wr66, fm_rd67, fm_wr67, fm_rd68, fm_wr68, fm_rd69, fm_wr69, fm_rd70, fm_wr70, fm_rd71, fm_wr71, fm_rd72, fm_wr72, fm_rd73, fm_wr73, fm_rd74, fm_wr74, hn, N_sub, M_isIn_in, rZ_1]
theorem M_isHook_out {σ : Mm} {x : Int32} {n : Nat} (h : FM σ) (hn : mI σ 63 4 = N n) (hn' : n ≤ 12) (hx : x < N 0 ∨ N n ≤ x) : FX8_isHook 62 x σ = some (N 0, σ) := by
  have hx' : x < N 0 ∨ N n - N 1 < x := hx.imp id fun hx => by
    rw [Int32.lt_iff_toInt_lt]
    rw [Int32.le_iff_toInt_le, N_int (by omega)] at hx
    rcases Nat.eq_zero_or_pos n with rfl | h0
    · have : (N 0 - N 1).toInt = -1 := by decide
      omega
    · rw [N_sub h0, N_int (by omega)]; omega
  unfold FX8_isHook
  simp (disch := first | exact h | exact hx' | omega) only [↓m1_, l0_, l1_, l2_, l3_, l4_, l5_, l6_, l7_, l8_, l9_, l10_, l11_, l12_, l13_, l14_, l15_, l16_, l17_, l18_, l19_, l20_, l21_, l22_, l23_, l24_, l25_, l26_, l27_, l28_, l29_, l30_, l31_, l32_, l40_, l48_, l57_, l59_, l60_, l61_, l62_, l63_, l72_, l77_, l90_, l97_, l99_, l100_, l122_, l128_, l172_, l255_, l272_, l284_, l285_, l286_, l287_, l288_, l289_, l299_, l300_, l320_, l400_, l584_, l984_, l999_, l1023_, l1024_, l4095_, l6424_, l7008_, l10240_, l12345_, l32767_, l100000_, l1103515245_, l2000000000_, N_add, N_mul, up1_app, mI_wA, wA_wA, Option.bind_some, Option.bind_none, jn, fm_ck, fm_rv, fm_gI, fm_pI, fm_gR1, fm_gR2, fm_gR4, fm_gR5, fm_gR7, fm_gR14, fm_gR19, fm_gR21, fm_gR22, fm_gR23, fm_gR24, fm_gR25, fm_rd63, fm_wr63, fm_rd64, fm_wr64, fm_rd65, fm_wr65, fm_rd66, fm_wr66, fm_rd67, fm_wr67, fm_rd68, fm_wr68, fm_rd69, fm_wr69, fm_rd70, fm_wr70, fm_rd71, fm_wr71, fm_rd72, fm_wr72, fm_rd73, fm_wr73, fm_rd74, fm_wr74, hn, M_isIn_out, rZ_0]
