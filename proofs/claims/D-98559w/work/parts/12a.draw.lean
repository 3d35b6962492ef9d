/-! THE PLAIN LAW, 38: draws -/
set_option maxRecDepth 100000
def sd (s : Int32) : Int32 := N 1103515245 * s + N 12345
def dr (s : Int32) : Int32 := ush s (N 16) &&& N 32767
section
variable {b np : Nat} {A : Nat → Int32} {σ : Mm}
theorem W_draw {y v : Int32} (hW : FW b σ) (hr : RW b A np σ) (hy : rm_ (dr (sd (A 9))) y = some v) : FX2_draw b y σ = some (v, wA σ b (up1 (mI σ b) 7 (sd (A 9)))) := by
  have h := hW
  unfold dr sd at hy
  unfold FX2_draw
  simp (disch := first | omega | first | omega | ((repeat (first | apply FW_w)); exact h)) only [↓m1_, l0_, l1_, l2_, l3_, l4_, l5_, l6_, l7_, l8_, l9_, l10_, l11_, l12_, l13_, l14_, l15_, l16_, l17_, l18_, l19_, l20_, l21_, l22_, l23_, l24_, l25_, l26_, l27_, l28_, l29_, l30_, l31_, l32_, l40_, l48_, l57_, l59_, l60_, l61_, l62_, l63_, l72_, l77_, l90_, l97_, l99_, l100_, l122_, l128_, l172_, l255_, l272_, l284_, l285_, l286_, l287_, l288_, l289_, l299_, l300_, l320_, l400_, l584_, l984_, l999_, l1023_, l1024_, l4095_, l6424_, l7008_, l10240_, l12345_, l32767_, l100000_, l1103515245_, l2000000000_, N_add, N_mul, up1_app, mI_wA, wA_wA, Option.bind_some, Option.bind_none, jn, fw_ck, fw_rv, fw_gI, fw_gL, fw_pI, fw_gR8, fw_rd1, fw_wr1, fw_al1, fw_gR9, fw_rd2, fw_wr2, fw_al2, fw_gR10, fw_rd3, fw_wr3, fw_al3, fw_gR11, fw_rd4, fw_wr4, fw_al4, fw_gR12, fw_rd5, fw_wr5, fw_al5, fw_gR13, fw_rd6, fw_wr6, fw_al6, fw_gR14, fw_rd7, fw_wr7, fw_al7, fw_gR15, fw_rd8, fw_wr8, fw_al8, fw_gR16, fw_rd9, fw_wr9, fw_al9, fw_gR17, fw_rd10, fw_wr10, fw_al10, fw_gR18, fw_rd11, fw_wr11, fw_al11, nle1_, nle2_, nle3_, nle0_, nlt1_, nlt2_, nlt3_, nlt0_, neq10_, neq01_, neq20_, neq30_, neq21_, neq31_, neq12_, neq32_, neq00_, neq11_, if_true, if_false, N_lt, N_le, N_inj, N_m1, m1_N, m1_lt, m1_le, N_ltm, N_lem, m1_m1, rw7 hr, hy]
  rfl
theorem M_draw {y v : Int32} (h : FM σ) (hy : rm_ (dr (sd (mI σ 63 9))) y = some v) : FX8_draw 62 y σ = some (v, wA σ 63 (up1 (mI σ 63) 9 (sd (mI σ 63 9)))) := by
  unfold dr sd at hy
  unfold FX8_draw
  simp (disch := first | omega | ((repeat (first | apply FM_t | apply FM_o | apply FM_w)); exact h)) only [↓m1_, l0_, l1_, l2_, l3_, l4_, l5_, l6_, l7_, l8_, l9_, l10_, l11_, l12_, l13_, l14_, l15_, l16_, l17_, l18_, l19_, l20_, l21_, l22_, l23_, l24_, l25_, l26_, l27_, l28_, l29_, l30_, l31_, l32_, l40_, l48_, l57_, l59_, l60_, l61_, l62_, l63_, l72_, l77_, l90_, l97_, l99_, l100_, l122_, l128_, l172_, l255_, l272_, l284_, l285_, l286_, l287_, l288_, l289_, l299_, l300_, l320_, l400_, l584_, l984_, l999_, l1023_, l1024_, l4095_, l6424_, l7008_, l10240_, l12345_, l32767_, l100000_, l1103515245_, l2000000000_, N_add, N_mul, up1_app, mI_wA, wA_wA, Option.bind_some, Option.bind_none, jn, fm_ck, fm_rv, fm_gI, fm_pI, fm_gR1, fm_gR2, fm_gR4, fm_gR5, fm_gR7, fm_gR14, fm_gR19, fm_gR21, fm_gR22, fm_gR23, fm_gR24, fm_gR25, fm_rd63, fm_wr63, fm_rd64, fm_wr64, fm_rd65, fm_wr65, fm_rd66, fm_wr66, fm_rd67, fm_wr67, fm_rd68, fm_wr68, fm_rd69, fm_wr69, fm_rd70, fm_wr70, fm_rd71, fm_wr71, fm_rd72, fm_wr72, fm_rd73, fm_wr73, fm_rd74, fm_wr74, nle1_, nle2_, nle3_, nle0_, nlt1_, nlt2_, nlt3_, nlt0_, neq10_, neq01_, neq20_, neq30_, neq21_, neq31_, neq12_, neq32_, neq00_, neq11_, if_true, if_false, N_lt, N_le, N_inj, N_m1, m1_N, m1_lt, m1_le, N_ltm, N_lem, m1_m1, hy]
  rfl
end
