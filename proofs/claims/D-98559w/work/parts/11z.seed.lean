/-! THE PLAIN LAW, 37: the fault, the seed -/
set_option maxRecDepth 100000
section
variable {b np nh n : Nat} {A : Nat → Int32} {σ : Mm}
theorem q_fault (K : Co np nh σ) (hf : mI σ 37 5 = mI σ 62 12) : QN (FX1_fault 0) (FX8_fault 62) σ := by
  have hC := K.c; have h := K.m
  refine ⟨mI σ 62 12, σ, thr_ σ 0, ?_, ?_, thr_k⟩
  · unfold FX1_fault
    simp (disch := first | omega | ((repeat (first | apply FC_t | apply FC_o | apply FC_w)); exact hC)) only [↓m1_, l0_, l1_, l2_, l3_, l4_, l5_, l6_, l7_, l8_, l9_, l10_, l11_, l12_, l13_, l14_, l15_, l16_, l17_, l18_, l19_, l20_, l21_, l22_, l23_, l24_, l25_, l26_, l27_, l28_, l29_, l30_, l31_, l32_, l40_, l48_, l57_, l59_, l60_, l61_, l62_, l63_, l72_, l77_, l90_, l97_, l99_, l100_, l122_, l128_, l172_, l255_, l272_, l284_, l285_, l286_, l287_, l288_, l289_, l299_, l300_, l320_, l400_, l584_, l984_, l999_, l1023_, l1024_, l4095_, l6424_, l7008_, l10240_, l12345_, l32767_, l100000_, l1103515245_, l2000000000_, N_add, N_mul, up1_app, mI_wA, wA_wA, Option.bind_some, Option.bind_none, jn, fc_ck0, fc_rv0, fc_gI0, fc_pI0, fc_ck37, fc_rv37, fc_gI37, fc_pI37, fc_ck39, fc_rv39, fc_gI39, fc_pI39, fc_ck40, fc_rv40, fc_gI40, fc_pI40, fc_ck41, fc_rv41, fc_gI41, fc_pI41, fc_ck44, fc_rv44, fc_gI44, fc_pI44, fc_ck47, fc_rv47, fc_gI47, fc_pI47, fc_rd38, fc_wr38, fc_rd42, fc_wr42, fc_rd43, fc_wr43, fc_rd45, fc_wr45, fc_rd46, fc_wr46, fc_rd48, fc_wr48, fc_rd49, fc_wr49, fc_rd75, fc_wr75, fc_gR0_0, fc_gR0_1, fc_gR0_2, fc_gR0_4, fc_gR0_5, fc_gR0_6, fc_gR0_7, fc_gR0_8, fc_gR0_9, fc_gR0_10, fc_gR37_0, fc_gR41_0, fc_gR41_1, fc_gR41_3, fc_gR44_0, fc_gR44_1, fc_gR44_2, fc_gR47_0, fc_gR47_1, fc_gR47_3, w1_ck, w1_rv, w1_gI, w1_pI, w1_gL, w1_gR8, w1_rd1, w1_wr1, w1_gR9, w1_rd2, w1_wr2, w1_gR10, w1_rd3, w1_wr3, w1_gR11, w1_rd4, w1_wr4, w1_gR12, w1_rd5, w1_wr5, w1_gR13, w1_rd6, w1_wr6, w1_gR14, w1_rd7, w1_wr7, w1_gR15, w1_rd8, w1_wr8, w1_gR16, w1_rd9, w1_wr9, w1_gR17, w1_rd10, w1_wr10, w1_gR18, w1_rd11, w1_wr11, nle1_, nle2_, nle3_, nle0_, nlt1_, nlt2_, nlt3_, nlt0_, neq10_, neq01_, neq20_, neq30_, neq21_, neq31_, neq12_, neq32_, neq00_, neq11_, if_true, if_false, N_lt, N_le, N_inj, N_m1, m1_N, m1_lt, m1_le, N_ltm, N_lem, m1_m1, hf]
  · unfold FX8_fault
    simp (disch := first | omega | ((repeat (first | apply FM_t | apply FM_o | apply FM_w)); exact h)) only [↓m1_, l0_, l1_, l2_, l3_, l4_, l5_, l6_, l7_, l8_, l9_, l10_, l11_, l12_, l13_, l14_, l15_, l16_, l17_, l18_, l19_, l20_, l21_, l22_, l23_, l24_, l25_, l26_, l27_, l28_, l29_, l30_, l31_, l32_, l40_, l48_, l57_, l59_, l60_, l61_, l62_, l63_, l72_, l77_, l90_, l97_, l99_, l100_, l122_, l128_, l172_, l255_, l272_, l284_, l285_, l286_, l287_, l288_, l289_, l299_, l300_, l320_, l400_, l584_, l984_, l999_, l1023_, l1024_, l4095_, l6424_, l7008_, l10240_, l12345_, l32767_, l100000_, l1103515245_, l2000000000_, N_add, N_mul, up1_app, mI_wA, wA_wA, Option.bind_some, Option.bind_none, jn, fm_ck, fm_rv, fm_gI, fm_pI, fm_gR1, fm_gR2, fm_gR4, fm_gR5, fm_gR7, fm_gR14, fm_gR19, fm_gR21, fm_gR22, fm_gR23, fm_gR24, fm_gR25, fm_rd63, fm_wr63, fm_rd64, fm_wr64, fm_rd65, fm_wr65, fm_rd66, fm_wr66, fm_rd67, fm_wr67, fm_rd68, fm_wr68, fm_rd69, fm_wr69, fm_rd70, fm_wr70, fm_rd71, fm_wr71, fm_rd72, fm_wr72, fm_rd73, fm_wr73, fm_rd74, fm_wr74, nle1_, nle2_, nle3_, nle0_, nlt1_, nlt2_, nlt3_, nlt0_, neq10_, neq01_, neq20_, neq30_, neq21_, neq31_, neq12_, neq32_, neq00_, neq11_, if_true, if_false, N_lt, N_le, N_inj, N_m1, m1_N, m1_lt, m1_le, N_ltm, N_lem, m1_m1, pa_, ha_, thr_w]
    rfl
/-- the hour (3, 5) and the seed (7, 9) -/
theorem RW_fld {k j : Nat} {x : Int32} (hk : k = 3 ∧ j = 5 ∨ k = 7 ∧ j = 9) (hn : np ≤ 10) (hr : RW b A np σ) : RW b (up1 A j x) np (wA σ b (up1 (mI σ b) k x)) := by
  have o : ∀ i, 0 < i → mI (wA σ b (up1 (mI σ b) k x)) (b + i) = mI σ (b + i) := fun i hi => if_neg (by omega)
  have o0 : mI (wA σ b (up1 (mI σ b) k x)) b = up1 (mI σ b) k x := if_pos rfl
  have f : ∀ i, i ≠ j → up1 A j x i = A i := fun i hi => if_neg hi
  have fP : ∀ q w, q < 10 → w < 6 → PA (up1 A j x) q w = PA A q w := fun q w hq hw => f _ (by omega)
  obtain ⟨h1, h2, h3, h4, h5, h6⟩ := hr
  refine ⟨?_, fun q hq => ?_, fun i hi => ?_, fun i hi => ?_, fun i hi => ?_, ?_⟩
  · rw [o0]
    obtain ⟨g0, g1, g2, g3, g4, g5, g6, g7⟩ := h1
    rcases hk with ⟨rfl, rfl⟩ | ⟨rfl, rfl⟩
    · exact ⟨g0, g1, g2, rfl, g4, g5, g6, g7⟩
    · exact ⟨g0, g1, g2, g3, g4, g5, g6, rfl⟩
  · rw [o 1 (by omega), o 2 (by omega), o 3 (by omega), o 4 (by omega), o 5 (by omega), o 6 (by omega), fP q _ hq (by omega), fP q _ hq (by omega), fP q _ hq (by omega), fP q _ hq (by omega), fP q _ hq (by omega), fP q _ hq (by omega)]
    exact h2 q hq
  · rw [o 7 (by omega), f _ (by omega)]; exact h3 i hi
  · have : HA (up1 A j x) i = HA A i := f _ (by omega)
    rw [o 10 (by omega), this]; exact h4 i hi
  · rw [o 11 (by omega), f _ (by omega)]; exact h5 i hi
  · rw [o 8 (by omega), o 9 (by omega)]
    exact WS_A (fun i h1 h2 => f i (by omega)) hn h6
/-- an act without exceptions -/
def QB (W Mo : Mm → Option (Int32 × Mm)) (σ : Mm) : Prop := ∃ x σ1 σ2 np' nh' n', W σ = some (x, σ1) ∧ Mo σ1 = some (x, σ2) ∧ KR np' nh' n' σ2 ∧ Oth σ σ2
theorem QB_qn {W Mo : Mm → Option (Int32 × Mm)} (hk : KR np nh n σ) (h : QN W Mo σ) : QB W Mo σ := by
  obtain ⟨x, σ1, σ2, h1, h2, h3⟩ := h
  exact ⟨x, σ1, σ2, np, nh, n, h1, h2, KR_kp h3 hk, Oth_kp hk.2.2.1.1 h3⟩
theorem q_seed (K : KR np nh n σ) (x : Int32) : QB (FX1_seed 0 x) (FX8_seed 62 x) σ := by
  have hB : BIG = 1000000 := rfl
  have hC := K.1.c; have h := K.1.m; have hr := K.1.r; have hn0 := K.1.n0
  have hr2 := RW_fld (k := 7) (j := 9) (x := x) (by omega) hn0 hr
  have hw2 : WF (up1 (mI σ 63) 9 x) np nh := WF_oth K.1.w (by omega)
  obtain ⟨hc, hK, hN, h6, h12, e, f, hX⟩ := K
  have t63 : mI (wA σ 1 (up1 (mI σ 1) 7 x)) 63 = mI σ 63 := rfl
  refine ⟨mI σ 63 9, wA σ 1 (up1 (mI σ 1) 7 x), wA (thr_ (wA σ 1 (up1 (mI σ 1) 7 x)) 0) 63 (up1 (mI σ 63) 9 x), np, nh, n, ?_, ?_, ⟨⟨hC, h, ?_, hw2⟩, ⟨fun p hp => ?_, hK.2⟩, hN, h6, h12, e, f, ?_⟩, ⟨⟨Nat.le_refl _, by show mN σ ≤ _; omega⟩, fun q _ => ⟨rfl, rfl⟩, fun q hq => ⟨?_, rfl⟩, ⟨rfl, rfl, rfl, rfl, rfl, rfl, B62_eq ⟨rfl, rfl, rfl, rfl⟩⟩, rfl, fun q q1 _ _ _ _ => ⟨?_, rfl⟩, Or.inl rfl, fun j hj => if_neg (by omega)⟩⟩
  · unfold FX1_seed
    simp (disch := first | omega | ((repeat (first | apply FC_t | apply FC_o | apply FC_w)); exact hC)) only [↓m1_, l0_, l1_, l2_, l3_, l4_, l5_, l6_, l7_, l8_, l9_, l10_, l11_, l12_, l13_, l14_, l15_, l16_, l17_, l18_, l19_, l20_, l21_, l22_, l23_, l24_, l25_, l26_, l27_, l28_, l29_, l30_, l31_, l32_, l40_, l48_, l57_, l59_, l60_, l61_, l62_, l63_, l72_, l77_, l90_, l97_, l99_, l100_, l122_, l128_, l172_, l255_, l272_, l284_, l285_, l286_, l287_, l288_, l289_, l299_, l300_, l320_, l400_, l584_, l984_, l999_, l1023_, l1024_, l4095_, l6424_, l7008_, l10240_, l12345_, l32767_, l100000_, l1103515245_, l2000000000_, N_add, N_mul, up1_app, mI_wA, wA_wA, Option.bind_some, Option.bind_none, jn, fc_ck0, fc_rv0, fc_gI0, fc_pI0, fc_ck37, fc_rv37, fc_gI37, fc_pI37, fc_ck39, fc_rv39, fc_gI39, fc_pI39, fc_ck40, fc_rv40, fc_gI40, fc_pI40, fc_ck41, fc_rv41, fc_gI41, fc_pI41, fc_ck44, fc_rv44, fc_gI44, fc_pI44, fc_ck47, fc_rv47, fc_gI47, fc_pI47, fc_rd38, fc_wr38, fc_rd42, fc_wr42, fc_rd43, fc_wr43, fc_rd45, fc_wr45, fc_rd46, fc_wr46, fc_rd48, fc_wr48, fc_rd49, fc_wr49, fc_rd75, fc_wr75, fc_gR0_0, fc_gR0_1, fc_gR0_2, fc_gR0_4, fc_gR0_5, fc_gR0_6, fc_gR0_7, fc_gR0_8, fc_gR0_9, fc_gR0_10, fc_gR37_0, fc_gR41_0, fc_gR41_1, fc_gR41_3, fc_gR44_0, fc_gR44_1, fc_gR44_2, fc_gR47_0, fc_gR47_1, fc_gR47_3, w1_ck, w1_rv, w1_gI, w1_pI, w1_gL, w1_gR8, w1_rd1, w1_wr1, w1_gR9, w1_rd2, w1_wr2, w1_gR10, w1_rd3, w1_wr3, w1_gR11, w1_rd4, w1_wr4, w1_gR12, w1_rd5, w1_wr5, w1_gR13, w1_rd6, w1_wr6, w1_gR14, w1_rd7, w1_wr7, w1_gR15, w1_rd8, w1_wr8, w1_gR16, w1_rd9, w1_wr9, w1_gR17, w1_rd10, w1_wr10, w1_gR18, w1_rd11, w1_wr11, nle1_, nle2_, nle3_, nle0_, nlt1_, nlt2_, nlt3_, nlt0_, neq10_, neq01_, neq20_, neq30_, neq21_, neq31_, neq12_, neq32_, neq00_, neq11_, if_true, if_false, N_lt, N_le, N_inj, N_m1, m1_N, m1_lt, m1_le, N_ltm, N_lem, m1_m1, rw7 hr]
  · unfold FX8_seed
    simp (disch := first | omega | ((repeat (first | apply FM_t | apply FM_w)); exact h)) only [↓m1_, l0_, l1_, l2_, l3_, l4_, l5_, l6_, l7_, l8_, l9_, l10_, l11_, l12_, l13_, l14_, l15_, l16_, l17_, l18_, l19_, l20_, l21_, l22_, l23_, l24_, l25_, l26_, l27_, l28_, l29_, l30_, l31_, l32_, l40_, l48_, l57_, l59_, l60_, l61_, l62_, l63_, l72_, l77_, l90_, l97_, l99_, l100_, l122_, l128_, l172_, l255_, l272_, l284_, l285_, l286_, l287_, l288_, l289_, l299_, l300_, l320_, l400_, l584_, l984_, l999_, l1023_, l1024_, l4095_, l6424_, l7008_, l10240_, l12345_, l32767_, l100000_, l1103515245_, l2000000000_, N_add, N_mul, up1_app, mI_wA, wA_wA, Option.bind_some, Option.bind_none, jn, fm_ck, fm_rv, fm_gI, fm_pI, fm_gR1, fm_gR2, fm_gR4, fm_gR5, fm_gR7, fm_gR14, fm_gR19, fm_gR21, fm_gR22, fm_gR23, fm_gR24, fm_gR25, fm_rd63, fm_wr63, fm_rd64, fm_wr64, fm_rd65, fm_wr65, fm_rd66, fm_wr66, fm_rd67, fm_wr67, fm_rd68, fm_wr68, fm_rd69, fm_wr69, fm_rd70, fm_wr70, fm_rd71, fm_wr71, fm_rd72, fm_wr72, fm_rd73, fm_wr73, fm_rd74, fm_wr74, nle1_, nle2_, nle3_, nle0_, nlt1_, nlt2_, nlt3_, nlt0_, neq10_, neq01_, neq20_, neq30_, neq21_, neq31_, neq12_, neq32_, neq00_, neq11_, if_true, if_false, N_lt, N_le, N_inj, N_m1, m1_N, m1_lt, m1_le, N_ltm, N_lem, m1_m1, pa_, ha_, thr_w, thr_63, t63]
    rfl
  · exact RW_eq (fun k hk => (if_neg (by omega)).trans (if_neg (by omega))) hr2
  · have : mI (wA (thr_ (wA σ 1 (up1 (mI σ 1) 7 x)) 0) 63 (up1 (mI σ 63) 9 x)) p = mI σ p := (if_neg (by omega)).trans ((if_neg (by omega)).trans (if_neg (by omega)))
    rw [this]; exact hK.1 p hp
  · have hX2 : KX (wA (thr_ (wA σ 1 (up1 (mI σ 1) 7 x)) 0) 63 (up1 (mI σ 63) 9 x)) n (rowM σ) (mR σ 1 19) e f := by
      refine KX_at (σ := σ) ⟨rfl, rfl, rfl⟩ ⟨rfl, rfl, rfl⟩ (Nat.le_refl _) (fun i hi q q1 q2 => ⟨rfl, rfl, ?_, rfl⟩) hX
      have := (hX.2.2.2.1 i hi).2.1
      exact (if_neg (by omega)).trans ((if_neg (by omega)).trans (if_neg (by omega)))
    exact hX2
  · exact (if_neg (by omega)).trans ((if_neg (by omega)).trans (if_neg (by omega)))
  · exact (if_neg (by omega)).trans ((if_neg (by omega)).trans (if_neg (by omega)))
end
