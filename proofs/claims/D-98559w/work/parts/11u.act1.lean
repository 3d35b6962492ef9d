/-! THE PLAIN LAW, 32: an act: what is owed; handed in -/
set_option maxRecDepth 100000
theorem KX_kp {σ τ : Mm} {n e : Nat} {R : Nat → Nat → Int32} {v : Option Nat} {f : Nat → Nat} (h : Kp σ τ) (hk : KX σ n R v e f) : KX τ n R v e f := by
  refine KX_at ⟨by rw [h.1], h.2.2.2.2.1 40 (by unfold KPl; omega), by rw [h.2.2.1]⟩ ⟨by rw [h.1], by rw [h.2.1], by rw [h.2.2.1]⟩ (by rw [h.2.2.2.1]; exact Nat.le_refl _) (fun i hi q q1 q2 => ?_) hk
  have := (hk.2.2.2.1 i hi).2.1
  exact ⟨by rw [h.1], by rw [h.2.1], h.2.2.2.2.1 q (by unfold KPl; omega), by rw [h.2.2.1]⟩
theorem KR_kp {σ τ : Mm} {np nh n : Nat} (h : Kp σ τ) (hk : KR np nh n σ) : KR np nh n τ := by
  obtain ⟨a, b, c, d, e, x, y, g⟩ := hk
  have e66 : mI τ 66 = mI σ 66 := h.2.2.2.2.1 66 (by unfold KPl; omega)
  have e63 : mI τ 63 = mI σ 63 := h.2.2.2.2.1 63 (by unfold KPl; omega)
  have er : rowM τ = rowM σ := by unfold rowM; rw [e66]
  exact ⟨Co_kp h a, KS_kp h b, by rw [h.2.2.2.1]; exact c, h.2.2.2.2.2.2.2.1.trans d, by rw [er, e63]; exact e, x, y, by rw [er, h.2.2.1]; exact KX_kp h g⟩
theorem Oth_kp {σ τ : Mm} (h0 : 76 ≤ mN σ) (h : Kp σ τ) : Oth σ τ := by
  obtain ⟨a, b, c, d, e, ⟨f1, f2⟩, g1, g2, g3, g4, g5⟩ := h
  exact ⟨⟨by rw [d]; exact Nat.le_refl _, by rw [d]; omega⟩, fun q _ => ⟨by rw [a], by rw [b]⟩, fun q hq => ⟨e q (by unfold KPl; omega), by rw [c]⟩, ⟨f1, f2, g1, g3, g4, by rw [e 0 (by unfold KPl; omega)], g5⟩, by rw [c], fun q q1 _ _ _ _ => ⟨e q (by unfold KPl; omega), by rw [c]⟩, Or.inl (by rw [c]), fun j _ => by rw [e 63 (by unfold KPl; omega)]⟩
/-- a call that may be an act: both sides answer alike, and behind it what is true ahead of each call is true -/
def QA (W : Mm → DX (Int32 × Mm)) (Mo : Mm → Option (Int32 × Mm)) (σ : Mm) : Prop := ∃ k σ1 b σ2 c z np' nh' n', W σ = some (.inl (k, σ1), c, z) ∧ c ≤ 20 ∧ z ≤ 900 ∧ Mo σ1 = some (b, σ2) ∧ mI σ2 62 0 = k ∧ (k = N 0 → mI σ2 75 0 = b) ∧ KR np' nh' n' σ2 ∧ Oth σ σ2
theorem QA_qw {W : Mm → DX (Int32 × Mm)} {Mo : Mm → Option (Int32 × Mm)} {σ : Mm} {np nh n : Nat} (hk : KR np nh n σ) (h : QW W Mo σ) : QA W Mo σ := by
  obtain ⟨k, σ1, b, σ2, c, z, h1, h2, h3, h4, h5, h6, h7⟩ := h
  exact ⟨k, σ1, b, σ2, c, z, np, nh, n, h1, h2, h3, h4, h5, h6, KR_kp h7 hk, Oth_kp hk.2.2.1.1 h7⟩
theorem db_in {α β : Type} (a : α) (c z : Nat) (f : α → DX β) : db (some (.inl a, c, z)) f = pay c z (f a) := rfl
theorem C_can_1 {σ : Mm} : FX1_can (N 1) σ = rt σ := by
  unfold FX1_can
  exact if_neg (by decide)
theorem C_can_0 {σ : Mm} : FX1_can (N 0) σ = thw 4 σ := by
  unfold FX1_can
  exact if_pos rfl
theorem mRem_63 {σ : Mm} {n : Nat} : mI (mRem σ n) 63 = mI σ 63 := rfl
theorem FM_mRem {σ : Mm} {n : Nat} (h : FM σ) : FM (mRem σ n) := h
theorem M_rem_ {σ : Mm} {n : Nat} (h : FM σ) (hc : mI σ 62 6 = N n) (hn : n ≤ 12) : FX8_remembers 62 σ = some (mRem σ n) := M_remembers h hc hn
theorem thr_6 {σ : Mm} {k : Nat} : mI (thr_ σ k) 62 6 = mI σ 62 6 := rfl
section
variable {np nh n : Nat} {σ : Mm}
theorem M_hand_ok {a b : Nat} (h : FM σ) (hn : mI σ 63 3 = N np) (hn0 : np ≤ 10) (hk : mI σ 63 4 = N nh) (hk0 : nh ≤ 12) (hc : mI σ 62 6 = N n) (h12 : n ≤ 12) (ha : a < np) (hb : b < nh) (h2 : PA (mI σ 63) a 2 ≠ M1) (h3 : PA (mI σ 63) a 3 = M1) (h4 : HA (mI σ 63) b = M1) : FX8_hand 62 (N a) (N b) σ = some (PA (mI σ 63) a 2, wA (mRem (thr_ σ 0) n) 63 (aHands (mI σ 63) a b)) := by
  unfold FX8_hand
  simp (disch := first | omega | ((repeat (first | apply FM_t | apply FM_o | apply FM_w)); exact h)) only [↓m1_, l0_, l1_, l2_, l3_, l4_, l5_, l6_, l7_, l8_, l9_, l10_, l11_, l12_, l13_, l14_, l15_, l16_, l17_, l18_, l19_, l20_, l21_, l22_, l23_, l24_, l25_, l26_, l27_, l28_, l29_, l30_, l31_, l32_, l40_, l48_, l57_, l59_, l60_, l61_, l62_, l63_, l72_, l77_, l90_, l97_, l99_, l100_, l122_, l128_, l172_, l255_, l272_, l284_, l285_, l286_, l287_, l288_, l289_, l299_, l300_, l320_, l400_, l584_, l984_, l999_, l1023_, l1024_, l4095_, l6424_, l7008_, l10240_, l12345_, l32767_, l100000_, l1103515245_, l2000000000_, N_add, N_mul, up1_app, mI_wA, wA_wA, Option.bind_some, Option.bind_none, jn, fm_ck, fm_rv, fm_gI, fm_pI, fm_gR1, fm_gR2, fm_gR4, fm_gR5, fm_gR7, fm_gR14, fm_gR19, fm_gR21, fm_gR22, fm_gR23, fm_gR24, fm_gR25, fm_rd63, fm_wr63, fm_rd64, fm_wr64, fm_rd65, fm_wr65, fm_rd66, fm_wr66, fm_rd67, fm_wr67, fm_rd68, fm_wr68, fm_rd69, fm_wr69, fm_rd70, fm_wr70, fm_rd71, fm_wr71, fm_rd72, fm_wr72, fm_rd73, fm_wr73, fm_rd74, fm_wr74, nle1_, nle2_, nle3_, nle0_, nlt1_, nlt2_, nlt3_, nlt0_, neq10_, neq01_, neq20_, neq30_, neq21_, neq31_, neq12_, neq32_, neq00_, neq11_, if_true, if_false, N_lt, N_le, N_inj, N_m1, m1_N, m1_lt, m1_le, N_ltm, N_lem, m1_m1, pa_, ha_, M_isPerson_in h hn hn0 ha, M_isHook_in h hk hk0 hb, M_of, thr_w, thr_0, h2, h3, h4]
  rw [M_rem_ (FM_t h) (thr_6.trans hc) h12, Option.bind_some, fm_ck (FM_mRem (FM_t h)), M_hands (FM_mRem (FM_t h)) (by omega) (by omega), Option.bind_some, mRem_63, thr_63]
/-- the component has remembered -/
theorem C_rem_ok {R : Nat → Nat → Int32} (K : KR np nh n σ) (hR : R = rowM σ) : ∃ σ1 c z e' f', FX1_remembers 0 σ = some (.inl σ1, c, z) ∧ c ≤ 13 ∧ z ≤ 642 ∧ KX σ1 (if n = 12 then 12 else n + 1) (remS R (mI σ 63) n) (mR σ 1 19) e' f' ∧ RF σ σ1 ∧ FC σ1 ∧ KS σ1 ∧ RW 1 (mI σ 63) np σ1 ∧ FM σ1 ∧ mI σ1 63 = mI σ 63 ∧ mI σ1 62 = mI σ 62 ∧ mN σ1 ≤ mN σ + 13 := by
  have hB : BIG = 1000000 := rfl
  subst hR
  obtain ⟨⟨hC, hM, hr, hw⟩, hK, ⟨hN0, hN1⟩, h6, h12, e, f, hX⟩ := K
  obtain ⟨σ1, c, z, e', f', t1, t2, t3, t4, t5⟩ := C_remembers hC hK hX hr hw rfl hN1 hN0
  obtain ⟨⟨n1, n2⟩, r2, r3, r4, r5, r6⟩ := id t5
  have q76 : ∀ q k, q < 76 → (q ≠ 40 ∨ k ≠ 1) → mR σ1 q k = mR σ q k := fun q k hq hk => by
    by_cases h4 : q = 40
    · subst h4; exact r4 k (hk.resolve_left (fun z => z rfl))
    · rw [(r3 q (by omega) h4).2]
  refine ⟨σ1, c, z, e', f', t1, t2, t3, t4, t5, FC_at (fun q hq => r2 q (by omega)) q76 hC, ⟨fun p hp => ?_, fun p k hp h3 => ?_⟩, RW_eq (fun k hk => (r3 _ (by omega) (by omega)).1) hr, FM_at (fun q hq => r2 q (by omega)) (r3 62 (by omega) (by omega)).2 hM, (r3 63 (by omega) (by omega)).1, (r3 62 (by omega) (by omega)).1, n2⟩
  · rw [(r2 p (by omega)).1, (r2 p (by omega)).2, (r3 p (by omega) (by omega)).1]; exact hK.1 p hp
  · rw [(r3 p (by omega) (by omega)).2]; exact hK.2 p k hp h3
/-- an act that is done -/
theorem act_QA {W : Mm → DX (Int32 × Mm)} {Mo : Mm → Option (Int32 × Mm)} {σ1 τ : Mm} {c z e' : Nat} {f' : Nat → Nat} {B : Nat → Int32} {x : Int32} (K : KR np nh n σ) (hN : mN σ + 26 ≤ BIG) (h1 : KX σ1 (if n = 12 then 12 else n + 1) (remS (rowM σ) (mI σ 63) n) (mR σ 1 19) e' f') (rf : RF σ σ1) (ow : OW 1 σ1 τ) (hr : RW 1 B np τ) (hB : WF B np nh) (hB1 : ∀ j, j = 1 ∨ j = 2 ∨ 584 ≤ j → B j = mI σ 63 j) (hW : W σ = some (.inl (N 0, o75 τ x), c, z)) (hc : c ≤ 20) (hz : z ≤ 900) (hM : ∀ μ, FM μ → mI μ 63 = mI σ 63 → mI μ 62 6 = N n → Mo μ = some (x, wA (mRem (thr_ μ 0) n) 63 B)) : QA W Mo σ := by
  have hm : mN τ ≤ mN σ + 13 := by rw [ow.2.2.2.1]; exact rf.1.2
  obtain ⟨g1, g2⟩ := act_ok (x := x) K h1 rf ow hr hB hB1 (by omega)
  have hFM : FM τ := ow.fm (FM_at (fun q hq => rf.2.1 q (Or.inl (by have := K.2.2.1.1; omega))) (rf.2.2.1 62 (by omega) (by omega)).2 K.1.m)
  refine ⟨N 0, _, x, _, c, z, np, nh, _, hW, hc, hz, hM (o75 τ x) hFM ?_ ?_, rfl, fun _ => rfl, g1, g2⟩
  · exact (ow.2.2.2.2 63 (by omega)).trans (rf.2.2.1 63 (by omega) (by omega)).1
  · exact (congrFun ((ow.2.2.2.2 62 (by omega)).trans (rf.2.2.1 62 (by omega) (by omega)).1) 6).trans K.2.2.2.1
theorem aHands_o {A : Nat → Int32} {p h : Nat} (hp : p < 10) (hh : h < 12) (j : Nat) (hj : j = 1 ∨ j = 2 ∨ 584 ≤ j) : aHands A p h j = A j := by
  unfold aHands sLog uP uH up1
  rw [if_neg (by omega), if_neg (by omega), if_neg (by omega), if_neg (by omega), if_neg (by omega), if_neg (by omega), if_neg (by omega)]
  try dsimp only
  rw [if_neg (by omega), if_neg (by omega), if_neg (by omega)]
theorem aHands_H {A : Nat → Int32} {p h : Nat} (hp : p < 10) (hh : h < 12) : HA (aHands A p h) h = PA A p 2 := by
  unfold aHands
  rw [HA_L hh, uP_HA hp (by omega), uP_HA hp (by omega)]
  exact if_pos rfl
theorem q_hand_ok {a b : Nat} (K : KR np nh n σ) (hN : mN σ + 26 ≤ BIG) (ha : a < np) (hb : b < nh) (h2 : PA (mI σ 63) a 2 ≠ M1) (h3 : PA (mI σ 63) a 3 = M1) (h4 : HA (mI σ 63) b = M1) : QA (FX0_hand (some 0) (N a) (N b) (some 75)) (FX8_hand 62 (N a) (N b)) σ := by
  have hn0 := K.1.n0; have hk0 := K.1.k0
  have hn12 : n ≤ 12 := by obtain ⟨_, _, _, _, _, _, _, hX⟩ := K; exact hX.2.2.1
  obtain ⟨σ1, c, z, e', f', t1, t2, t3, t4, t5, t6, t7, t8, t9, t10, t11, t12⟩ := C_rem_ok K rfl
  obtain ⟨τ, w1, w2, w3⟩ := W_hands (p := a) (h := b) (by omega) hn0 (by omega) (by omega) t6.w1 t7 t8
  have hCτ : FC τ := w3.fc t6
  refine act_QA (c := c) (z := z) (x := PA (mI σ 63) a 2) K hN t4 t5 w3 w2 (WF_hands K.1.w ha hb h4) (aHands_o (by omega) (by omega)) ?_ (by omega) (by omega) (fun μ m1 m2 m3 => ?_)
  · have hC := K.1.c; have hr := K.1.r
    unfold FX0_hand FX1_hand
    simp (disch := first | omega | ((repeat (first | apply FC_t | apply FC_o | apply FC_w)); exact hC)) only [↓m1_, l0_, l1_, l2_, l3_, l4_, l5_, l6_, l7_, l8_, l9_, l10_, l11_, l12_, l13_, l14_, l15_, l16_, l17_, l18_, l19_, l20_, l21_, l22_, l23_, l24_, l25_, l26_, l27_, l28_, l29_, l30_, l31_, l32_, l40_, l48_, l57_, l59_, l60_, l61_, l62_, l63_, l72_, l77_, l90_, l97_, l99_, l100_, l122_, l128_, l172_, l255_, l272_, l284_, l285_, l286_, l287_, l288_, l289_, l299_, l300_, l320_, l400_, l584_, l984_, l999_, l1023_, l1024_, l4095_, l6424_, l7008_, l10240_, l12345_, l32767_, l100000_, l1103515245_, l2000000000_, N_add, N_mul, up1_app, mI_wA, wA_wA, Option.bind_some, Option.bind_none, jn, fc_ck0, fc_rv0, fc_gI0, fc_pI0, fc_ck37, fc_rv37, fc_gI37, fc_pI37, fc_ck39, fc_rv39, fc_gI39, fc_pI39, fc_ck40, fc_rv40, fc_gI40, fc_pI40, fc_ck41, fc_rv41, fc_gI41, fc_pI41, fc_ck44, fc_rv44, fc_gI44, fc_pI44, fc_ck47, fc_rv47, fc_gI47, fc_pI47, fc_rd38, fc_wr38, fc_rd42, fc_wr42, fc_rd43, fc_wr43, fc_rd45, fc_wr45, fc_rd46, fc_wr46, fc_rd48, fc_wr48, fc_rd49, fc_wr49, fc_rd75, fc_wr75, fc_gR0_0, fc_gR0_1, fc_gR0_2, fc_gR0_4, fc_gR0_5, fc_gR0_6, fc_gR0_7, fc_gR0_8, fc_gR0_9, fc_gR0_10, fc_gR37_0, fc_gR41_0, fc_gR41_1, fc_gR41_3, fc_gR44_0, fc_gR44_1, fc_gR44_2, fc_gR47_0, fc_gR47_1, fc_gR47_3, w1_ck, w1_rv, w1_gI, w1_pI, w1_gL, w1_gR8, w1_rd1, w1_wr1, w1_gR9, w1_rd2, w1_wr2, w1_gR10, w1_rd3, w1_wr3, w1_gR11, w1_rd4, w1_wr4, w1_gR12, w1_rd5, w1_wr5, w1_gR13, w1_rd6, w1_wr6, w1_gR14, w1_rd7, w1_wr7, w1_gR15, w1_rd8, w1_wr8, w1_gR16, w1_rd9, w1_wr9, w1_gR17, w1_rd10, w1_wr10, w1_gR18, w1_rd11, w1_wr11, nle1_, nle2_, nle3_, nle0_, nlt1_, nlt2_, nlt3_, nlt0_, neq10_, neq01_, neq20_, neq30_, neq21_, neq31_, neq12_, neq32_, neq00_, neq11_, if_true, if_false, N_lt, N_le, N_inj, N_m1, m1_N, m1_lt, m1_le, N_ltm, N_lem, m1_m1, C_person_in K.1 ha, C_hook_in K.1 hb, db_rt, r1W hr, r1T hr, r1H hr, h2, h3, h4, C_can_1, t1, db_in]
    have hC := t6
    simp (disch := first | omega | ((repeat (first | apply FC_t | apply FC_o | apply FC_w)); exact hC)) only [↓m1_, l0_, l1_, l2_, l3_, l4_, l5_, l6_, l7_, l8_, l9_, l10_, l11_, l12_, l13_, l14_, l15_, l16_, l17_, l18_, l19_, l20_, l21_, l22_, l23_, l24_, l25_, l26_, l27_, l28_, l29_, l30_, l31_, l32_, l40_, l48_, l57_, l59_, l60_, l61_, l62_, l63_, l72_, l77_, l90_, l97_, l99_, l100_, l122_, l128_, l172_, l255_, l272_, l284_, l285_, l286_, l287_, l288_, l289_, l299_, l300_, l320_, l400_, l584_, l984_, l999_, l1023_, l1024_, l4095_, l6424_, l7008_, l10240_, l12345_, l32767_, l100000_, l1103515245_, l2000000000_, N_add, N_mul, up1_app, mI_wA, wA_wA, Option.bind_some, Option.bind_none, jn, fc_ck0, fc_rv0, fc_gI0, fc_pI0, fc_ck37, fc_rv37, fc_gI37, fc_pI37, fc_ck39, fc_rv39, fc_gI39, fc_pI39, fc_ck40, fc_rv40, fc_gI40, fc_pI40, fc_ck41, fc_rv41, fc_gI41, fc_pI41, fc_ck44, fc_rv44, fc_gI44, fc_pI44, fc_ck47, fc_rv47, fc_gI47, fc_pI47, fc_rd38, fc_wr38, fc_rd42, fc_wr42, fc_rd43, fc_wr43, fc_rd45, fc_wr45, fc_rd46, fc_wr46, fc_rd48, fc_wr48, fc_rd49, fc_wr49, fc_rd75, fc_wr75, fc_gR0_0, fc_gR0_1, fc_gR0_2, fc_gR0_4, fc_gR0_5, fc_gR0_6, fc_gR0_7, fc_gR0_8, fc_gR0_9, fc_gR0_10, fc_gR37_0, fc_gR41_0, fc_gR41_1, fc_gR41_3, fc_gR44_0, fc_gR44_1, fc_gR44_2, fc_gR47_0, fc_gR47_1, fc_gR47_3, w1_ck, w1_rv, w1_gI, w1_pI, w1_gL, w1_gR8, w1_rd1, w1_wr1, w1_gR9, w1_rd2, w1_wr2, w1_gR10, w1_rd3, w1_wr3, w1_gR11, w1_rd4, w1_wr4, w1_gR12, w1_rd5, w1_wr5, w1_gR13, w1_rd6, w1_wr6, w1_gR14, w1_rd7, w1_wr7, w1_gR15, w1_rd8, w1_wr8, w1_gR16, w1_rd9, w1_wr9, w1_gR17, w1_rd10, w1_wr10, w1_gR18, w1_rd11, w1_wr11, nle1_, nle2_, nle3_, nle0_, nlt1_, nlt2_, nlt3_, nlt0_, neq10_, neq01_, neq20_, neq30_, neq21_, neq31_, neq12_, neq32_, neq00_, neq11_, if_true, if_false, N_lt, N_le, N_inj, N_m1, m1_N, m1_lt, m1_le, N_ltm, N_lem, m1_m1, w1]
    have hC := hCτ
    simp (disch := first | omega | ((repeat (first | apply FC_t | apply FC_o | apply FC_w)); exact hC)) only [↓m1_, l0_, l1_, l2_, l3_, l4_, l5_, l6_, l7_, l8_, l9_, l10_, l11_, l12_, l13_, l14_, l15_, l16_, l17_, l18_, l19_, l20_, l21_, l22_, l23_, l24_, l25_, l26_, l27_, l28_, l29_, l30_, l31_, l32_, l40_, l48_, l57_, l59_, l60_, l61_, l62_, l63_, l72_, l77_, l90_, l97_, l99_, l100_, l122_, l128_, l172_, l255_, l272_, l284_, l285_, l286_, l287_, l288_, l289_, l299_, l300_, l320_, l400_, l584_, l984_, l999_, l1023_, l1024_, l4095_, l6424_, l7008_, l10240_, l12345_, l32767_, l100000_, l1103515245_, l2000000000_, N_add, N_mul, up1_app, mI_wA, wA_wA, Option.bind_some, Option.bind_none, jn, fc_ck0, fc_rv0, fc_gI0, fc_pI0, fc_ck37, fc_rv37, fc_gI37, fc_pI37, fc_ck39, fc_rv39, fc_gI39, fc_pI39, fc_ck40, fc_rv40, fc_gI40, fc_pI40, fc_ck41, fc_rv41, fc_gI41, fc_pI41, fc_ck44, fc_rv44, fc_gI44, fc_pI44, fc_ck47, fc_rv47, fc_gI47, fc_pI47, fc_rd38, fc_wr38, fc_rd42, fc_wr42, fc_rd43, fc_wr43, fc_rd45, fc_wr45, fc_rd46, fc_wr46, fc_rd48, fc_wr48, fc_rd49, fc_wr49, fc_rd75, fc_wr75, fc_gR0_0, fc_gR0_1, fc_gR0_2, fc_gR0_4, fc_gR0_5, fc_gR0_6, fc_gR0_7, fc_gR0_8, fc_gR0_9, fc_gR0_10, fc_gR37_0, fc_gR41_0, fc_gR41_1, fc_gR41_3, fc_gR44_0, fc_gR44_1, fc_gR44_2, fc_gR47_0, fc_gR47_1, fc_gR47_3, w1_ck, w1_rv, w1_gI, w1_pI, w1_gL, w1_gR8, w1_rd1, w1_wr1, w1_gR9, w1_rd2, w1_wr2, w1_gR10, w1_rd3, w1_wr3, w1_gR11, w1_rd4, w1_wr4, w1_gR12, w1_rd5, w1_wr5, w1_gR13, w1_rd6, w1_wr6, w1_gR14, w1_rd7, w1_wr7, w1_gR15, w1_rd8, w1_wr8, w1_gR16, w1_rd9, w1_wr9, w1_gR17, w1_rd10, w1_wr10, w1_gR18, w1_rd11, w1_wr11, nle1_, nle2_, nle3_, nle0_, nlt1_, nlt2_, nlt3_, nlt0_, neq10_, neq01_, neq20_, neq30_, neq21_, neq31_, neq12_, neq32_, neq00_, neq11_, if_true, if_false, N_lt, N_le, N_inj, N_m1, m1_N, m1_lt, m1_le, N_ltm, N_lem, m1_m1, r1H w2, aHands_H, dt_pay, dt_rt, o75_w]
    rfl
  · have e := M_hand_ok (np := np) (nh := nh) (n := n) (a := a) (b := b) m1 (by rw [m2]; exact K.1.n) hn0 (by rw [m2]; exact K.1.k) hk0 m3 hn12 ha hb (by rw [m2]; exact h2) (by rw [m2]; exact h3) (by rw [m2]; exact h4)
    rw [m2] at e; exact e
end
