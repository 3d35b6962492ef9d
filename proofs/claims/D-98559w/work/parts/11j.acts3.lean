/-! THE PLAIN LAW, 21: handed in, taken, tickets mixed, meetings: on both sides -/
set_option maxRecDepth 100000
theorem sL_up {A : Nat → Int32} {j : Nat} {x a b c d : Int32} (h1 : 12 ≤ j) (h2 : j < 284) : sLog (up1 A j x) a b c d = up1 (sLog A a b c d) j x := by
  funext i
  unfold sLog
  by_cases e : i = j
  · subst e
    rw [if_neg (by omega), if_neg (by omega), if_neg (by omega), if_neg (by omega), if_neg (by omega), if_neg (by omega), if_neg (by omega)]
    show (if i = i then x else A i) = (if i = i then x else _)
    rw [if_pos rfl, if_pos rfl]
  · have e5 : up1 A j x 5 = A 5 := if_neg (by omega)
    have e8 : up1 A j x 8 = A 8 := if_neg (by omega)
    have ei : up1 A j x i = A i := if_neg e
    show _ = (if i = j then x else _)
    rw [if_neg e, e5, e8, ei]
    dsimp only
    by_cases h3 : 289 ≤ i ∧ i < 584
    · have e9 : up1 A j x (i - 5) = A (i - 5) := if_neg (by omega)
      rw [if_pos h3, if_pos h3, e9]
    · rw [if_neg h3, if_neg h3]
theorem up_cm {A : Nat → Int32} {j k : Nat} {x y : Int32} (h : j ≠ k) : up1 (up1 A j x) k y = up1 (up1 A k y) j x := by
  funext i
  unfold up1
  by_cases e : i = k
  · rw [if_pos e, if_neg (by omega), if_pos e]
  · rw [if_neg e, if_neg e]
/-- one's number of what -/
def uP (A : Nat → Int32) (p v : Nat) (x : Int32) : Nat → Int32 := up1 A (12 + 6 * p + v) x
def uH (A : Nat → Int32) (h : Nat) (x : Int32) : Nat → Int32 := up1 A (272 + h) x
def aHands (A : Nat → Int32) (p h : Nat) : Nat → Int32 := sLog (uP (uP (uH A h (PA A p 2)) p 2 M1) p 3 (N h)) (N p) (N h) (PA A p 2) (N 0)
def aTakes (A : Nat → Int32) (p h : Nat) (w : Int32) : Nat → Int32 := sLog (uP (uH A h M1) p 2 (HA A h)) (N p) (N h) (HA A h) w
def aGets (A : Nat → Int32) (p h : Nat) : Nat → Int32 := sLog (uP (uP (uH A h M1) p 2 (HA A h)) p 3 M1) (N p) (N h) (HA A h) (N 1)
def aSwap (A : Nat → Int32) (p q v : Nat) : Nat → Int32 := uP (uP A p v (PA A q v)) q v (PA A p v)
def aMix (A : Nat → Int32) (p q : Nat) : Nat → Int32 :=
  let x := if p < q then p else q
  let y := if p < q then q else p
  sLog (sLog (aSwap A p q 3) (N x) (PA (aSwap A p q 3) x 3) M1 (N 3)) (N y) (PA (aSwap A p q 3) y 3) M1 (N 3)
def aBoth (A : Nat → Int32) (p q : Nat) : Int32 := ((PA A p 5 ||| PA A q 5) ||| bt p) ||| bt q
def nb (p : Nat) : Int32 := bt p ^^^ M1
def uT (A : Nat → Int32) (t : Nat) (x : Int32) : Nat → Int32 := up1 A (172 + t) x
def aMeets (A : Nat → Int32) (p q : Nat) : Nat → Int32 := uT (uT (uP (uP A p 5 (aBoth A p q &&& nb p)) q 5 (aBoth A p q &&& nb q)) (10 * p + q) (aBoth A p q &&& nb q)) (10 * q + p) (aBoth A p q &&& nb p)
theorem nb_ (p : Nat) : bt p ^^^ M1 = nb p := rfl
theorem uP_ (A : Nat → Int32) (p v : Nat) (x : Int32) : up1 A (12 + 6 * p + v) x = uP A p v x := rfl
theorem uH_ (A : Nat → Int32) (h : Nat) (x : Int32) : up1 A (272 + h) x = uH A h x := rfl
theorem uP_PA {A : Nat → Int32} {p v q w : Nat} {x : Int32} (hv : v < 6) (hw : w < 6) : PA (uP A p v x) q w = if q = p ∧ w = v then x else PA A q w := PA_P hv hw
theorem uP_PAs {A : Nat → Int32} {p v : Nat} {x : Int32} (hv : v < 6) : PA (uP A p v x) p v = x := by rw [uP_PA hv hv, if_pos ⟨rfl, rfl⟩]
theorem uP_PAn {A : Nat → Int32} {p v q w : Nat} {x : Int32} (hv : v < 6) (hw : w < 6) (h : q ≠ p ∨ w ≠ v) : PA (uP A p v x) q w = PA A q w := by rw [uP_PA hv hw, if_neg (fun z => h.elim (fun h => h z.1) fun h => h z.2)]
theorem uH_PA {A : Nat → Int32} {h q w : Nat} {x : Int32} (hq : q < 10) (hw : w < 6) : PA (uH A h x) q w = PA A q w := PA_H hq hw
theorem uP_HA {A : Nat → Int32} {p v h : Nat} {x : Int32} (hp : p < 10) (hv : v < 6) : HA (uP A p v x) h = HA A h := HA_P hp hv
theorem uT_PA {A : Nat → Int32} {t q w : Nat} {x : Int32} (hq : q < 10) (hw : w < 6) : PA (uT A t x) q w = PA A q w := by unfold PA uT up1; rw [if_neg (by omega)]
section
variable {b np : Nat} {A : Nat → Int32} {σ : Mm}
theorem RWP {p v : Nat} {x : Int32} (hn : np ≤ 10) (hp : p < 10) (hv : v < 6) (hr : RW b A np σ) : RW b (uP A p v x) np (wA σ (b + 1 + v) (up1 (mI σ (b + 1 + v)) p x)) := RW_P hn hp hv hr
theorem RWH {h : Nat} {x : Int32} (hn : np ≤ 10) (hh : h < 12) (hr : RW b A np σ) : RW b (uH A h x) np (wA σ (b + 10) (up1 (mI σ (b + 10)) h x)) := RW_H hn hh hr
theorem RWT {t : Nat} {x : Int32} (hn : np ≤ 10) (ht : t < 100) (hr : RW b A np σ) : RW b (uT A t x) np (wA σ (b + 7) (up1 (mI σ (b + 7)) t x)) := RW_T hn ht hr
/-! the World -/
theorem W_hands {p h : Nat} (hb : b < 1000) (hn : np ≤ 10) (hp : p < 10) (hh : h < 12) (hW : FW b σ) (hK : KS σ) (hr : RW b A np σ) : ∃ σ', FX2_hands b (N p) (N h) σ = some σ' ∧ RW b (aHands A p h) np σ' ∧ OW b σ σ' := by
  have hB : BIG = 1000000 := rfl
  have h0 := hW
  have r1 := RWH (x := PA A p 2) hn hh hr
  obtain ⟨τ, e, r2, o⟩ := W_tells (p := N p) (h' := N h) (f := PA A p 2) (w := 0) (q := BIG + 100) (by omega) hn (FW_w hW) ((gI_w (by omega)).trans (ord0 hK)) r1
  have hT : FW b τ := o.fw (FW_w hW)
  refine ⟨wA (wA τ (b + 3) (up1 (mI τ (b + 3)) p M1)) (b + 4) (up1 (mI τ (b + 4)) p (N h)), ?_, ?_, ?_⟩
  · unfold FX2_hands
    have h := hW
    simp (disch := first | omega | first | omega | ((repeat (first | apply FW_w)); exact h)) only [↓m1_, l0_, l1_, l2_, l3_, l4_, l5_, l6_, l7_, l8_, l9_, l10_, l11_, l12_, l13_, l14_, l15_, l16_, l17_, l18_, l19_, l20_, l21_, l22_, l23_, l24_, l25_, l26_, l27_, l28_, l29_, l30_, l31_, l32_, l40_, l48_, l57_, l59_, l60_, l61_, l62_, l63_, l72_, l77_, l90_, l97_, l99_, l100_, l122_, l128_, l172_, l255_, l272_, l284_, l285_, l286_, l287_, l288_, l289_, l299_, l300_, l320_, l400_, l584_, l984_, l999_, l1023_, l1024_, l4095_, l6424_, l7008_, l10240_, l12345_, l32767_, l100000_, l1103515245_, l2000000000_, N_add, N_mul, up1_app, mI_wA, wA_wA, Option.bind_some, Option.bind_none, jn, fw_ck, fw_rv, fw_gI, fw_gL, fw_pI, fw_gR8, fw_rd1, fw_wr1, fw_al1, fw_gR9, fw_rd2, fw_wr2, fw_al2, fw_gR10, fw_rd3, fw_wr3, fw_al3, fw_gR11, fw_rd4, fw_wr4, fw_al4, fw_gR12, fw_rd5, fw_wr5, fw_al5, fw_gR13, fw_rd6, fw_wr6, fw_al6, fw_gR14, fw_rd7, fw_wr7, fw_al7, fw_gR15, fw_rd8, fw_wr8, fw_al8, fw_gR16, fw_rd9, fw_wr9, fw_al9, fw_gR17, fw_rd10, fw_wr10, fw_al10, fw_gR18, fw_rd11, fw_wr11, fw_al11, nle1_, nle2_, nle3_, nle0_, nlt1_, nlt2_, nlt3_, nlt0_, neq10_, neq01_, neq20_, neq30_, neq21_, neq31_, neq12_, neq32_, neq00_, neq11_, if_true, if_false, N_lt, N_le, N_inj, N_m1, m1_N, m1_lt, m1_le, N_ltm, N_lem, m1_m1, rwW hr, bk_ne, e]
    have h := hT
    simp (disch := first | omega | first | omega | ((repeat (first | apply FW_w)); exact h)) only [↓m1_, l0_, l1_, l2_, l3_, l4_, l5_, l6_, l7_, l8_, l9_, l10_, l11_, l12_, l13_, l14_, l15_, l16_, l17_, l18_, l19_, l20_, l21_, l22_, l23_, l24_, l25_, l26_, l27_, l28_, l29_, l30_, l31_, l32_, l40_, l48_, l57_, l59_, l60_, l61_, l62_, l63_, l72_, l77_, l90_, l97_, l99_, l100_, l122_, l128_, l172_, l255_, l272_, l284_, l285_, l286_, l287_, l288_, l289_, l299_, l300_, l320_, l400_, l584_, l984_, l999_, l1023_, l1024_, l4095_, l6424_, l7008_, l10240_, l12345_, l32767_, l100000_, l1103515245_, l2000000000_, N_add, N_mul, up1_app, mI_wA, wA_wA, Option.bind_some, Option.bind_none, jn, fw_ck, fw_rv, fw_gI, fw_gL, fw_pI, fw_gR8, fw_rd1, fw_wr1, fw_al1, fw_gR9, fw_rd2, fw_wr2, fw_al2, fw_gR10, fw_rd3, fw_wr3, fw_al3, fw_gR11, fw_rd4, fw_wr4, fw_al4, fw_gR12, fw_rd5, fw_wr5, fw_al5, fw_gR13, fw_rd6, fw_wr6, fw_al6, fw_gR14, fw_rd7, fw_wr7, fw_al7, fw_gR15, fw_rd8, fw_wr8, fw_al8, fw_gR16, fw_rd9, fw_wr9, fw_al9, fw_gR17, fw_rd10, fw_wr10, fw_al10, fw_gR18, fw_rd11, fw_wr11, fw_al11, nle1_, nle2_, nle3_, nle0_, nlt1_, nlt2_, nlt3_, nlt0_, neq10_, neq01_, neq20_, neq30_, neq21_, neq31_, neq12_, neq32_, neq00_, neq11_, if_true, if_false, N_lt, N_le, N_inj, N_m1, m1_N, m1_lt, m1_le, N_ltm, N_lem, m1_m1, bk_ne]
  · have r3 := RWP (v := 3) (x := N h) hn hp (by omega) (RWP (v := 2) (x := M1) hn hp (by omega) r2)
    have ea : uP (uP (sLog (uH A h (PA A p 2)) (N p) (N h) (PA A p 2) (N 0)) p 2 M1) p 3 (N h) = aHands A p h := by
      unfold aHands uP
      rw [sL_up (by omega) (by omega), sL_up (by omega) (by omega)]
    rw [ea] at r3
    have e4 : mI (wA τ (b + 1 + 2) (up1 (mI τ (b + 1 + 2)) p M1)) (b + 1 + 3) = mI τ (b + 1 + 3) := if_neg (by omega)
    rw [e4] at r3
    exact r3
  · exact ((OW.rf.w (by omega)).tr o).w (by omega) |>.w (by omega)
theorem W_takes {p h w q : Nat} (hq : b + 12 ≤ q) (hn : np ≤ 10) (hp : p < 10) (hh : h < 12) (hW : FW b σ) (hy : gI 521 0 (some q) σ = some (N w)) (hr : RW b A np σ) : ∃ σ', FX2_takes b (N p) (N h) (some q) σ = some σ' ∧ RW b (aTakes A p h (N w)) np σ' ∧ OW b σ σ' := by
  have r1 := RWH (x := M1) hn hh (RWP (v := 2) (x := HA A h) hn hp (by omega) hr)
  have e4 : mI (wA σ (b + 1 + 2) (up1 (mI σ (b + 1 + 2)) p (HA A h))) (b + 10) = mI σ (b + 10) := if_neg (by omega)
  rw [e4] at r1
  have ec : uH (uP A p 2 (HA A h)) h M1 = uP (uH A h M1) p 2 (HA A h) := up_cm (by omega)
  rw [ec] at r1
  obtain ⟨τ, e, r2, o⟩ := W_tells (p := N p) (h' := N h) (f := HA A h) (w := w) (q := q) (by omega) hn (FW_w (FW_w hW)) ((gI_w (by omega)).trans ((gI_w (by omega)).trans hy)) r1
  refine ⟨τ, ?_, r2, ((OW.rf.w (by omega)).w (by omega)).tr o⟩
  unfold FX2_takes
  have h := hW
  simp (disch := first | omega | first | omega | ((repeat (first | apply FW_w)); exact h)) only [↓m1_, l0_, l1_, l2_, l3_, l4_, l5_, l6_, l7_, l8_, l9_, l10_, l11_, l12_, l13_, l14_, l15_, l16_, l17_, l18_, l19_, l20_, l21_, l22_, l23_, l24_, l25_, l26_, l27_, l28_, l29_, l30_, l31_, l32_, l40_, l48_, l57_, l59_, l60_, l61_, l62_, l63_, l72_, l77_, l90_, l97_, l99_, l100_, l122_, l128_, l172_, l255_, l272_, l284_, l285_, l286_, l287_, l288_, l289_, l299_, l300_, l320_, l400_, l584_, l984_, l999_, l1023_, l1024_, l4095_, l6424_, l7008_, l10240_, l12345_, l32767_, l100000_, l1103515245_, l2000000000_, N_add, N_mul, up1_app, mI_wA, wA_wA, Option.bind_some, Option.bind_none, jn, fw_ck, fw_rv, fw_gI, fw_gL, fw_pI, fw_gR8, fw_rd1, fw_wr1, fw_al1, fw_gR9, fw_rd2, fw_wr2, fw_al2, fw_gR10, fw_rd3, fw_wr3, fw_al3, fw_gR11, fw_rd4, fw_wr4, fw_al4, fw_gR12, fw_rd5, fw_wr5, fw_al5, fw_gR13, fw_rd6, fw_wr6, fw_al6, fw_gR14, fw_rd7, fw_wr7, fw_al7, fw_gR15, fw_rd8, fw_wr8, fw_al8, fw_gR16, fw_rd9, fw_wr9, fw_al9, fw_gR17, fw_rd10, fw_wr10, fw_al10, fw_gR18, fw_rd11, fw_wr11, fw_al11, nle1_, nle2_, nle3_, nle0_, nlt1_, nlt2_, nlt3_, nlt0_, neq10_, neq01_, neq20_, neq30_, neq21_, neq31_, neq12_, neq32_, neq00_, neq11_, if_true, if_false, N_lt, N_le, N_inj, N_m1, m1_N, m1_lt, m1_le, N_ltm, N_lem, m1_m1, rwH hr, bk_ne]
  exact (congrArg (fun z => Option.bind z some) e).trans rfl
theorem W_fetches {p h : Nat} (hb : b < 1000) (hn : np ≤ 10) (hp : p < 10) (hh : h < 12) (ht : PA A p 3 = N h) (hW : FW b σ) (hK : KS σ) (hr : RW b A np σ) : ∃ σ', FX2_fetches b (N p) σ = some σ' ∧ RW b (aGets A p h) np σ' ∧ OW b σ σ' := by
  have hB : BIG = 1000000 := rfl
  have r1 := RWP (v := 3) (x := M1) hn hp (by omega) hr
  obtain ⟨τ, e, r2, o⟩ := W_takes (p := p) (h := h) (w := 1) (q := BIG + 101) (by omega) hn hp hh (FW_w hW) ((gI_w (by omega)).trans (ord1 hK)) r1
  refine ⟨τ, ?_, ?_, (OW.rf.w (by omega)).tr o⟩
  · unfold FX2_fetches
    have h := hW
    simp (disch := first | omega | first | omega | ((repeat (first | apply FW_w)); exact h)) only [↓m1_, l0_, l1_, l2_, l3_, l4_, l5_, l6_, l7_, l8_, l9_, l10_, l11_, l12_, l13_, l14_, l15_, l16_, l17_, l18_, l19_, l20_, l21_, l22_, l23_, l24_, l25_, l26_, l27_, l28_, l29_, l30_, l31_, l32_, l40_, l48_, l57_, l59_, l60_, l61_, l62_, l63_, l72_, l77_, l90_, l97_, l99_, l100_, l122_, l128_, l172_, l255_, l272_, l284_, l285_, l286_, l287_, l288_, l289_, l299_, l300_, l320_, l400_, l584_, l984_, l999_, l1023_, l1024_, l4095_, l6424_, l7008_, l10240_, l12345_, l32767_, l100000_, l1103515245_, l2000000000_, N_add, N_mul, up1_app, mI_wA, wA_wA, Option.bind_some, Option.bind_none, jn, fw_ck, fw_rv, fw_gI, fw_gL, fw_pI, fw_gR8, fw_rd1, fw_wr1, fw_al1, fw_gR9, fw_rd2, fw_wr2, fw_al2, fw_gR10, fw_rd3, fw_wr3, fw_al3, fw_gR11, fw_rd4, fw_wr4, fw_al4, fw_gR12, fw_rd5, fw_wr5, fw_al5, fw_gR13, fw_rd6, fw_wr6, fw_al6, fw_gR14, fw_rd7, fw_wr7, fw_al7, fw_gR15, fw_rd8, fw_wr8, fw_al8, fw_gR16, fw_rd9, fw_wr9, fw_al9, fw_gR17, fw_rd10, fw_wr10, fw_al10, fw_gR18, fw_rd11, fw_wr11, fw_al11, nle1_, nle2_, nle3_, nle0_, nlt1_, nlt2_, nlt3_, nlt0_, neq10_, neq01_, neq20_, neq30_, neq21_, neq31_, neq12_, neq32_, neq00_, neq11_, if_true, if_false, N_lt, N_le, N_inj, N_m1, m1_N, m1_lt, m1_le, N_ltm, N_lem, m1_m1, rwT hr, ht, bk_ne]
    exact (congrArg (fun z => Option.bind z some) e).trans rfl
  · have ea : aTakes (uP A p 3 M1) p h (N 1) = aGets A p h := by
      unfold aTakes aGets
      rw [uP_HA hp (by omega)]
      have e1 : uH (uP A p 3 M1) h M1 = uP (uH A h M1) p 3 M1 := up_cm (by omega)
      have e2 : uP (uP (uH A h M1) p 3 M1) p 2 (HA A h) = uP (uP (uH A h M1) p 2 (HA A h)) p 3 M1 := up_cm (by omega)
      rw [e1, e2]
    rw [ea] at r2; exact r2
theorem imin_N {p q : Nat} (hp : p < 10) (hq : q < 10) (h : p ≠ q) : imin (N p) (N q) = N (if p < q then p else q) := by
  unfold imin
  by_cases h1 : p < q
  · rw [if_pos h1, if_neg (by rw [N_lt (by omega) (by omega)]; omega)]
  · rw [if_neg h1, if_pos (by rw [N_lt (by omega) (by omega)]; omega)]
theorem imax_N {p q : Nat} (hp : p < 10) (hq : q < 10) (h : p ≠ q) : imax (N p) (N q) = N (if p < q then q else p) := by
  unfold imax
  by_cases h1 : p < q
  · rw [if_pos h1, if_pos (by rw [N_lt (by omega) (by omega)]; omega)]
  · rw [if_neg h1, if_neg (by rw [N_lt (by omega) (by omega)]; omega)]
theorem W_mixes {p q : Nat} (hb : b < 1000) (hn : np ≤ 10) (hp : p < 10) (hq : q < 10) (hpq : p ≠ q) (hW : FW b σ) (hK : KS σ) (hr : RW b A np σ) : ∃ σ', FX2_mixes b (N p) (N q) σ = some σ' ∧ RW b (aMix A p q) np σ' ∧ OW b σ σ' := by
  have hB : BIG = 1000000 := rfl
  have hx : (if p < q then p else q) < 10 := by split <;> omega
  have hy : (if p < q then q else p) < 10 := by split <;> omega
  have r1 := RWP (v := 3) (x := PA A p 3) hn hq (by omega) (RWP (v := 3) (x := PA A q 3) hn hp (by omega) hr)
  have e4 : mI (wA σ (b + 1 + 3) (up1 (mI σ (b + 1 + 3)) p (PA A q 3))) (b + 1 + 3) = up1 (mI σ (b + 1 + 3)) p (PA A q 3) := if_pos rfl
  rw [e4, wA_wA] at r1
  have r1 : RW b (aSwap A p q 3) np (wA σ (b + 4) (up1 (up1 (mI σ (b + 4)) p (PA A q 3)) q (PA A p 3))) := r1
  obtain ⟨τ, e, r2, o⟩ := W_tells (p := N (if p < q then p else q)) (h' := PA (aSwap A p q 3) (if p < q then p else q) 3) (f := M1) (w := 3) (q := BIG + 103) (by omega) hn (FW_w hW) ((gI_w (by omega)).trans (ord3 hK)) r1
  have hT : FW b τ := o.fw (FW_w hW)
  obtain ⟨υ, e', r3, o'⟩ := W_tells (p := N (if p < q then q else p)) (h' := PA (aSwap A p q 3) (if p < q then q else p) 3) (f := M1) (w := 3) (q := BIG + 103) (by omega) hn hT ((o.gi (by omega)).trans ((gI_w (by omega)).trans (ord3 hK))) r2
  refine ⟨υ, ?_, r3, ((OW.rf.w (by omega)).tr o).tr o'⟩
  unfold FX2_mixes
  have h := hW
  have k1 := rwT r1 hx
  rw [mI_wA, if_pos rfl, up1_app, up1_app, rwT hr hx] at k1
  have k2 := rwT r2 hy
  rw [PA_L hy (by omega)] at k2
  simp (disch := first | omega | first | omega | ((repeat (first | apply FW_w)); exact h)) only [↓m1_, l0_, l1_, l2_, l3_, l4_, l5_, l6_, l7_, l8_, l9_, l10_, l11_, l12_, l13_, l14_, l15_, l16_, l17_, l18_, l19_, l20_, l21_, l22_, l23_, l24_, l25_, l26_, l27_, l28_, l29_, l30_, l31_, l32_, l40_, l48_, l57_, l59_, l60_, l61_, l62_, l63_, l72_, l77_, l90_, l97_, l99_, l100_, l122_, l128_, l172_, l255_, l272_, l284_, l285_, l286_, l287_, l288_, l289_, l299_, l300_, l320_, l400_, l584_, l984_, l999_, l1023_, l1024_, l4095_, l6424_, l7008_, l10240_, l12345_, l32767_, l100000_, l1103515245_, l2000000000_, N_add, N_mul, up1_app, mI_wA, wA_wA, Option.bind_some, Option.bind_none, jn, fw_ck, fw_rv, fw_gI, fw_gL, fw_pI, fw_gR8, fw_rd1, fw_wr1, fw_al1, fw_gR9, fw_rd2, fw_wr2, fw_al2, fw_gR10, fw_rd3, fw_wr3, fw_al3, fw_gR11, fw_rd4, fw_wr4, fw_al4, fw_gR12, fw_rd5, fw_wr5, fw_al5, fw_gR13, fw_rd6, fw_wr6, fw_al6, fw_gR14, fw_rd7, fw_wr7, fw_al7, fw_gR15, fw_rd8, fw_wr8, fw_al8, fw_gR16, fw_rd9, fw_wr9, fw_al9, fw_gR17, fw_rd10, fw_wr10, fw_al10, fw_gR18, fw_rd11, fw_wr11, fw_al11, nle1_, nle2_, nle3_, nle0_, nlt1_, nlt2_, nlt3_, nlt0_, neq10_, neq01_, neq20_, neq30_, neq21_, neq31_, neq12_, neq32_, neq00_, neq11_, if_true, if_false, N_lt, N_le, N_inj, N_m1, m1_N, m1_lt, m1_le, N_ltm, N_lem, m1_m1, rwT hr, bk_ne, imin_N, imax_N]
  rw [k1, e, Option.bind_some, fw_gR11 hT, Option.bind_some, fw_rd4 hT hy, Option.bind_some, k2, fw_ck hT, e']
  rfl
theorem W_meets {p q : Nat} (hn : np ≤ 10) (hp : p < 10) (hq : q < 10) (hpq : p ≠ q) (hW : FW b σ) (hr : RW b A np σ) : ∃ σ', FX2_meets b (N p) (N q) σ = some σ' ∧ RW b (aMeets A p q) np σ' ∧ OW b σ σ' := by
  have r1 := RWT (t := 10 * q + p) (x := aBoth A p q &&& nb p) hn (by omega) (RWT (t := 10 * p + q) (x := aBoth A p q &&& nb q) hn (by omega) (RWP (v := 5) (x := aBoth A p q &&& nb q) hn hq (by omega) (RWP (v := 5) (x := aBoth A p q &&& nb p) hn hp (by omega) hr)))
  refine ⟨_, ?_, r1, (((OW.rf.w (by omega)).w (by omega)).w (by omega)).w (by omega)⟩
  unfold FX2_meets
  have h := hW
  simp (disch := first | omega | first | omega | ((repeat (first | apply FW_w)); exact h)) only [↓m1_, l0_, l1_, l2_, l3_, l4_, l5_, l6_, l7_, l8_, l9_, l10_, l11_, l12_, l13_, l14_, l15_, l16_, l17_, l18_, l19_, l20_, l21_, l22_, l23_, l24_, l25_, l26_, l27_, l28_, l29_, l30_, l31_, l32_, l40_, l48_, l57_, l59_, l60_, l61_, l62_, l63_, l72_, l77_, l90_, l97_, l99_, l100_, l122_, l128_, l172_, l255_, l272_, l284_, l285_, l286_, l287_, l288_, l289_, l299_, l300_, l320_, l400_, l584_, l984_, l999_, l1023_, l1024_, l4095_, l6424_, l7008_, l10240_, l12345_, l32767_, l100000_, l1103515245_, l2000000000_, N_add, N_mul, up1_app, mI_wA, wA_wA, Option.bind_some, Option.bind_none, jn, fw_ck, fw_rv, fw_gI, fw_gL, fw_pI, fw_gR8, fw_rd1, fw_wr1, fw_al1, fw_gR9, fw_rd2, fw_wr2, fw_al2, fw_gR10, fw_rd3, fw_wr3, fw_al3, fw_gR11, fw_rd4, fw_wr4, fw_al4, fw_gR12, fw_rd5, fw_wr5, fw_al5, fw_gR13, fw_rd6, fw_wr6, fw_al6, fw_gR14, fw_rd7, fw_wr7, fw_al7, fw_gR15, fw_rd8, fw_wr8, fw_al8, fw_gR16, fw_rd9, fw_wr9, fw_al9, fw_gR17, fw_rd10, fw_wr10, fw_al10, fw_gR18, fw_rd11, fw_wr11, fw_al11, nle1_, nle2_, nle3_, nle0_, nlt1_, nlt2_, nlt3_, nlt0_, neq10_, neq01_, neq20_, neq30_, neq21_, neq31_, neq12_, neq32_, neq00_, neq11_, if_true, if_false, N_lt, N_le, N_inj, N_m1, m1_N, m1_lt, m1_le, N_ltm, N_lem, m1_m1, rwK hr, bk_ne, bt_, nb_, hpq, Ne.symm hpq]
  rw [if_neg (show ¬ b + 7 = b + 1 + 5 by omega)]
  rfl
end
