/-! THE PLAIN LAW, 9: what the model answers -/
set_option maxRecDepth 100000
theorem oN_m1 {P : Nat → Prop} [∀ i, Decidable (P i)] {k : Nat} (hk : k < 2147483648) : (oN (sr P 0 k) = M1) = (sr P 0 k = none) := by
  cases h : sr P 0 k with
  | none => exact propext ⟨fun _ => rfl, fun _ => rfl⟩
  | some r =>
    have hr := (sr_some k 0 r h).2.2.1
    show (N r = M1) = _
    rw [N_m1 (by omega)]
    exact propext ⟨False.elim, fun e => by cases e⟩
theorem wearer_m1 {A : Nat → Int32} {np : Nat} {y : Int32} (h : np ≤ 10) : (oN (aWearer A np y) = M1) = (aWearer A np y = none) := oN_m1 (by omega)
theorem hook_m1 {A : Nat → Int32} {nh : Nat} {y : Int32} (h : nh ≤ 12) : (oN (aHookOf A nh y) = M1) = (aHookOf A nh y = none) := oN_m1 (by omega)
def aWrong (A : Nat → Int32) (np : Nat) : Int32 := fd (fun p a => a ||| (if PA A p 2 = M1 then N 0 else if PA A p 2 = N p then N 0 else bt p)) 0 np (N 0)
def lostB (A : Nat → Int32) (np nh : Nat) (y : Int32) : Bool := (aWearer A np y).isNone && (aHookOf A nh y).isNone
def aLost (A : Nat → Int32) (np nh : Nat) : Int32 := fd (fun f a => a ||| (if lostB A np nh (N f) = true then bt f else N 0)) 0 np (N 0)
def aUncl (A : Nat → Int32) (np nh : Nat) : Int32 := fd (fun h a => a ||| (if HA A h = M1 then N 0 else if (aTicket A np (N h)).isSome = true then N 0 else N 1 <<< (HA A h &&& N 31))) 0 nh (N 0)
def aAlike (A : Nat → Int32) (np f : Nat) : Int32 := fd (fun g a => a ||| (if g = f then N 0 else if PA A g 0 = PA A f 0 then bt g else N 0)) 0 np (N 0)
def aUnkn (A : Nat → Int32) (np : Nat) : Int32 := fd (fun p a => fd (fun q a => a ||| (if q = p then N 0 else if PA A q 1 = PA A p 1 then bt p else N 0)) 0 np a) 0 np (N 0)
def ix (x : Int32) : Nat := x.toNatClampNeg
theorem ix_N {a : Nat} (h : a < 2147483648) : ix (N a) = a := N_idx h
def aSaved (A : Nat → Int32) (np : Nat) : Int32 := fd (fun p a => a ||| (if PA A p 4 = M1 then N 0 else if PA A p 2 = PA A p 4 then (if PA A (ix (PA A p 4)) 2 = N p then bt p else N 0) else N 0)) 0 np (N 0)
theorem bN_0 {c : Bool} : (bN c = N 0) = (c = false) := by cases c <;> simp [bN] <;> decide
theorem rZ_b {β : Type} (c : Bool) (r : β) : rZ (bN c) r = some (bN c, r) := by
  cases c
  · exact rZ_0 r
  · exact rZ_1 r
theorem rZd_b {β : Type} (c : Bool) (r : β) : rZd (bN c) r = rt (bN c, r) := by
  cases c
  · exact rZd_0 r
  · exact rZd_1 r
section
variable {σ : Mm} {np nh : Nat}
theorem M_ticket {y : Int32} (h : FM σ) (hn : mI σ 63 3 = N np) (hn0 : np ≤ 10) : FX8_hasTicketOf 62 y σ = some (bN (aTicket (mI σ 63) np y).isSome, σ) := by
  unfold FX8_hasTicketOf aTicket
  simp only [↓m1_, l0_, l1_, l2_, l3_, l4_, l5_, l6_, l7_, l8_, l9_, l10_, l11_, l12_, l13_, l14_, l15_, l16_, l17_, l18_, l19_, l20_, l21_, l22_, l23_, l24_, l25_, l26_, l27_, l28_, l29_, l30_, l31_, l32_, l40_, l48_, l57_, l59_, l60_, l61_, l62_, l63_, l72_, l77_, l90_, l97_, l99_, l100_, l122_, l128_, l172_, l255_, l272_, l284_, l285_, l286_, l287_, l288_, l289_, l299_, l300_, l320_, l400_, l584_, l984_, l999_, l1023_, l1024_, l4095_, l6424_, l7008_, l10240_, l12345_, l32767_, l100000_, l1103515245_, l2000000000_]
  rw [M_ticket_2 y h hn hn0 _ _ np 0 fu (by omega) (by unfold fu; omega)]
  cases sr (fun p => PA (mI σ 63) p 3 = y) 0 np
  · exact rZ_0 σ
  · exact rZ_1 σ
theorem M_isLost {y : Int32} (h : FM σ) (hn : mI σ 63 3 = N np) (hn0 : np ≤ 10) (hm : mI σ 63 4 = N nh) (hm0 : nh ≤ 12) : FX8_isLost 62 y σ = some (bN (lostB (mI σ 63) np nh y), σ) := by
  unfold FX8_isLost lostB
  simp (disch := first | exact h | omega) only [↓m1_, l0_, l1_, l2_, l3_, l4_, l5_, l6_, l7_, l8_, l9_, l10_, l11_, l12_, l13_, l14_, l15_, l16_, l17_, l18_, l19_, l20_, l21_, l22_, l23_, l24_, l25_, l26_, l27_, l28_, l29_, l30_, l31_, l32_, l40_, l48_, l57_, l59_, l60_, l61_, l62_, l63_, l72_, l77_, l90_, l97_, l99_, l100_, l122_, l128_, l172_, l255_, l272_, l284_, l285_, l286_, l287_, l288_, l289_, l299_, l300_, l320_, l400_, l584_, l984_, l999_, l1023_, l1024_, l4095_, l6424_, l7008_, l10240_, l12345_, l32767_, l100000_, l1103515245_, l2000000000_, N_add, N_mul, up1_app, mI_wA, wA_wA, Option.bind_some, Option.bind_none, jn, fm_ck, fm_rv, fm_gI, fm_pI, fm_gR1, fm_gR2, fm_gR4, fm_gR5, fm_gR7, fm_gR14, fm_gR19, fm_gR21, fm_gR22, fm_gR23, fm_gR24, fm_gR25, fm_rd63, fm_wr63, fm_rd64, fm_wr64, fm_rd65, fm_wr65, fm_rd66, fm_wr66, fm_rd67, fm_wr67, fm_rd68, fm_wr68, fm_rd69, fm_wr69, fm_rd70, fm_wr70, fm_rd71, fm_wr71, fm_rd72, fm_wr72, fm_rd73, fm_wr73, fm_rd74, fm_wr74, nle1_, nle2_, nle3_, nle0_, nlt1_, nlt2_, nlt3_, nlt0_, neq10_, neq01_, neq20_, neq30_, neq21_, neq31_, neq12_, neq32_, neq00_, neq11_, if_true, if_false, N_lt, N_le, N_inj, N_m1, m1_N, m1_lt, m1_le, N_ltm, N_lem, m1_m1, pa_, ha_, M_wearer h hn, M_hookOf h hm, wearer_m1, hook_m1, rZ_0, rZ_1]
  cases aWearer (mI σ 63) np y <;> cases aHookOf (mI σ 63) nh y <;> rfl
end
theorem M_wrongs_4 {σ : Mm} {np : Nat} (h : FM σ) (hn : mI σ 63 3 = N np) (hn0 : np ≤ 10) (kx : Int32 → Mm → Option (Int32 × Mm)) (k : Nat) : ∀ (i n : Nat) (a : Int32), i + k = np → k < n → FX8_wrongs_4 62 n a (N i) σ kx = kx (fd (fun p a => a ||| (if PA (mI σ 63) p 2 = M1 then N 0 else if PA (mI σ 63) p 2 = N p then N 0 else bt p)) i k a) σ := by
  induction k with
  | zero =>
    intro i n a hi hk
    obtain ⟨n, rfl⟩ : ∃ n', n = n' + 1 := ⟨n - 1, by omega⟩
    rw [FX8_wrongs_4]
    simp (disch := first | exact h | omega) only [↓m1_, l0_, l1_, l2_, l3_, l4_, l5_, l6_, l7_, l8_, l9_, l10_, l11_, l12_, l13_, l14_, l15_, l16_, l17_, l18_, l19_, l20_, l21_, l22_, l23_, l24_, l25_, l26_, l27_, l28_, l29_, l30_, l31_, l32_, l40_, l48_, l57_, l59_, l60_, l61_, l62_, l63_, l72_, l77_, l90_, l97_, l99_, l100_, l122_, l128_, l172_, l255_, l272_, l284_, l285_, l286_, l287_, l288_, l289_, l299_, l300_, l320_, l400_, l584_, l984_, l999_, l1023_, l1024_, l4095_, l6424_, l7008_, l10240_, l12345_, l32767_, l100000_, l1103515245_, l2000000000_, N_add, N_mul, up1_app, mI_wA, wA_wA, Option.bind_some, Option.bind_none, jn, fm_ck, fm_rv, fm_gI, fm_pI, fm_gR1, fm_gR2, fm_gR4, fm_gR5, fm_gR7, fm_gR14, fm_gR19, fm_gR21, fm_gR22, fm_gR23, fm_gR24, fm_gR25, fm_rd63, fm_wr63, fm_rd64, fm_wr64, fm_rd65, fm_wr65, fm_rd66, fm_wr66, fm_rd67, fm_wr67, fm_rd68, fm_wr68, fm_rd69, fm_wr69, fm_rd70, fm_wr70, fm_rd71, fm_wr71, fm_rd72, fm_wr72, fm_rd73, fm_wr73, fm_rd74, fm_wr74, nle1_, nle2_, nle3_, nle0_, nlt1_, nlt2_, nlt3_, nlt0_, neq10_, neq01_, neq20_, neq30_, neq21_, neq31_, neq12_, neq32_, neq00_, neq11_, if_true, if_false, N_lt, N_le, N_inj, N_m1, m1_N, m1_lt, m1_le, N_ltm, N_lem, m1_m1, pa_, ha_, hn, fd, M_of, bt_, show np ≤ i from by omega]
  | succ k ih =>
    intro i n a hi hk
    obtain ⟨n, rfl⟩ : ∃ n', n = n' + 1 := ⟨n - 1, by omega⟩
    have hlt : i < np := by omega
    rw [FX8_wrongs_4]
    simp (disch := first | exact h | omega) only [↓m1_, l0_, l1_, l2_, l3_, l4_, l5_, l6_, l7_, l8_, l9_, l10_, l11_, l12_, l13_, l14_, l15_, l16_, l17_, l18_, l19_, l20_, l21_, l22_, l23_, l24_, l25_, l26_, l27_, l28_, l29_, l30_, l31_, l32_, l40_, l48_, l57_, l59_, l60_, l61_, l62_, l63_, l72_, l77_, l90_, l97_, l99_, l100_, l122_, l128_, l172_, l255_, l272_, l284_, l285_, l286_, l287_, l288_, l289_, l299_, l300_, l320_, l400_, l584_, l984_, l999_, l1023_, l1024_, l4095_, l6424_, l7008_, l10240_, l12345_, l32767_, l100000_, l1103515245_, l2000000000_, N_add, N_mul, up1_app, mI_wA, wA_wA, Option.bind_some, Option.bind_none, jn, fm_ck, fm_rv, fm_gI, fm_pI, fm_gR1, fm_gR2, fm_gR4, fm_gR5, fm_gR7, fm_gR14, fm_gR19, fm_gR21, fm_gR22, fm_gR23, fm_gR24, fm_gR25, fm_rd63, fm_wr63, fm_rd64, fm_wr64, fm_rd65, fm_wr65, fm_rd66, fm_wr66, fm_rd67, fm_wr67, fm_rd68, fm_wr68, fm_rd69, fm_wr69, fm_rd70, fm_wr70, fm_rd71, fm_wr71, fm_rd72, fm_wr72, fm_rd73, fm_wr73, fm_rd74, fm_wr74, nle1_, nle2_, nle3_, nle0_, nlt1_, nlt2_, nlt3_, nlt0_, neq10_, neq01_, neq20_, neq30_, neq21_, neq31_, neq12_, neq32_, neq00_, neq11_, if_true, if_false, N_lt, N_le, N_inj, N_m1, m1_N, m1_lt, m1_le, N_ltm, N_lem, m1_m1, pa_, ha_, hn, fd, M_of, bt_, show ¬ np ≤ i from by omega, ih (i + 1) n]
    all_goals (try (repeat' split))
    all_goals first | (with_reducible rfl) | (simp only [*, if_true, if_false]; done) | (rename_i hh9; exact absurd hh9 (by decide)) | rfl | simp_all
theorem M_lost_9 {σ : Mm} {np : Nat} {nh : Nat} (h : FM σ) (hn : mI σ 63 3 = N np) (hn0 : np ≤ 10) (hm : mI σ 63 4 = N nh) (hm0 : nh ≤ 12) (kx : Int32 → Mm → Option (Int32 × Mm)) (k : Nat) : ∀ (i n : Nat) (a : Int32), i + k = np → k < n → FX8_lost_9 62 n a (N i) σ kx = kx (fd (fun f a => a ||| (if lostB (mI σ 63) np nh (N f) = true then bt f else N 0)) i k a) σ := by
  induction k with
  | zero =>
    intro i n a hi hk
    obtain ⟨n, rfl⟩ : ∃ n', n = n' + 1 := ⟨n - 1, by omega⟩
    rw [FX8_lost_9]
    simp (disch := first | exact h | omega) only [↓m1_, l0_, l1_, l2_, l3_, l4_, l5_, l6_, l7_, l8_, l9_, l10_, l11_, l12_, l13_, l14_, l15_, l16_, l17_, l18_, l19_, l20_, l21_, l22_, l23_, l24_, l25_, l26_, l27_, l28_, l29_, l30_, l31_, l32_, l40_, l48_, l57_, l59_, l60_, l61_, l62_, l63_, l72_, l77_, l90_, l97_, l99_, l100_, l122_, l128_, l172_, l255_, l272_, l284_, l285_, l286_, l287_, l288_, l289_, l299_, l300_, l320_, l400_, l584_, l984_, l999_, l1023_, l1024_, l4095_, l6424_, l7008_, l10240_, l12345_, l32767_, l100000_, l1103515245_, l2000000000_, N_add, N_mul, up1_app, mI_wA, wA_wA, Option.bind_some, Option.bind_none, jn, fm_ck, fm_rv, fm_gI, fm_pI, fm_gR1, fm_gR2, fm_gR4, fm_gR5, fm_gR7, fm_gR14, fm_gR19, fm_gR21, fm_gR22, fm_gR23, fm_gR24, fm_gR25, fm_rd63, fm_wr63, fm_rd64, fm_wr64, fm_rd65, fm_wr65, fm_rd66, fm_wr66, fm_rd67, fm_wr67, fm_rd68, fm_wr68, fm_rd69, fm_wr69, fm_rd70, fm_wr70, fm_rd71, fm_wr71, fm_rd72, fm_wr72, fm_rd73, fm_wr73, fm_rd74, fm_wr74, nle1_, nle2_, nle3_, nle0_, nlt1_, nlt2_, nlt3_, nlt0_, neq10_, neq01_, neq20_, neq30_, neq21_, neq31_, neq12_, neq32_, neq00_, neq11_, if_true, if_false, N_lt, N_le, N_inj, N_m1, m1_N, m1_lt, m1_le, N_ltm, N_lem, m1_m1, pa_, ha_, hn, fd, M_isLost h hn hn0 hm, bN_0, bt_, show np ≤ i from by omega]
  | succ k ih =>
    intro i n a hi hk
    obtain ⟨n, rfl⟩ : ∃ n', n = n' + 1 := ⟨n - 1, by omega⟩
    have hlt : i < np := by omega
    rw [FX8_lost_9]
    simp (disch := first | exact h | omega) only [↓m1_, l0_, l1_, l2_, l3_, l4_, l5_, l6_, l7_, l8_, l9_, l10_, l11_, l12_, l13_, l14_, l15_, l16_, l17_, l18_, l19_, l20_, l21_, l22_, l23_, l24_, l25_, l26_, l27_, l28_, l29_, l30_, l31_, l32_, l40_, l48_, l57_, l59_, l60_, l61_, l62_, l63_, l72_, l77_, l90_, l97_, l99_, l100_, l122_, l128_, l172_, l255_, l272_, l284_, l285_, l286_, l287_, l288_, l289_, l299_, l300_, l320_, l400_, l584_, l984_, l999_, l1023_, l1024_, l4095_, l6424_, l7008_, l10240_, l12345_, l32767_, l100000_, l1103515245_, l2000000000_, N_add, N_mul, up1_app, mI_wA, wA_wA, Option.bind_some, Option.bind_none, jn, fm_ck, fm_rv, fm_gI, fm_pI, fm_gR1, fm_gR2, fm_gR4, fm_gR5, fm_gR7, fm_gR14, fm_gR19, fm_gR21, fm_gR22, fm_gR23, fm_gR24, fm_gR25, fm_rd63, fm_wr63, fm_rd64, fm_wr64, fm_rd65, fm_wr65, fm_rd66, fm_wr66, fm_rd67, fm_wr67, fm_rd68, fm_wr68, fm_rd69, fm_wr69, fm_rd70, fm_wr70, fm_rd71, fm_wr71, fm_rd72, fm_wr72, fm_rd73, fm_wr73, fm_rd74, fm_wr74, nle1_, nle2_, nle3_, nle0_, nlt1_, nlt2_, nlt3_, nlt0_, neq10_, neq01_, neq20_, neq30_, neq21_, neq31_, neq12_, neq32_, neq00_, neq11_, if_true, if_false, N_lt, N_le, N_inj, N_m1, m1_N, m1_lt, m1_le, N_ltm, N_lem, m1_m1, pa_, ha_, hn, fd, M_isLost h hn hn0 hm, bN_0, bt_, show ¬ np ≤ i from by omega, ih (i + 1) n]
    all_goals (try (repeat' split))
    all_goals first | (with_reducible rfl) | (simp only [*, if_true, if_false]; done) | (rename_i hh9; exact absurd hh9 (by decide)) | rfl | simp_all
theorem M_uncl_9 {σ : Mm} {nh : Nat} {np : Nat} (h : FM σ) (hn : mI σ 63 3 = N np) (hn0 : np ≤ 10) (hm : mI σ 63 4 = N nh) (hm0 : nh ≤ 12) (kx : Int32 → Mm → Option (Int32 × Mm)) (k : Nat) : ∀ (i n : Nat) (a : Int32), i + k = nh → k < n → FX8_unclaimed_9 62 n a (N i) σ kx = kx (fd (fun h a => a ||| (if HA (mI σ 63) h = M1 then N 0 else if (aTicket (mI σ 63) np (N h)).isSome = true then N 0 else N 1 <<< (HA (mI σ 63) h &&& N 31))) i k a) σ := by
  induction k with
  | zero =>
    intro i n a hi hk
    obtain ⟨n, rfl⟩ : ∃ n', n = n' + 1 := ⟨n - 1, by omega⟩
    rw [FX8_unclaimed_9]
    simp (disch := first | exact h | omega) only [↓m1_, l0_, l1_, l2_, l3_, l4_, l5_, l6_, l7_, l8_, l9_, l10_, l11_, l12_, l13_, l14_, l15_, l16_, l17_, l18_, l19_, l20_, l21_, l22_, l23_, l24_, l25_, l26_, l27_, l28_, l29_, l30_, l31_, l32_, l40_, l48_, l57_, l59_, l60_, l61_, l62_, l63_, l72_, l77_, l90_, l97_, l99_, l100_, l122_, l128_, l172_, l255_, l272_, l284_, l285_, l286_, l287_, l288_, l289_, l299_, l300_, l320_, l400_, l584_, l984_, l999_, l1023_, l1024_, l4095_, l6424_, l7008_, l10240_, l12345_, l32767_, l100000_, l1103515245_, l2000000000_, N_add, N_mul, up1_app, mI_wA, wA_wA, Option.bind_some, Option.bind_none, jn, fm_ck, fm_rv, fm_gI, fm_pI, fm_gR1, fm_gR2, fm_gR4, fm_gR5, fm_gR7, fm_gR14, fm_gR19, fm_gR21, fm_gR22, fm_gR23, fm_gR24, fm_gR25, fm_rd63, fm_wr63, fm_rd64, fm_wr64, fm_rd65, fm_wr65, fm_rd66, fm_wr66, fm_rd67, fm_wr67, fm_rd68, fm_wr68, fm_rd69, fm_wr69, fm_rd70, fm_wr70, fm_rd71, fm_wr71, fm_rd72, fm_wr72, fm_rd73, fm_wr73, fm_rd74, fm_wr74, nle1_, nle2_, nle3_, nle0_, nlt1_, nlt2_, nlt3_, nlt0_, neq10_, neq01_, neq20_, neq30_, neq21_, neq31_, neq12_, neq32_, neq00_, neq11_, if_true, if_false, N_lt, N_le, N_inj, N_m1, m1_N, m1_lt, m1_le, N_ltm, N_lem, m1_m1, pa_, ha_, hm, fd, M_ticket h hn hn0, bN_0, show nh ≤ i from by omega]
  | succ k ih =>
    intro i n a hi hk
    obtain ⟨n, rfl⟩ : ∃ n', n = n' + 1 := ⟨n - 1, by omega⟩
    have hlt : i < nh := by omega
    rw [FX8_unclaimed_9]
    simp (disch := first | exact h | omega) only [↓m1_, l0_, l1_, l2_, l3_, l4_, l5_, l6_, l7_, l8_, l9_, l10_, l11_, l12_, l13_, l14_, l15_, l16_, l17_, l18_, l19_, l20_, l21_, l22_, l23_, l24_, l25_, l26_, l27_, l28_, l29_, l30_, l31_, l32_, l40_, l48_, l57_, l59_, l60_, l61_, l62_, l63_, l72_, l77_, l90_, l97_, l99_, l100_, l122_, l128_, l172_, l255_, l272_, l284_, l285_, l286_, l287_, l288_, l289_, l299_, l300_, l320_, l400_, l584_, l984_, l999_, l1023_, l1024_, l4095_, l6424_, l7008_, l10240_, l12345_, l32767_, l100000_, l1103515245_, l2000000000_, N_add, N_mul, up1_app, mI_wA, wA_wA, Option.bind_some, Option.bind_none, jn, fm_ck, fm_rv, fm_gI, fm_pI, fm_gR1, fm_gR2, fm_gR4, fm_gR5, fm_gR7, fm_gR14, fm_gR19, fm_gR21, fm_gR22, fm_gR23, fm_gR24, fm_gR25, fm_rd63, fm_wr63, fm_rd64, fm_wr64, fm_rd65, fm_wr65, fm_rd66, fm_wr66, fm_rd67, fm_wr67, fm_rd68, fm_wr68, fm_rd69, fm_wr69, fm_rd70, fm_wr70, fm_rd71, fm_wr71, fm_rd72, fm_wr72, fm_rd73, fm_wr73, fm_rd74, fm_wr74, nle1_, nle2_, nle3_, nle0_, nlt1_, nlt2_, nlt3_, nlt0_, neq10_, neq01_, neq20_, neq30_, neq21_, neq31_, neq12_, neq32_, neq00_, neq11_, if_true, if_false, N_lt, N_le, N_inj, N_m1, m1_N, m1_lt, m1_le, N_ltm, N_lem, m1_m1, pa_, ha_, hm, fd, M_ticket h hn hn0, bN_0, show ¬ nh ≤ i from by omega, ih (i + 1) n]
    all_goals (try (repeat' split))
    all_goals first | (with_reducible rfl) | (simp only [*, if_true, if_false]; done) | (rename_i hh9; exact absurd hh9 (by decide)) | rfl | simp_all
theorem M_alike_4 {σ : Mm} {np : Nat} (f : Nat) (hf : f < 10) (h : FM σ) (hn : mI σ 63 3 = N np) (hn0 : np ≤ 10) (kx : Int32 → Mm → Option (Int32 × Mm)) (k : Nat) : ∀ (i n : Nat) (a : Int32), i + k = np → k < n → FX8_alike_4 62 (N f) n a (N i) σ kx = kx (fd (fun g a => a ||| (if g = f then N 0 else if PA (mI σ 63) g 0 = PA (mI σ 63) f 0 then bt g else N 0)) i k a) σ := by
  induction k with
  | zero =>
    intro i n a hi hk
    obtain ⟨n, rfl⟩ : ∃ n', n = n' + 1 := ⟨n - 1, by omega⟩
    rw [FX8_alike_4]
    simp (disch := first | exact h | omega) only [↓m1_, l0_, l1_, l2_, l3_, l4_, l5_, l6_, l7_, l8_, l9_, l10_, l11_, l12_, l13_, l14_, l15_, l16_, l17_, l18_, l19_, l20_, l21_, l22_, l23_, l24_, l25_, l26_, l27_, l28_, l29_, l30_, l31_, l32_, l40_, l48_, l57_, l59_, l60_, l61_, l62_, l63_, l72_, l77_, l90_, l97_, l99_, l100_, l122_, l128_, l172_, l255_, l272_, l284_, l285_, l286_, l287_, l288_, l289_, l299_, l300_, l320_, l400_, l584_, l984_, l999_, l1023_, l1024_, l4095_, l6424_, l7008_, l10240_, l12345_, l32767_, l100000_, l1103515245_, l2000000000_, N_add, N_mul, up1_app, mI_wA, wA_wA, Option.bind_some, Option.bind_none, jn, fm_ck, fm_rv, fm_gI, fm_pI, fm_gR1, fm_gR2, fm_gR4, fm_gR5, fm_gR7, fm_gR14, fm_gR19, fm_gR21, fm_gR22, fm_gR23, fm_gR24, fm_gR25, fm_rd63, fm_wr63, fm_rd64, fm_wr64, fm_rd65, fm_wr65, fm_rd66, fm_wr66, fm_rd67, fm_wr67, fm_rd68, fm_wr68, fm_rd69, fm_wr69, fm_rd70, fm_wr70, fm_rd71, fm_wr71, fm_rd72, fm_wr72, fm_rd73, fm_wr73, fm_rd74, fm_wr74, nle1_, nle2_, nle3_, nle0_, nlt1_, nlt2_, nlt3_, nlt0_, neq10_, neq01_, neq20_, neq30_, neq21_, neq31_, neq12_, neq32_, neq00_, neq11_, if_true, if_false, N_lt, N_le, N_inj, N_m1, m1_N, m1_lt, m1_le, N_ltm, N_lem, m1_m1, pa_, ha_, hn, fd, M_of, bt_, show np ≤ i from by omega]
  | succ k ih =>
    intro i n a hi hk
    obtain ⟨n, rfl⟩ : ∃ n', n = n' + 1 := ⟨n - 1, by omega⟩
    have hlt : i < np := by omega
    rw [FX8_alike_4]
    simp (disch := first | exact h | omega) only [↓m1_, l0_, l1_, l2_, l3_, l4_, l5_, l6_, l7_, l8_, l9_, l10_, l11_, l12_, l13_, l14_, l15_, l16_, l17_, l18_, l19_, l20_, l21_, l22_, l23_, l24_, l25_, l26_, l27_, l28_, l29_, l30_, l31_, l32_, l40_, l48_, l57_, l59_, l60_, l61_, l62_, l63_, l72_, l77_, l90_, l97_, l99_, l100_, l122_, l128_, l172_, l255_, l272_, l284_, l285_, l286_, l287_, l288_, l289_, l299_, l300_, l320_, l400_, l584_, l984_, l999_, l1023_, l1024_, l4095_, l6424_, l7008_, l10240_, l12345_, l32767_, l100000_, l1103515245_, l2000000000_, N_add, N_mul, up1_app, mI_wA, wA_wA, Option.bind_some, Option.bind_none, jn, fm_ck, fm_rv, fm_gI, fm_pI, fm_gR1, fm_gR2, fm_gR4, fm_gR5, fm_gR7, fm_gR14, fm_gR19, fm_gR21, fm_gR22, fm_gR23, fm_gR24, fm_gR25, fm_rd63, fm_wr63, fm_rd64, fm_wr64, fm_rd65, fm_wr65, fm_rd66, fm_wr66, fm_rd67, fm_wr67, fm_rd68, fm_wr68, fm_rd69, fm_wr69, fm_rd70, fm_wr70, fm_rd71, fm_wr71, fm_rd72, fm_wr72, fm_rd73, fm_wr73, fm_rd74, fm_wr74, nle1_, nle2_, nle3_, nle0_, nlt1_, nlt2_, nlt3_, nlt0_, neq10_, neq01_, neq20_, neq30_, neq21_, neq31_, neq12_, neq32_, neq00_, neq11_, if_true, if_false, N_lt, N_le, N_inj, N_m1, m1_N, m1_lt, m1_le, N_ltm, N_lem, m1_m1, pa_, ha_, hn, fd, M_of, bt_, show ¬ np ≤ i from by omega, ih (i + 1) n]
    all_goals (try (repeat' split))
    all_goals first | (with_reducible rfl) | (simp only [*, if_true, if_false]; done) | (rename_i hh9; exact absurd hh9 (by decide)) | rfl | simp_all
theorem M_unkn_21 {σ : Mm} {np : Nat} (p : Nat) (hp : p < 10) (h : FM σ) (hn : mI σ 63 3 = N np) (hn0 : np ≤ 10) (kx : Int32 → Mm → Option (Int32 × Mm)) (k : Nat) : ∀ (i n : Nat) (a : Int32), i + k = np → k < n → FX8_unknown_21 62 (N p) n a (N i) σ kx = kx (fd (fun q a => a ||| (if q = p then N 0 else if PA (mI σ 63) q 1 = PA (mI σ 63) p 1 then bt p else N 0)) i k a) σ := by
  induction k with
  | zero =>
    intro i n a hi hk
    obtain ⟨n, rfl⟩ : ∃ n', n = n' + 1 := ⟨n - 1, by omega⟩
    rw [FX8_unknown_21]
    simp (disch := first | exact h | omega) only [↓m1_, l0_, l1_, l2_, l3_, l4_, l5_, l6_, l7_, l8_, l9_, l10_, l11_, l12_, l13_, l14_, l15_, l16_, l17_, l18_, l19_, l20_, l21_, l22_, l23_, l24_, l25_, l26_, l27_, l28_, l29_, l30_, l31_, l32_, l40_, l48_, l57_, l59_, l60_, l61_, l62_, l63_, l72_, l77_, l90_, l97_, l99_, l100_, l122_, l128_, l172_, l255_, l272_, l284_, l285_, l286_, l287_, l288_, l289_, l299_, l300_, l320_, l400_, l584_, l984_, l999_, l1023_, l1024_, l4095_, l6424_, l7008_, l10240_, l12345_, l32767_, l100000_, l1103515245_, l2000000000_, N_add, N_mul, up1_app, mI_wA, wA_wA, Option.bind_some, Option.bind_none, jn, fm_ck, fm_rv, fm_gI, fm_pI, fm_gR1, fm_gR2, fm_gR4, fm_gR5, fm_gR7, fm_gR14, fm_gR19, fm_gR21, fm_gR22, fm_gR23, fm_gR24, fm_gR25, fm_rd63, fm_wr63, fm_rd64, fm_wr64, fm_rd65, fm_wr65, fm_rd66, fm_wr66, fm_rd67, fm_wr67, fm_rd68, fm_wr68, fm_rd69, fm_wr69, fm_rd70, fm_wr70, fm_rd71, fm_wr71, fm_rd72, fm_wr72, fm_rd73, fm_wr73, fm_rd74, fm_wr74, nle1_, nle2_, nle3_, nle0_, nlt1_, nlt2_, nlt3_, nlt0_, neq10_, neq01_, neq20_, neq30_, neq21_, neq31_, neq12_, neq32_, neq00_, neq11_, if_true, if_false, N_lt, N_le, N_inj, N_m1, m1_N, m1_lt, m1_le, N_ltm, N_lem, m1_m1, pa_, ha_, hn, fd, M_of, bt_, show np ≤ i from by omega]
  | succ k ih =>
    intro i n a hi hk
    obtain ⟨n, rfl⟩ : ∃ n', n = n' + 1 := ⟨n - 1, by omega⟩
    have hlt : i < np := by omega
    rw [FX8_unknown_21]
    simp (disch := first | exact h | omega) only [↓m1_, l0_, l1_, l2_, l3_, l4_, l5_, l6_, l7_, l8_, l9_, l10_, l11_, l12_, l13_, l14_, l15_, l16_, l17_, l18_, l19_, l20_, l21_, l22_, l23_, l24_, l25_, l26_, l27_, l28_, l29_, l30_, l31_, l32_, l40_, l48_, l57_, l59_, l60_, l61_, l62_, l63_, l72_, l77_, l90_, l97_, l99_, l100_, l122_, l128_, l172_, l255_, l272_, l284_, l285_, l286_, l287_, l288_, l289_, l299_, l300_, l320_, l400_, l584_, l984_, l999_, l1023_, l1024_, l4095_, l6424_, l7008_, l10240_, l12345_, l32767_, l100000_, l1103515245_, l2000000000_, N_add, N_mul, up1_app, mI_wA, wA_wA, Option.bind_some, Option.bind_none, jn, fm_ck, fm_rv, fm_gI, fm_pI, fm_gR1, fm_gR2, fm_gR4, fm_gR5, fm_gR7, fm_gR14, fm_gR19, fm_gR21, fm_gR22, fm_gR23, fm_gR24, fm_gR25, fm_rd63, fm_wr63, fm_rd64, fm_wr64, fm_rd65, fm_wr65, fm_rd66, fm_wr66, fm_rd67, fm_wr67, fm_rd68, fm_wr68, fm_rd69, fm_wr69, fm_rd70, fm_wr70, fm_rd71, fm_wr71, fm_rd72, fm_wr72, fm_rd73, fm_wr73, fm_rd74, fm_wr74, nle1_, nle2_, nle3_, nle0_, nlt1_, nlt2_, nlt3_, nlt0_, neq10_, neq01_, neq20_, neq30_, neq21_, neq31_, neq12_, neq32_, neq00_, neq11_, if_true, if_false, N_lt, N_le, N_inj, N_m1, m1_N, m1_lt, m1_le, N_ltm, N_lem, m1_m1, pa_, ha_, hn, fd, M_of, bt_, show ¬ np ≤ i from by omega, ih (i + 1) n]
    all_goals (try (repeat' split))
    all_goals first | (with_reducible rfl) | (simp only [*, if_true, if_false]; done) | (rename_i hh9; exact absurd hh9 (by decide)) | rfl | simp_all
