/-! THE PLAIN LAW, 7: a World's small methods -/
set_option maxRecDepth 100000
section
variable {b np nh : Nat} {A : Nat → Int32} {σ : Mm}
theorem rw0 (h : RW b A np σ) : mI σ b 0 = A 0 := h.1.1
theorem rw1 (h : RW b A np σ) : mI σ b 1 = A 3 := h.1.2.1
theorem rw2 (h : RW b A np σ) : mI σ b 2 = A 4 := h.1.2.2.1
theorem rw3 (h : RW b A np σ) : mI σ b 3 = A 5 := h.1.2.2.2.1
theorem rw4 (h : RW b A np σ) : mI σ b 4 = A 6 := h.1.2.2.2.2.1
theorem rw5 (h : RW b A np σ) : mI σ b 5 = A 7 := h.1.2.2.2.2.2.1
theorem rw6 (h : RW b A np σ) : mI σ b 6 = A 8 := h.1.2.2.2.2.2.2.1
theorem rw7 (h : RW b A np σ) : mI σ b 7 = A 9 := h.1.2.2.2.2.2.2.2
theorem rwF {p : Nat} (h : RW b A np σ) (hp : p < 10) : mI σ (b + 1) p = PA A p 0 := (h.2.1 p hp).1
theorem rwM {p : Nat} (h : RW b A np σ) (hp : p < 10) : mI σ (b + 2) p = PA A p 1 := (h.2.1 p hp).2.1
theorem rwW {p : Nat} (h : RW b A np σ) (hp : p < 10) : mI σ (b + 3) p = PA A p 2 := (h.2.1 p hp).2.2.1
theorem rwT {p : Nat} (h : RW b A np σ) (hp : p < 10) : mI σ (b + 4) p = PA A p 3 := (h.2.1 p hp).2.2.2.1
theorem rwS {p : Nat} (h : RW b A np σ) (hp : p < 10) : mI σ (b + 5) p = PA A p 4 := (h.2.1 p hp).2.2.2.2.1
theorem rwK {p : Nat} (h : RW b A np σ) (hp : p < 10) : mI σ (b + 6) p = PA A p 5 := (h.2.1 p hp).2.2.2.2.2
theorem rwTh {j : Nat} (h : RW b A np σ) (hj : j < 100) : mI σ (b + 7) j = A (172 + j) := h.2.2.1 j hj
theorem rwH {j : Nat} (h : RW b A np σ) (hj : j < 12) : mI σ (b + 10) j = HA A j := h.2.2.2.1 j hj
theorem rwL {j : Nat} (h : RW b A np σ) (hj : j < 300) : mI σ (b + 11) j = A (284 + j) := h.2.2.2.2.1 j hj
theorem rwWS (h : RW b A np σ) : WS np A (mI σ (b + 8)) (mI σ (b + 9)) := h.2.2.2.2.2
end
theorem W_wearer_2 {σ : Mm} {np : Nat} {b nq : Nat} {A : Nat → Int32} (y : Int32) (h : FW b σ) (hr : RW b A nq σ) (hn : A 3 = N np) (hn0 : np ≤ 10) (kx : Mm → Option (Int32 × Mm)) (ky : Int32 → Mm → Option (Int32 × Mm)) (k : Nat) : ∀ (i n : Nat) , i + k = np → k < n → FX2_wearer_2 b y n (N i) σ kx ky = (match sr (fun p => PA A p 2 = y) i k with | none => kx σ | some j => ky (N j) σ) := by
  induction k with
  | zero =>
    intro i n hi hk
    obtain ⟨n, rfl⟩ : ∃ n', n = n' + 1 := ⟨n - 1, by omega⟩
    rw [FX2_wearer_2]
    simp (disch := first | exact h | omega) only [↓m1_, l0_, l1_, l2_, l3_, l4_, l5_, l6_, l7_, l8_, l9_, l10_, l11_, l12_, l13_, l14_, l15_, l16_, l17_, l18_, l19_, l20_, l21_, l22_, l23_, l24_, l25_, l26_, l27_, l28_, l29_, l30_, l31_, l32_, l40_, l48_, l57_, l59_, l60_, l61_, l62_, l63_, l72_, l77_, l90_, l97_, l99_, l100_, l122_, l128_, l172_, l255_, l272_, l284_, l285_, l286_, l287_, l288_, l289_, l299_, l300_, l320_, l400_, l584_, l984_, l999_, l1023_, l1024_, l4095_, l6424_, l7008_, l10240_, l12345_, l32767_, l100000_, l1103515245_, l2000000000_, N_add, N_mul, up1_app, mI_wA, wA_wA, Option.bind_some, Option.bind_none, jn, fw_ck, fw_rv, fw_gI, fw_gL, fw_pI, fw_gR8, fw_rd1, fw_wr1, fw_al1, fw_gR9, fw_rd2, fw_wr2, fw_al2, fw_gR10, fw_rd3, fw_wr3, fw_al3, fw_gR11, fw_rd4, fw_wr4, fw_al4, fw_gR12, fw_rd5, fw_wr5, fw_al5, fw_gR13, fw_rd6, fw_wr6, fw_al6, fw_gR14, fw_rd7, fw_wr7, fw_al7, fw_gR15, fw_rd8, fw_wr8, fw_al8, fw_gR16, fw_rd9, fw_wr9, fw_al9, fw_gR17, fw_rd10, fw_wr10, fw_al10, fw_gR18, fw_rd11, fw_wr11, fw_al11, nle1_, nle2_, nle3_, nle0_, nlt1_, nlt2_, nlt3_, nlt0_, neq10_, neq01_, neq20_, neq30_, neq21_, neq31_, neq12_, neq32_, neq00_, neq11_, if_true, if_false, N_lt, N_le, N_inj, N_m1, m1_N, m1_lt, m1_le, N_ltm, N_lem, m1_m1, rw1 hr, hn, sr, rwW hr, show np ≤ i from by omega]
  | succ k ih =>
    intro i n hi hk
    obtain ⟨n, rfl⟩ : ∃ n', n = n' + 1 := ⟨n - 1, by omega⟩
    have hlt : i < np := by omega
    rw [FX2_wearer_2]
    simp (disch := first | exact h | omega) only [↓m1_, l0_, l1_, l2_, l3_, l4_, l5_, l6_, l7_, l8_, l9_, l10_, l11_, l12_, l13_, l14_, l15_, l16_, l17_, l18_, l19_, l20_, l21_, l22_, l23_, l24_, l25_, l26_, l27_, l28_, l29_, l30_, l31_, l32_, l40_, l48_, l57_, l59_, l60_, l61_, l62_, l63_, l72_, l77_, l90_, l97_, l99_, l100_, l122_, l128_, l172_, l255_, l272_, l284_, l285_, l286_, l287_, l288_, l289_, l299_, l300_, l320_, l400_, l584_, l984_, l999_, l1023_, l1024_, l4095_, l6424_, l7008_, l10240_, l12345_, l32767_, l100000_, l1103515245_, l2000000000_, N_add, N_mul, up1_app, mI_wA, wA_wA, Option.bind_some, Option.bind_none, jn, fw_ck, fw_rv, fw_gI, fw_gL, fw_pI, fw_gR8, fw_rd1, fw_wr1, fw_al1, fw_gR9, fw_rd2, fw_wr2, fw_al2, fw_gR10, fw_rd3, fw_wr3, fw_al3, fw_gR11, fw_rd4, fw_wr4, fw_al4, fw_gR12, fw_rd5, fw_wr5, fw_al5, fw_gR13, fw_rd6, fw_wr6, fw_al6, fw_gR14, fw_rd7, fw_wr7, fw_al7, fw_gR15, fw_rd8, fw_wr8, fw_al8, fw_gR16, fw_rd9, fw_wr9, fw_al9, fw_gR17, fw_rd10, fw_wr10, fw_al10, fw_gR18, fw_rd11, fw_wr11, fw_al11, nle1_, nle2_, nle3_, nle0_, nlt1_, nlt2_, nlt3_, nlt0_, neq10_, neq01_, neq20_, neq30_, neq21_, neq31_, neq12_, neq32_, neq00_, neq11_, if_true, if_false, N_lt, N_le, N_inj, N_m1, m1_N, m1_lt, m1_le, N_ltm, N_lem, m1_m1, rw1 hr, hn, sr, rwW hr, show ¬ np ≤ i from by omega, ih (i + 1) n]
    all_goals (try (repeat' split))
    all_goals first | (with_reducible rfl) | (simp only [*, if_true, if_false]; done) | (rename_i hh9; exact absurd hh9 (by decide)) | rfl | simp_all
theorem W_hookOf_2 {σ : Mm} {nh : Nat} {b nq : Nat} {A : Nat → Int32} (y : Int32) (h : FW b σ) (hr : RW b A nq σ) (hn : A 4 = N nh) (hn0 : nh ≤ 12) (kx : Mm → Option (Int32 × Mm)) (ky : Int32 → Mm → Option (Int32 × Mm)) (k : Nat) : ∀ (i n : Nat) , i + k = nh → k < n → FX2_hookOf_2 b y n (N i) σ kx ky = (match sr (fun h => HA A h = y) i k with | none => kx σ | some j => ky (N j) σ) := by
  induction k with
  | zero =>
    intro i n hi hk
    obtain ⟨n, rfl⟩ : ∃ n', n = n' + 1 := ⟨n - 1, by omega⟩
    rw [FX2_hookOf_2]
    simp (disch := first | exact h | omega) only [↓m1_, l0_, l1_, l2_, l3_, l4_, l5_, l6_, l7_, l8_, l9_, l10_, l11_, l12_, l13_, l14_, l15_, l16_, l17_, l18_, l19_, l20_, l21_, l22_, l23_, l24_, l25_, l26_, l27_, l28_, l29_, l30_, l31_, l32_, l40_, l48_, l57_, l59_, l60_, l61_, l62_, l63_, l72_, l77_, l90_, l97_, l99_, l100_, l122_, l128_, l172_, l255_, l272_, l284_, l285_, l286_, l287_, l288_, l289_, l299_, l300_, l320_, l400_, l584_, l984_, l999_, l1023_, l1024_, l4095_, l6424_, l7008_, l10240_, l12345_, l32767_, l100000_, l1103515245_, l2000000000_, N_add, N_mul, up1_app, mI_wA, wA_wA, Option.bind_some, Option.bind_none, jn, fw_ck, fw_rv, fw_gI, fw_gL, fw_pI, fw_gR8, fw_rd1, fw_wr1, fw_al1, fw_gR9, fw_rd2, fw_wr2, fw_al2, fw_gR10, fw_rd3, fw_wr3, fw_al3, fw_gR11, fw_rd4, fw_wr4, fw_al4, fw_gR12, fw_rd5, fw_wr5, fw_al5, fw_gR13, fw_rd6, fw_wr6, fw_al6, fw_gR14, fw_rd7, fw_wr7, fw_al7, fw_gR15, fw_rd8, fw_wr8, fw_al8, fw_gR16, fw_rd9, fw_wr9, fw_al9, fw_gR17, fw_rd10, fw_wr10, fw_al10, fw_gR18, fw_rd11, fw_wr11, fw_al11, nle1_, nle2_, nle3_, nle0_, nlt1_, nlt2_, nlt3_, nlt0_, neq10_, neq01_, neq20_, neq30_, neq21_, neq31_, neq12_, neq32_, neq00_, neq11_, if_true, if_false, N_lt, N_le, N_inj, N_m1, m1_N, m1_lt, m1_le, N_ltm, N_lem, m1_m1, rw2 hr, hn, sr, rwH hr, show nh ≤ i from by omega]
  | succ k ih =>
    intro i n hi hk
    obtain ⟨n, rfl⟩ : ∃ n', n = n' + 1 := ⟨n - 1, by omega⟩
    have hlt : i < nh := by omega
    rw [FX2_hookOf_2]
    simp (disch := first | exact h | omega) only [↓m1_, l0_, l1_, l2_, l3_, l4_, l5_, l6_, l7_, l8_, l9_, l10_, l11_, l12_, l13_, l14_, l15_, l16_, l17_, l18_, l19_, l20_, l21_, l22_, l23_, l24_, l25_, l26_, l27_, l28_, l29_, l30_, l31_, l32_, l40_, l48_, l57_, l59_, l60_, l61_, l62_, l63_, l72_, l77_, l90_, l97_, l99_, l100_, l122_, l128_, l172_, l255_, l272_, l284_, l285_, l286_, l287_, l288_, l289_, l299_, l300_, l320_, l400_, l584_, l984_, l999_, l1023_, l1024_, l4095_, l6424_, l7008_, l10240_, l12345_, l32767_, l100000_, l1103515245_, l2000000000_, N_add, N_mul, up1_app, mI_wA, wA_wA, Option.bind_some, Option.bind_none, jn, fw_ck, fw_rv, fw_gI, fw_gL, fw_pI, fw_gR8, fw_rd1, fw_wr1, fw_al1, fw_gR9, fw_rd2, fw_wr2, fw_al2, fw_gR10, fw_rd3, fw_wr3, fw_al3, fw_gR11, fw_rd4, fw_wr4, fw_al4, fw_gR12, fw_rd5, fw_wr5, fw_al5, fw_gR13, fw_rd6, fw_wr6, fw_al6, fw_gR14, fw_rd7, fw_wr7, fw_al7, fw_gR15, fw_rd8, fw_wr8, fw_al8, fw_gR16, fw_rd9, fw_wr9, fw_al9, fw_gR17, fw_rd10, fw_wr10, fw_al10, fw_gR18, fw_rd11, fw_wr11, fw_al11, nle1_, nle2_, nle3_, nle0_, nlt1_, nlt2_, nlt3_, nlt0_, neq10_, neq01_, neq20_, neq30_, neq21_, neq31_, neq12_, neq32_, neq00_, neq11_, if_true, if_false, N_lt, N_le, N_inj, N_m1, m1_N, m1_lt, m1_le, N_ltm, N_lem, m1_m1, rw2 hr, hn, sr, rwH hr, show ¬ nh ≤ i from by omega, ih (i + 1) n]
    all_goals (try (repeat' split))
    all_goals first | (with_reducible rfl) | (simp only [*, if_true, if_false]; done) | (rename_i hh9; exact absurd hh9 (by decide)) | rfl | simp_all
theorem W_free_2 {σ : Mm} {nh : Nat} {b nq : Nat} {A : Nat → Int32} (h : FW b σ) (hr : RW b A nq σ) (hn : A 4 = N nh) (hn0 : nh ≤ 12) (kx : Mm → Option (Int32 × Mm)) (ky : Int32 → Mm → Option (Int32 × Mm)) (k : Nat) : ∀ (i n : Nat) , i + k = nh → k < n → FX2_freeHook_2 b n (N i) σ kx ky = (match sr (fun h => HA A h = M1) i k with | none => kx σ | some j => ky (N j) σ) := by
  induction k with
  | zero =>
    intro i n hi hk
    obtain ⟨n, rfl⟩ : ∃ n', n = n' + 1 := ⟨n - 1, by omega⟩
    rw [FX2_freeHook_2]
    simp (disch := first | exact h | omega) only [↓m1_, l0_, l1_, l2_, l3_, l4_, l5_, l6_, l7_, l8_, l9_, l10_, l11_, l12_, l13_, l14_, l15_, l16_, l17_, l18_, l19_, l20_, l21_, l22_, l23_, l24_, l25_, l26_, l27_, l28_, l29_, l30_, l31_, l32_, l40_, l48_, l57_, l59_, l60_, l61_, l62_, l63_, l72_, l77_, l90_, l97_, l99_, l100_, l122_, l128_, l172_, l255_, l272_, l284_, l285_, l286_, l287_, l288_, l289_, l299_, l300_, l320_, l400_, l584_, l984_, l999_, l1023_, l1024_, l4095_, l6424_, l7008_, l10240_, l12345_, l32767_, l100000_, l1103515245_, l2000000000_, N_add, N_mul, up1_app, mI_wA, wA_wA, Option.bind_some, Option.bind_none, jn, fw_ck, fw_rv, fw_gI, fw_gL, fw_pI, fw_gR8, fw_rd1, fw_wr1, fw_al1, fw_gR9, fw_rd2, fw_wr2, fw_al2, fw_gR10, fw_rd3, fw_wr3, fw_al3, fw_gR11, fw_rd4, fw_wr4, fw_al4, fw_gR12, fw_rd5, fw_wr5, fw_al5, fw_gR13, fw_rd6, fw_wr6, fw_al6, fw_gR14, fw_rd7, fw_wr7, fw_al7, fw_gR15, fw_rd8, fw_wr8, fw_al8, fw_gR16, fw_rd9, fw_wr9, fw_al9, fw_gR17, fw_rd10, fw_wr10, fw_al10, fw_gR18, fw_rd11, fw_wr11, fw_al11, nle1_, nle2_, nle3_, nle0_, nlt1_, nlt2_, nlt3_, nlt0_, neq10_, neq01_, neq20_, neq30_, neq21_, neq31_, neq12_, neq32_, neq00_, neq11_, if_true, if_false, N_lt, N_le, N_inj, N_m1, m1_N, m1_lt, m1_le, N_ltm, N_lem, m1_m1, rw2 hr, hn, sr, rwH hr, show nh ≤ i from by omega]
  | succ k ih =>
    intro i n hi hk
    obtain ⟨n, rfl⟩ : ∃ n', n = n' + 1 := ⟨n - 1, by omega⟩
    have hlt : i < nh := by omega
    rw [FX2_freeHook_2]
    simp (disch := first | exact h | omega) only [↓m1_, l0_, l1_, l2_, l3_, l4_, l5_, l6_, l7_, l8_, l9_, l10_, l11_, l12_, l13_, l14_, l15_, l16_, l17_, l18_, l19_, l20_, l21_, l22_, l23_, l24_, l25_, l26_, l27_, l28_, l29_, l30_, l31_, l32_, l40_, l48_, l57_, l59_, l60_, l61_, l62_, l63_, l72_, l77_, l90_, l97_, l99_, l100_, l122_, l128_, l172_, l255_, l272_, l284_, l285_, l286_, l287_, l288_, l289_, l299_, l300_, l320_, l400_, l584_, l984_, l999_, l1023_, l1024_, l4095_, l6424_, l7008_, l10240_, l12345_, l32767_, l100000_, l1103515245_, l2000000000_, N_add, N_mul, up1_app, mI_wA, wA_wA, Option.bind_some, Option.bind_none, jn, fw_ck, fw_rv, fw_gI, fw_gL, fw_pI, fw_gR8, fw_rd1, fw_wr1, fw_al1, fw_gR9, fw_rd2, fw_wr2, fw_al2, fw_gR10, fw_rd3, fw_wr3, fw_al3, fw_gR11, fw_rd4, fw_wr4, fw_al4, fw_gR12, fw_rd5, fw_wr5, fw_al5, fw_gR13, fw_rd6, fw_wr6, fw_al6, fw_gR14, fw_rd7, fw_wr7, fw_al7, fw_gR15, fw_rd8, fw_wr8, fw_al8, fw_gR16, fw_rd9, fw_wr9, fw_al9, fw_gR17, fw_rd10, fw_wr10, fw_al10, fw_gR18, fw_rd11, fw_wr11, fw_al11, nle1_, nle2_, nle3_, nle0_, nlt1_, nlt2_, nlt3_, nlt0_, neq10_, neq01_, neq20_, neq30_, neq21_, neq31_, neq12_, neq32_, neq00_, neq11_, if_true, if_false, N_lt, N_le, N_inj, N_m1, m1_N, m1_lt, m1_le, N_ltm, N_lem, m1_m1, rw2 hr, hn, sr, rwH hr, show ¬ nh ≤ i from by omega, ih (i + 1) n]
    all_goals (try (repeat' split))
    all_goals first | (with_reducible rfl) | (simp only [*, if_true, if_false]; done) | (rename_i hh9; exact absurd hh9 (by decide)) | rfl | simp_all
theorem W_ticket_2 {σ : Mm} {np : Nat} {b nq : Nat} {A : Nat → Int32} (y : Int32) (h : FW b σ) (hr : RW b A nq σ) (hn : A 3 = N np) (hn0 : np ≤ 10) (kx : Mm → Option (Int32 × Mm)) (ky : Mm → Option (Int32 × Mm)) (k : Nat) : ∀ (i n : Nat) , i + k = np → k < n → FX2_isTicket_2 b y n (N i) σ kx ky = (match sr (fun p => PA A p 3 = y) i k with | none => kx σ | some _ => ky σ) := by
  induction k with
  | zero =>
    intro i n hi hk
    obtain ⟨n, rfl⟩ : ∃ n', n = n' + 1 := ⟨n - 1, by omega⟩
    rw [FX2_isTicket_2]
    simp (disch := first | exact h | omega) only [↓m1_, l0_, l1_, l2_, l3_, l4_, l5_, l6_, l7_, l8_, l9_, l10_, l11_, l12_, l13_, l14_, l15_, l16_, l17_, l18_, l19_, l20_, l21_, l22_, l23_, l24_, l25_, l26_, l27_, l28_, l29_, l30_, l31_, l32_, l40_, l48_, l57_, l59_, l60_, l61_, l62_, l63_, l72_, l77_, l90_, l97_, l99_, l100_, l122_, l128_, l172_, l255_, l272_, l284_, l285_, l286_, l287_, l288_, l289_, l299_, l300_, l320_, l400_, l584_, l984_, l999_, l1023_, l1024_, l4095_, l6424_, l7008_, l10240_, l12345_, l32767_, l100000_, l1103515245_, l2000000000_, N_add, N_mul, up1_app, mI_wA, wA_wA, Option.bind_some, Option.bind_none, jn, fw_ck, fw_rv, fw_gI, fw_gL, fw_pI, fw_gR8, fw_rd1, fw_wr1, fw_al1, fw_gR9, fw_rd2, fw_wr2, fw_al2, fw_gR10, fw_rd3, fw_wr3, fw_al3, fw_gR11, fw_rd4, fw_wr4, fw_al4, fw_gR12, fw_rd5, fw_wr5, fw_al5, fw_gR13, fw_rd6, fw_wr6, fw_al6, fw_gR14, fw_rd7, fw_wr7, fw_al7, fw_gR15, fw_rd8, fw_wr8, fw_al8, fw_gR16, fw_rd9, fw_wr9, fw_al9, fw_gR17, fw_rd10, fw_wr10, fw_al10, fw_gR18, fw_rd11, fw_wr11, fw_al11, nle1_, nle2_, nle3_, nle0_, nlt1_, nlt2_, nlt3_, nlt0_, neq10_, neq01_, neq20_, neq30_, neq21_, neq31_, neq12_, neq32_, neq00_, neq11_, if_true, if_false, N_lt, N_le, N_inj, N_m1, m1_N, m1_lt, m1_le, N_ltm, N_lem, m1_m1, rw1 hr, hn, sr, rwT hr, show np ≤ i from by omega]
  | succ k ih =>
    intro i n hi hk
    obtain ⟨n, rfl⟩ : ∃ n', n = n' + 1 := ⟨n - 1, by omega⟩
    have hlt : i < np := by omega
    rw [FX2_isTicket_2]
    simp (disch := first | exact h | omega) only [↓m1_, l0_, l1_, l2_, l3_, l4_, l5_, l6_, l7_, l8_, l9_, l10_, l11_, l12_, l13_, l14_, l15_, l16_, l17_, l18_, l19_, l20_, l21_, l22_, l23_, l24_, l25_, l26_, l27_, l28_, l29_, l30_, l31_, l32_, l40_, l48_, l57_, l59_, l60_, l61_, l62_, l63_, l72_, l77_, l90_, l97_, l99_, l100_, l122_, l128_, l172_, l255_, l272_, l284_, l285_, l286_, l287_, l288_, l289_, l299_, l300_, l320_, l400_, l584_, l984_, l999_, l1023_, l1024_, l4095_, l6424_, l7008_, l10240_, l12345_, l32767_, l100000_, l1103515245_, l2000000000_, N_add, N_mul, up1_app, mI_wA, wA_wA, Option.bind_some, Option.bind_none, jn, fw_ck, fw_rv, fw_gI, fw_gL, fw_pI, fw_gR8, fw_rd1, fw_wr1, fw_al1, fw_gR9, fw_rd2, fw_wr2, fw_al2, fw_gR10, fw_rd3, fw_wr3, fw_al3, fw_gR11, fw_rd4, fw_wr4, fw_al4, fw_gR12, fw_rd5, fw_wr5, fw_al5, fw_gR13, fw_rd6, fw_wr6, fw_al6, fw_gR14, fw_rd7, fw_wr7, fw_al7, fw_gR15, fw_rd8, fw_wr8, fw_al8, fw_gR16, fw_rd9, fw_wr9, fw_al9, fw_gR17, fw_rd10, fw_wr10, fw_al10, fw_gR18, fw_rd11, fw_wr11, fw_al11, nle1_, nle2_, nle3_, nle0_, nlt1_, nlt2_, nlt3_, nlt0_, neq10_, neq01_, neq20_, neq30_, neq21_, neq31_, neq12_, neq32_, neq00_, neq11_, if_true, if_false, N_lt, N_le, N_inj, N_m1, m1_N, m1_lt, m1_le, N_ltm, N_lem, m1_m1, rw1 hr, hn, sr, rwT hr, show ¬ np ≤ i from by omega, ih (i + 1) n]
    all_goals (try (repeat' split))
    all_goals first | (with_reducible rfl) | (simp only [*, if_true, if_false]; done) | (rename_i hh9; exact absurd hh9 (by decide)) | rfl | simp_all
theorem W_hung_4 {σ : Mm} {nh : Nat} {b nq : Nat} {A : Nat → Int32} (h : FW b σ) (hr : RW b A nq σ) (hn : A 4 = N nh) (hn0 : nh ≤ 12) (kx : Int32 → Mm → Option (Int32 × Mm)) (k : Nat) : ∀ (i n : Nat) (a : Int32), i + k = nh → k < n → FX2_hung_4 b n a (N i) σ kx = kx (fd (fun h a => a + (if HA A h = M1 then N 0 else N 1)) i k a) σ := by
  induction k with
  | zero =>
    intro i n a hi hk
    obtain ⟨n, rfl⟩ : ∃ n', n = n' + 1 := ⟨n - 1, by omega⟩
    rw [FX2_hung_4]
    simp (disch := first | exact h | omega) only [↓m1_, l0_, l1_, l2_, l3_, l4_, l5_, l6_, l7_, l8_, l9_, l10_, l11_, l12_, l13_, l14_, l15_, l16_, l17_, l18_, l19_, l20_, l21_, l22_, l23_, l24_, l25_, l26_, l27_, l28_, l29_, l30_, l31_, l32_, l40_, l48_, l57_, l59_, l60_, l61_, l62_, l63_, l72_, l77_, l90_, l97_, l99_, l100_, l122_, l128_, l172_, l255_, l272_, l284_, l285_, l286_, l287_, l288_, l289_, l299_, l300_, l320_, l400_, l584_, l984_, l999_, l1023_, l1024_, l4095_, l6424_, l7008_, l10240_, l12345_, l32767_, l100000_, l1103515245_, l2000000000_, N_add, N_mul, up1_app, mI_wA, wA_wA, Option.bind_some, Option.bind_none, jn, fw_ck, fw_rv, fw_gI, fw_gL, fw_pI, fw_gR8, fw_rd1, fw_wr1, fw_al1, fw_gR9, fw_rd2, fw_wr2, fw_al2, fw_gR10, fw_rd3, fw_wr3, fw_al3, fw_gR11, fw_rd4, fw_wr4, fw_al4, fw_gR12, fw_rd5, fw_wr5, fw_al5, fw_gR13, fw_rd6, fw_wr6, fw_al6, fw_gR14, fw_rd7, fw_wr7, fw_al7, fw_gR15, fw_rd8, fw_wr8, fw_al8, fw_gR16, fw_rd9, fw_wr9, fw_al9, fw_gR17, fw_rd10, fw_wr10, fw_al10, fw_gR18, fw_rd11, fw_wr11, fw_al11, nle1_, nle2_, nle3_, nle0_, nlt1_, nlt2_, nlt3_, nlt0_, neq10_, neq01_, neq20_, neq30_, neq21_, neq31_, neq12_, neq32_, neq00_, neq11_, if_true, if_false, N_lt, N_le, N_inj, N_m1, m1_N, m1_lt, m1_le, N_ltm, N_lem, m1_m1, rw2 hr, hn, fd, rwH hr, show nh ≤ i from by omega]
  | succ k ih =>
    intro i n a hi hk
    obtain ⟨n, rfl⟩ : ∃ n', n = n' + 1 := ⟨n - 1, by omega⟩
    have hlt : i < nh := by omega
    rw [FX2_hung_4]
    simp (disch := first | exact h | omega) only [↓m1_, l0_, l1_, l2_, l3_, l4_, l5_, l6_, l7_, l8_, l9_, l10_, l11_, l12_, l13_, l14_, l15_, l16_, l17_, l18_, l19_, l20_, l21_, l22_, l23_, l24_, l25_, l26_, l27_, l28_, l29_, l30_, l31_, l32_, l40_, l48_, l57_, l59_, l60_, l61_, l62_, l63_, l72_, l77_, l90_, l97_, l99_, l100_, l122_, l128_, l172_, l255_, l272_, l284_, l285_, l286_, l287_, l288_, l289_, l299_, l300_, l320_, l400_, l584_, l984_, l999_, l1023_, l1024_, l4095_, l6424_, l7008_, l10240_, l12345_, l32767_, l100000_, l1103515245_, l2000000000_, N_add, N_mul, up1_app, mI_wA, wA_wA, Option.bind_some, Option.bind_none, jn, fw_ck, fw_rv, fw_gI, fw_gL, fw_pI, fw_gR8, fw_rd1, fw_wr1, fw_al1, fw_gR9, fw_rd2, fw_wr2, fw_al2, fw_gR10, fw_rd3, fw_wr3, fw_al3, fw_gR11, fw_rd4, fw_wr4, fw_al4, fw_gR12, fw_rd5, fw_wr5, fw_al5, fw_gR13, fw_rd6, fw_wr6, fw_al6, fw_gR14, fw_rd7, fw_wr7, fw_al7, fw_gR15, fw_rd8, fw_wr8, fw_al8, fw_gR16, fw_rd9, fw_wr9, fw_al9, fw_gR17, fw_rd10, fw_wr10, fw_al10, fw_gR18, fw_rd11, fw_wr11, fw_al11, nle1_, nle2_, nle3_, nle0_, nlt1_, nlt2_, nlt3_, nlt0_, neq10_, neq01_, neq20_, neq30_, neq21_, neq31_, neq12_, neq32_, neq00_, neq11_, if_true, if_false, N_lt, N_le, N_inj, N_m1, m1_N, m1_lt, m1_le, N_ltm, N_lem, m1_m1, rw2 hr, hn, fd, rwH hr, show ¬ nh ≤ i from by omega, ih (i + 1) n]
    all_goals (try (repeat' split))
    all_goals first | (with_reducible rfl) | (simp only [*, if_true, if_false]; done) | (rename_i hh9; exact absurd hh9 (by decide)) | rfl | simp_all
theorem W_with_4 {σ : Mm} {np : Nat} {b nq : Nat} {A : Nat → Int32} (h : FW b σ) (hr : RW b A nq σ) (hn : A 3 = N np) (hn0 : np ≤ 10) (kx : Int32 → Mm → Option (Int32 × Mm)) (k : Nat) : ∀ (i n : Nat) (a : Int32), i + k = np → k < n → FX2_withTickets_4 b n a (N i) σ kx = kx (fd (fun p a => a ||| (if PA A p 3 = M1 then N 0 else bt p)) i k a) σ := by
  induction k with
  | zero =>
    intro i n a hi hk
    obtain ⟨n, rfl⟩ : ∃ n', n = n' + 1 := ⟨n - 1, by omega⟩
    rw [FX2_withTickets_4]
    simp (disch := first | exact h | omega) only [↓m1_, l0_, l1_, l2_, l3_, l4_, l5_, l6_, l7_, l8_, l9_, l10_, l11_, l12_, l13_, l14_, l15_, l16_, l17_, l18_, l19_, l20_, l21_, l22_, l23_, l24_, l25_, l26_, l27_, l28_, l29_, l30_, l31_, l32_, l40_, l48_, l57_, l59_, l60_, l61_, l62_, l63_, l72_, l77_, l90_, l97_, l99_, l100_, l122_, l128_, l172_, l255_, l272_, l284_, l285_, l286_, l287_, l288_, l289_, l299_, l300_, l320_, l400_, l584_, l984_, l999_, l1023_, l1024_, l4095_, l6424_, l7008_, l10240_, l12345_, l32767_, l100000_, l1103515245_, l2000000000_, N_add, N_mul, up1_app, mI_wA, wA_wA, Option.bind_some, Option.bind_none, jn, fw_ck, fw_rv, fw_gI, fw_gL, fw_pI, fw_gR8, fw_rd1, fw_wr1, fw_al1, fw_gR9, fw_rd2, fw_wr2, fw_al2, fw_gR10, fw_rd3, fw_wr3, fw_al3, fw_gR11, fw_rd4, fw_wr4, fw_al4, fw_gR12, fw_rd5, fw_wr5, fw_al5, fw_gR13, fw_rd6, fw_wr6, fw_al6, fw_gR14, fw_rd7, fw_wr7, fw_al7, fw_gR15, fw_rd8, fw_wr8, fw_al8, fw_gR16, fw_rd9, fw_wr9, fw_al9, fw_gR17, fw_rd10, fw_wr10, fw_al10, fw_gR18, fw_rd11, fw_wr11, fw_al11, nle1_, nle2_, nle3_, nle0_, nlt1_, nlt2_, nlt3_, nlt0_, neq10_, neq01_, neq20_, neq30_, neq21_, neq31_, neq12_, neq32_, neq00_, neq11_, if_true, if_false, N_lt, N_le, N_inj, N_m1, m1_N, m1_lt, m1_le, N_ltm, N_lem, m1_m1, rw1 hr, hn, fd, rwT hr, bt_, show np ≤ i from by omega]
  | succ k ih =>
    intro i n a hi hk
    obtain ⟨n, rfl⟩ : ∃ n', n = n' + 1 := ⟨n - 1, by omega⟩
    have hlt : i < np := by omega
    rw [FX2_withTickets_4]
    simp (disch := first | exact h | omega) only [↓m1_, l0_, l1_, l2_, l3_, l4_, l5_, l6_, l7_, l8_, l9_, l10_, l11_, l12_, l13_, l14_, l15_, l16_, l17_, l18_, l19_, l20_, l21_, l22_, l23_, l24_, l25_, l26_, l27_, l28_, l29_, l30_, l31_, l32_, l40_, l48_, l57_, l59_, l60_, l61_, l62_, l63_, l72_, l77_, l90_, l97_, l99_, l100_, l122_, l128_, l172_, l255_, l272_, l284_, l285_, l286_, l287_, l288_, l289_, l299_, l300_, l320_, l400_, l584_, l984_, l999_, l1023_, l1024_, l4095_, l6424_, l7008_, l10240_, l12345_, l32767_, l100000_, l1103515245_, l2000000000_, N_add, N_mul, up1_app, mI_wA, wA_wA, Option.bind_some, Option.bind_none, jn, fw_ck, fw_rv, fw_gI, fw_gL, fw_pI, fw_gR8, fw_rd1, fw_wr1, fw_al1, fw_gR9, fw_rd2, fw_wr2, fw_al2, fw_gR10, fw_rd3, fw_wr3, fw_al3, fw_gR11, fw_rd4, fw_wr4, fw_al4, fw_gR12, fw_rd5, fw_wr5, fw_al5, fw_gR13, fw_rd6, fw_wr6, fw_al6, fw_gR14, fw_rd7, fw_wr7, fw_al7, fw_gR15, fw_rd8, fw_wr8, fw_al8, fw_gR16, fw_rd9, fw_wr9, fw_al9, fw_gR17, fw_rd10, fw_wr10, fw_al10, fw_gR18, fw_rd11, fw_wr11, fw_al11, nle1_, nle2_, nle3_, nle0_, nlt1_, nlt2_, nlt3_, nlt0_, neq10_, neq01_, neq20_, neq30_, neq21_, neq31_, neq12_, neq32_, neq00_, neq11_, if_true, if_false, N_lt, N_le, N_inj, N_m1, m1_N, m1_lt, m1_le, N_ltm, N_lem, m1_m1, rw1 hr, hn, fd, rwT hr, bt_, show ¬ np ≤ i from by omega, ih (i + 1) n]
    all_goals (try (repeat' split))
    all_goals first | (with_reducible rfl) | (simp only [*, if_true, if_false]; done) | (rename_i hh9; exact absurd hh9 (by decide)) | rfl | simp_all
section
variable {b np nh nq : Nat} {A : Nat → Int32} {σ : Mm}
theorem W_wearer {y : Int32} (h : FW b σ) (hr : RW b A nq σ) (hn : A 3 = N np) (hn0 : np ≤ 10) : FX2_wearer b y σ = some (oN (aWearer A np y), σ) := by
  unfold FX2_wearer aWearer
  simp only [↓m1_, l0_, l1_, l2_, l3_, l4_, l5_, l6_, l7_, l8_, l9_, l10_, l11_, l12_, l13_, l14_, l15_, l16_, l17_, l18_, l19_, l20_, l21_, l22_, l23_, l24_, l25_, l26_, l27_, l28_, l29_, l30_, l31_, l32_, l40_, l48_, l57_, l59_, l60_, l61_, l62_, l63_, l72_, l77_, l90_, l97_, l99_, l100_, l122_, l128_, l172_, l255_, l272_, l284_, l285_, l286_, l287_, l288_, l289_, l299_, l300_, l320_, l400_, l584_, l984_, l999_, l1023_, l1024_, l4095_, l6424_, l7008_, l10240_, l12345_, l32767_, l100000_, l1103515245_, l2000000000_]
  rw [W_wearer_2 y h hr hn hn0 _ _ np 0 fu (by omega) (by unfold fu; omega)]
  cases sr (fun p => PA A p 2 = y) 0 np <;> rfl
theorem W_hookOf {y : Int32} (h : FW b σ) (hr : RW b A nq σ) (hn : A 4 = N nh) (hn0 : nh ≤ 12) : FX2_hookOf b y σ = some (oN (aHookOf A nh y), σ) := by
  unfold FX2_hookOf aHookOf
  simp only [↓m1_, l0_, l1_, l2_, l3_, l4_, l5_, l6_, l7_, l8_, l9_, l10_, l11_, l12_, l13_, l14_, l15_, l16_, l17_, l18_, l19_, l20_, l21_, l22_, l23_, l24_, l25_, l26_, l27_, l28_, l29_, l30_, l31_, l32_, l40_, l48_, l57_, l59_, l60_, l61_, l62_, l63_, l72_, l77_, l90_, l97_, l99_, l100_, l122_, l128_, l172_, l255_, l272_, l284_, l285_, l286_, l287_, l288_, l289_, l299_, l300_, l320_, l400_, l584_, l984_, l999_, l1023_, l1024_, l4095_, l6424_, l7008_, l10240_, l12345_, l32767_, l100000_, l1103515245_, l2000000000_]
  rw [W_hookOf_2 y h hr hn hn0 _ _ nh 0 fu (by omega) (by unfold fu; omega)]
  cases sr (fun h => HA A h = y) 0 nh <;> rfl
theorem W_free (h : FW b σ) (hr : RW b A nq σ) (hn : A 4 = N nh) (hn0 : nh ≤ 12) : FX2_freeHook b σ = some (oN (aHookOf A nh M1), σ) := by
  unfold FX2_freeHook aHookOf
  simp only [↓m1_, l0_, l1_, l2_, l3_, l4_, l5_, l6_, l7_, l8_, l9_, l10_, l11_, l12_, l13_, l14_, l15_, l16_, l17_, l18_, l19_, l20_, l21_, l22_, l23_, l24_, l25_, l26_, l27_, l28_, l29_, l30_, l31_, l32_, l40_, l48_, l57_, l59_, l60_, l61_, l62_, l63_, l72_, l77_, l90_, l97_, l99_, l100_, l122_, l128_, l172_, l255_, l272_, l284_, l285_, l286_, l287_, l288_, l289_, l299_, l300_, l320_, l400_, l584_, l984_, l999_, l1023_, l1024_, l4095_, l6424_, l7008_, l10240_, l12345_, l32767_, l100000_, l1103515245_, l2000000000_]
  rw [W_free_2 h hr hn hn0 _ _ nh 0 fu (by omega) (by unfold fu; omega)]
  cases sr (fun h => HA A h = M1) 0 nh <;> rfl
def bN (c : Bool) : Int32 := if c = true then N 1 else N 0
theorem W_ticket {y : Int32} (h : FW b σ) (hr : RW b A nq σ) (hn : A 3 = N np) (hn0 : np ≤ 10) : FX2_isTicket b y σ = some (bN (aTicket A np y).isSome, σ) := by
  unfold FX2_isTicket aTicket
  simp only [↓m1_, l0_, l1_, l2_, l3_, l4_, l5_, l6_, l7_, l8_, l9_, l10_, l11_, l12_, l13_, l14_, l15_, l16_, l17_, l18_, l19_, l20_, l21_, l22_, l23_, l24_, l25_, l26_, l27_, l28_, l29_, l30_, l31_, l32_, l40_, l48_, l57_, l59_, l60_, l61_, l62_, l63_, l72_, l77_, l90_, l97_, l99_, l100_, l122_, l128_, l172_, l255_, l272_, l284_, l285_, l286_, l287_, l288_, l289_, l299_, l300_, l320_, l400_, l584_, l984_, l999_, l1023_, l1024_, l4095_, l6424_, l7008_, l10240_, l12345_, l32767_, l100000_, l1103515245_, l2000000000_]
  rw [W_ticket_2 y h hr hn hn0 _ _ np 0 fu (by omega) (by unfold fu; omega)]
  cases sr (fun p => PA A p 3 = y) 0 np
  · exact rZ_0 σ
  · exact rZ_1 σ
theorem W_hung (h : FW b σ) (hr : RW b A nq σ) (hn : A 4 = N nh) (hn0 : nh ≤ 12) : FX2_hung b σ = some (aHung A nh, σ) := by
  unfold FX2_hung aHung
  simp only [↓m1_, l0_, l1_, l2_, l3_, l4_, l5_, l6_, l7_, l8_, l9_, l10_, l11_, l12_, l13_, l14_, l15_, l16_, l17_, l18_, l19_, l20_, l21_, l22_, l23_, l24_, l25_, l26_, l27_, l28_, l29_, l30_, l31_, l32_, l40_, l48_, l57_, l59_, l60_, l61_, l62_, l63_, l72_, l77_, l90_, l97_, l99_, l100_, l122_, l128_, l172_, l255_, l272_, l284_, l285_, l286_, l287_, l288_, l289_, l299_, l300_, l320_, l400_, l584_, l984_, l999_, l1023_, l1024_, l4095_, l6424_, l7008_, l10240_, l12345_, l32767_, l100000_, l1103515245_, l2000000000_]
  rw [W_hung_4 h hr hn hn0 _ nh 0 fu _ (by omega) (by unfold fu; omega)]
theorem W_with (h : FW b σ) (hr : RW b A nq σ) (hn : A 3 = N np) (hn0 : np ≤ 10) : FX2_withTickets b σ = some (aHolders A np, σ) := by
  unfold FX2_withTickets aHolders
  simp only [↓m1_, l0_, l1_, l2_, l3_, l4_, l5_, l6_, l7_, l8_, l9_, l10_, l11_, l12_, l13_, l14_, l15_, l16_, l17_, l18_, l19_, l20_, l21_, l22_, l23_, l24_, l25_, l26_, l27_, l28_, l29_, l30_, l31_, l32_, l40_, l48_, l57_, l59_, l60_, l61_, l62_, l63_, l72_, l77_, l90_, l97_, l99_, l100_, l122_, l128_, l172_, l255_, l272_, l284_, l285_, l286_, l287_, l288_, l289_, l299_, l300_, l320_, l400_, l584_, l984_, l999_, l1023_, l1024_, l4095_, l6424_, l7008_, l10240_, l12345_, l32767_, l100000_, l1103515245_, l2000000000_]
  rw [W_with_4 h hr hn hn0 _ np 0 fu _ (by omega) (by unfold fu; omega)]
end
