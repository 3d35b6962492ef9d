/-! THE PLAIN LAW, 30: the model remembers -/
set_option maxRecDepth 100000
def rowM (σ : Mm) (i : Nat) : Nat → Int32 := fun j => mI σ 66 (584 * i + j)
def aRem (acts A : Nat → Int32) (n : Nat) : Nat → Int32 := if n = 12 then fl (fl acts (fun j => acts (j + 584)) 0 6424) (fun j => A (j - 6424)) 6424 7008 else fl acts (fun j => A (j - 584 * n)) (584 * n) (584 * n + 584)
theorem aRem_row {acts A : Nat → Int32} {n i j : Nat} (hn : n ≤ 12) (hi : i < (if n = 12 then 12 else n + 1)) (hj : j < 584) : aRem acts A n (584 * i + j) = remS (fun i j => acts (584 * i + j)) A n i j := by
  unfold aRem remS
  by_cases h : n = 12
  · rw [if_pos h, if_pos h]
    rw [if_pos h] at hi
    unfold fl remR
    by_cases h1 : i < 11
    · rw [if_neg (by omega), if_pos (by omega), if_pos h1]; dsimp only; congr 1; omega
    · rw [if_pos (by omega), if_neg h1]; dsimp only; congr 1; omega
  · rw [if_neg h, if_neg h]
    rw [if_neg h] at hi
    unfold fl remR
    by_cases h1 : i < n
    · rw [if_neg (by omega), if_pos h1]
    · have : i = n := by omega
      subst this
      rw [if_pos (by omega), if_neg h1]; dsimp only; congr 1; omega
theorem M_rem_52 {c : Nat} (kx : Mm → Option Mm) (k : Nat) : ∀ (i n : Nat) (σ : Mm), FM σ → mI σ 62 6 = N c → c < 12 → i + k = 584 → k < n → FX8_remembers_52 62 n (N i) σ kx = kx (wA σ 66 (fl (mI σ 66) (fun j => mI σ 63 (j - 584 * c)) (584 * c + i) (584 * c + 584))) := by
  induction k with
  | zero =>
    intro i n σ h hc hc2 hi hk
    obtain ⟨n, rfl⟩ : ∃ n', n = n' + 1 := ⟨n - 1, by omega⟩
    have : i = 584 := by omega
    subst this
    rw [FX8_remembers_52, fl_0, wA_self]
    exact if_pos (by decide)
  | succ k ih =>
    intro i n σ h hc hc2 hi hk
    obtain ⟨n, rfl⟩ : ∃ n', n = n' + 1 := ⟨n - 1, by omega⟩
    rw [FX8_remembers_52]
    simp (disch := first | omega | exact h) only [↓m1_, l0_, l1_, l2_, l3_, l4_, l5_, l6_, l7_, l8_, l9_, l10_, l11_, l12_, l13_, l14_, l15_, l16_, l17_, l18_, l19_, l20_, l21_, l22_, l23_, l24_, l25_, l26_, l27_, l28_, l29_, l30_, l31_, l32_, l40_, l48_, l57_, l59_, l60_, l61_, l62_, l63_, l72_, l77_, l90_, l97_, l99_, l100_, l122_, l128_, l172_, l255_, l272_, l284_, l285_, l286_, l287_, l288_, l289_, l299_, l300_, l320_, l400_, l584_, l984_, l999_, l1023_, l1024_, l4095_, l6424_, l7008_, l10240_, l12345_, l32767_, l100000_, l1103515245_, l2000000000_, N_add, N_mul, up1_app, mI_wA, wA_wA, Option.bind_some, Option.bind_none, jn, fm_ck, fm_rv, fm_gI, fm_pI, fm_gR1, fm_gR2, fm_gR4, fm_gR5, fm_gR7, fm_gR14, fm_gR19, fm_gR21, fm_gR22, fm_gR23, fm_gR24, fm_gR25, fm_rd63, fm_wr63, fm_rd64, fm_wr64, fm_rd65, fm_wr65, fm_rd66, fm_wr66, fm_rd67, fm_wr67, fm_rd68, fm_wr68, fm_rd69, fm_wr69, fm_rd70, fm_wr70, fm_rd71, fm_wr71, fm_rd72, fm_wr72, fm_rd73, fm_wr73, fm_rd74, fm_wr74, nle1_, nle2_, nle3_, nle0_, nlt1_, nlt2_, nlt3_, nlt0_, neq10_, neq01_, neq20_, neq30_, neq21_, neq31_, neq12_, neq32_, neq00_, neq11_, if_true, if_false, N_lt, N_le, N_inj, N_m1, m1_N, m1_lt, m1_le, N_ltm, N_lem, m1_m1, hc, show ¬ 584 ≤ i from by omega]
    rw [ih (i + 1) n (wA σ 66 (up1 (mI σ 66) (584 * c + i) (mI σ 63 i))) h (hc) hc2 (by omega) (by omega), mI_wA, if_pos rfl, wA_wA]
    have e63 : mI (wA σ 66 (up1 (mI σ 66) (584 * c + i) (mI σ 63 i))) 63 = mI σ 63 := rfl
    have e := fl_s (f := mI σ 66) (g := fun j => mI σ 63 (j - 584 * c)) (a := 584 * c + i) (b := 584 * c + 584) (by omega)
    rw [Nat.add_sub_cancel_left] at e
    rw [e63, ← Nat.add_assoc, e]
theorem M_rem_11 (kx : Mm → Option Mm) (k : Nat) : ∀ (i n : Nat) (σ : Mm), FM σ → i + k = 6424 → k < n → FX8_remembers_11 62 n (N i) σ kx = kx (wA σ 66 (fl (mI σ 66) (fun j => mI σ 66 (j + 584)) i 6424)) := by
  induction k with
  | zero =>
    intro i n σ h hi hk
    obtain ⟨n, rfl⟩ : ∃ n', n = n' + 1 := ⟨n - 1, by omega⟩
    have : i = 6424 := by omega
    subst this
    rw [FX8_remembers_11, fl_0, wA_self]
    exact if_pos (by decide)
  | succ k ih =>
    intro i n σ h hi hk
    obtain ⟨n, rfl⟩ : ∃ n', n = n' + 1 := ⟨n - 1, by omega⟩
    rw [FX8_remembers_11]
    simp (disch := first | omega | exact h) only [↓m1_, l0_, l1_, l2_, l3_, l4_, l5_, l6_, l7_, l8_, l9_, l10_, l11_, l12_, l13_, l14_, l15_, l16_, l17_, l18_, l19_, l20_, l21_, l22_, l23_, l24_, l25_, l26_, l27_, l28_, l29_, l30_, l31_, l32_, l40_, l48_, l57_, l59_, l60_, l61_, l62_, l63_, l72_, l77_, l90_, l97_, l99_, l100_, l122_, l128_, l172_, l255_, l272_, l284_, l285_, l286_, l287_, l288_, l289_, l299_, l300_, l320_, l400_, l584_, l984_, l999_, l1023_, l1024_, l4095_, l6424_, l7008_, l10240_, l12345_, l32767_, l100000_, l1103515245_, l2000000000_, N_add, N_mul, up1_app, mI_wA, wA_wA, Option.bind_some, Option.bind_none, jn, fm_ck, fm_rv, fm_gI, fm_pI, fm_gR1, fm_gR2, fm_gR4, fm_gR5, fm_gR7, fm_gR14, fm_gR19, fm_gR21, fm_gR22, fm_gR23, fm_gR24, fm_gR25, fm_rd63, fm_wr63, fm_rd64, fm_wr64, fm_rd65, fm_wr65, fm_rd66, fm_wr66, fm_rd67, fm_wr67, fm_rd68, fm_wr68, fm_rd69, fm_wr69, fm_rd70, fm_wr70, fm_rd71, fm_wr71, fm_rd72, fm_wr72, fm_rd73, fm_wr73, fm_rd74, fm_wr74, nle1_, nle2_, nle3_, nle0_, nlt1_, nlt2_, nlt3_, nlt0_, neq10_, neq01_, neq20_, neq30_, neq21_, neq31_, neq12_, neq32_, neq00_, neq11_, if_true, if_false, N_lt, N_le, N_inj, N_m1, m1_N, m1_lt, m1_le, N_ltm, N_lem, m1_m1, show ¬ 6424 ≤ i from by omega]
    rw [ih (i + 1) n (wA σ 66 (up1 (mI σ 66) i (mI σ 66 (i + 584)))) h (by omega) (by omega), mI_wA, if_pos rfl, wA_wA]
    congr 2
    funext j
    unfold fl up1
    by_cases h1 : i + 1 ≤ j ∧ j < 6424
    · rw [if_pos h1, if_pos (by omega)]
      exact if_neg (by omega)
    · rw [if_neg h1]
      by_cases h2 : j = i
      · rw [if_pos h2, if_pos (by omega), h2]
      · rw [if_neg h2, if_neg (by omega)]
theorem wA_cm {σ : Mm} {p q : Nat} {f g : Nat → Int32} (h : p ≠ q) : wA (wA σ p f) q g = wA (wA σ q g) p f := by
  have e : up1 (up1 σ.2.2.1 p f) q g = up1 (up1 σ.2.2.1 q g) p f := by
    funext j; unfold up1
    by_cases h1 : j = q
    · rw [if_pos h1, if_neg (by omega), if_pos h1]
    · rw [if_neg h1, if_neg h1]
  show (σ.1, σ.2.1, up1 (up1 σ.2.2.1 p f) q g, σ.2.2.2.1, σ.2.2.2.2) = _
  rw [e]; rfl
theorem up1_up {α : Type} {f : Nat → α} {a : Nat} {v w : α} : up1 (up1 f a v) a w = up1 f a w := by
  funext j; unfold up1; split <;> rfl
theorem M_remembers {σ : Mm} {n : Nat} (h : FM σ) (hc : mI σ 62 6 = N n) (hn : n ≤ 12) : FX8_remembers 62 σ = some (wA (wA σ 66 (aRem (mI σ 66) (mI σ 63) n)) 62 (up1 (mI σ 62) 6 (N (if n = 12 then 12 else n + 1)))) := by
  unfold FX8_remembers jn
  dsimp only
  rw [fm_gI h, hc, Option.bind_some, show (12 : Int32) = N 12 from rfl, l0_]
  by_cases h1 : n = 12
  · subst h1
    rw [if_pos rfl, if_pos rfl, M_rem_11 _ 6424 0 fu σ h (by omega) (by unfold fu; omega)]
    have f1 : mI (wA σ 66 (fl (mI σ 66) (fun j => mI σ 66 (j + 584)) 0 6424)) 62 = mI σ 62 := rfl
    rw [fm_gI (FM_w h), Option.bind_some, f1, hc, l1_, show N 12 - N 1 = N 11 from rfl, fm_pI (FM_w h), Option.bind_some, f1]
    rw [M_rem_52 (c := 11) _ 584 0 fu _ (FM_w (FM_w h)) (by rw [mI_wA, if_pos rfl, up1_app, if_pos rfl]) (by omega) (by omega) (by unfold fu; omega)]
    rw [fm_gI (FM_w (FM_w (FM_w h))), Option.bind_some, fm_pI (FM_w (FM_w (FM_w h))), Option.bind_some]
    have g1 : mI (wA (wA σ 66 (fl (mI σ 66) (fun j => mI σ 66 (j + 584)) 0 6424)) 62 (up1 (mI σ 62) 6 (N 11))) 66 = fl (mI σ 66) (fun j => mI σ 66 (j + 584)) 0 6424 := rfl
    have g2 : mI (wA (wA σ 66 (fl (mI σ 66) (fun j => mI σ 66 (j + 584)) 0 6424)) 62 (up1 (mI σ 62) 6 (N 11))) 63 = mI σ 63 := rfl
    have g3 : ∀ F, mI (wA (wA (wA σ 66 (fl (mI σ 66) (fun j => mI σ 66 (j + 584)) 0 6424)) 62 (up1 (mI σ 62) 6 (N 11))) 66 F) 62 = up1 (mI σ 62) 6 (N 11) := fun F => rfl
    rw [g1, g2, g3, up1_app, if_pos rfl, show N 11 + N 1 = N 12 from rfl, up1_up, wA_cm (p := 62) (q := 66) (by omega), wA_wA, wA_wA]
    unfold aRem
    rw [if_pos rfl]
  · have hlt : n < 12 := by omega
    rw [if_neg (by rw [N_inj (by omega) (by omega)]; exact h1), if_neg h1, M_rem_52 (c := n) _ 584 0 fu σ h hc hlt (by omega) (by unfold fu; omega)]
    have f1 : ∀ F, mI (wA σ 66 F) 62 = mI σ 62 := fun F => rfl
    rw [fm_gI (FM_w h), Option.bind_some, fm_pI (FM_w h), Option.bind_some, f1, hc, l1_, N_add]
    unfold aRem
    rw [if_neg h1]
    rfl
