/-! THE PLAIN LAW, 25: a new World -/
set_option maxRecDepth 100000
def fl (f g : Nat → Int32) (a b : Nat) : Nat → Int32 := fun j => if a ≤ j ∧ j < b then g j else f j
theorem fl_0 {f g : Nat → Int32} {a : Nat} : fl f g a a = f := by
  funext j; unfold fl; rw [if_neg (by omega)]
theorem fl_s {f g : Nat → Int32} {a b : Nat} (h : a < b) : fl (up1 f a (g a)) g (a + 1) b = fl f g a b := by
  funext j
  unfold fl up1
  by_cases h1 : a + 1 ≤ j ∧ j < b
  · rw [if_pos h1, if_pos (by omega)]
  · rw [if_neg h1]
    by_cases h2 : j = a
    · rw [if_pos h2, if_pos (by omega), h2]
    · rw [if_neg h2, if_neg (by omega)]
theorem J_fill_5 {q m : Nat} {y : Int32} (kx : Mm → Option Mm) (k : Nat) : ∀ (i n : Nat) (σ : Mm), mS σ q = 100 → mL σ q = m → m < 100000 → i + k = m → k < n → FJ0_fill_5 (some q) y (N m) n (N i) σ kx = kx (wA σ q (fl (mI σ q) (fun _ => y) i m)) := by
  induction k with
  | zero =>
    intro i n σ hs hl hm hi hk
    obtain ⟨n, rfl⟩ : ∃ n', n = n' + 1 := ⟨n - 1, by omega⟩
    rw [FJ0_fill_5, if_pos (by rw [N_le (by omega) (by omega)]; omega), show i = m by omega, fl_0, wA_self]
  | succ k ih =>
    intro i n σ hs hl hm hi hk
    obtain ⟨n, rfl⟩ : ∃ n', n = n' + 1 := ⟨n - 1, by omega⟩
    rw [FJ0_fill_5, if_neg (by rw [N_le (by omega) (by omega)]; omega), sI_N hs hl (by omega) (by omega), Option.bind_some, l1_, N_add, ih (i + 1) n (wA σ q (up1 (mI σ q) i y)) hs hl hm (by omega) (by omega), mI_wA, if_pos rfl, wA_wA, fl_s (g := fun _ => y) (by omega)]
theorem J_fill {q m : Nat} {y : Int32} {σ : Mm} (hs : mS σ q = 100) (hl : mL σ q = m) (hm : m < 99999) : FJ0_fill (some q) y σ = some (wA σ q (fl (mI σ q) (fun _ => y) 0 m)) := by
  unfold FJ0_fill
  have e : aL 100 (some q) σ = some (N m) := by simp only [aL, Option.bind_some]; rw [if_pos hs, hl]; rfl
  rw [e, Option.bind_some, l0_, J_fill_5 _ m 0 fu σ hs hl (by omega) (by omega) (by unfold fu; omega)]
def iw (b : Nat) : Nat → Mm → Mm
  | 0, τ => τ
  | k+1, τ => wR (wN (iw b k τ) 100 (lkN (k + 1))) b (8 + k) (some (b + (k + 1)))
theorem mN_wN (σ : Mm) (t n : Nat) : mN (wN σ t n) = mN σ + 1 := rfl
theorem mS_wN (σ : Mm) (t n q : Nat) : mS (wN σ t n) q = if q = mN σ then t else mS σ q := rfl
theorem mL_wN (σ : Mm) (t n q : Nat) : mL (wN σ t n) q = if q = mN σ then n else mL σ q := rfl
theorem mI_wN (σ : Mm) (t n q : Nat) : mI (wN σ t n) q = if q = mN σ then (fun _ => 0) else mI σ q := rfl
theorem mR_wN (σ : Mm) (t n q : Nat) : mR (wN σ t n) q = if q = mN σ then (fun _ => none) else mR σ q := rfl
theorem mS_wR (σ : Mm) (p k : Nat) (v : Option Nat) : mS (wR σ p k v) = mS σ := rfl
theorem mL_wR (σ : Mm) (p k : Nat) (v : Option Nat) : mL (wR σ p k v) = mL σ := rfl
theorem mN_wR (σ : Mm) (p k : Nat) (v : Option Nat) : mN (wR σ p k v) = mN σ := rfl
section
variable {b : Nat} {τ : Mm}
theorem iw_N (h : mN τ = b + 1) : ∀ k, mN (iw b k τ) = b + (k + 1)
  | 0 => h
  | k+1 => by rw [iw, mN_wR, mN_wN, iw_N h k]; omega
theorem iw_S (h : mN τ = b + 1) (q : Nat) : ∀ k, mS (iw b k τ) q = if b + 1 ≤ q ∧ q < b + (k + 1) then 100 else mS τ q
  | 0 => by rw [iw, if_neg (by omega)]
  | k+1 => by
    rw [iw, mS_wR, mS_wN, iw_N h k, iw_S h q k]
    by_cases e : q = b + (k + 1)
    · rw [if_pos e, if_pos (by omega)]
    · rw [if_neg e]
      by_cases e2 : b + 1 ≤ q ∧ q < b + (k + 1)
      · rw [if_pos e2, if_pos (by omega)]
      · rw [if_neg e2, if_neg (by omega)]
theorem iw_L (h : mN τ = b + 1) (q : Nat) : ∀ k, mL (iw b k τ) q = if b + 1 ≤ q ∧ q < b + (k + 1) then lkN (q - b) else mL τ q
  | 0 => by rw [iw, if_neg (by omega)]
  | k+1 => by
    rw [iw, mL_wR, mL_wN, iw_N h k, iw_L h q k]
    by_cases e : q = b + (k + 1)
    · rw [if_pos e, if_pos (by omega), show q - b = k + 1 by omega]
    · rw [if_neg e]
      by_cases e2 : b + 1 ≤ q ∧ q < b + (k + 1)
      · rw [if_pos e2, if_pos (by omega)]
      · rw [if_neg e2, if_neg (by omega)]
theorem iw_I (h : mN τ = b + 1) (q : Nat) (hq : q ≤ b ∨ b + 12 ≤ q) : ∀ k, k ≤ 11 → mI (iw b k τ) q = mI τ q
  | 0, _ => rfl
  | k+1, hk => by rw [iw, mI_wR, mI_wN, iw_N h k, if_neg (by omega), iw_I h q hq k (by omega)]
theorem iw_R (h : mN τ = b + 1) (q : Nat) (hq : q < b ∨ b + 12 ≤ q) : ∀ k, k ≤ 11 → mR (iw b k τ) q = mR τ q
  | 0, _ => rfl
  | k+1, hk => by
    have e : ∀ j, mR (iw b (k + 1) τ) q j = mR (iw b k τ) q j := fun j => by
      rw [iw, mR_wR_n (Or.inl (by omega)), mR_wN, iw_N h k, if_neg (by omega)]
    exact (funext e).trans (iw_R h q hq k (by omega))
theorem iw_b (h : mN τ = b + 1) (j : Nat) (hj : 8 ≤ j) : ∀ k, j < 8 + k → mR (iw b k τ) b j = some (b + (j - 7))
  | 0, hk => by omega
  | k+1, hk => by
    rw [iw, mR_wR, if_pos rfl]
    by_cases e : j = 8 + k
    · rw [if_pos e]; congr 1; omega
    · rw [if_neg e, mR_wN, iw_N h k, if_neg (by omega), iw_b h j hj k (by omega)]
theorem X2_init (hS : mS τ b = 2) (hN : mN τ = b + 1) (hb : b + 12 ≤ BIG) : ∃ F, FX2_init b τ = some (wA (iw b 11 (wA τ b F)) (b + 10) (fl (mI (iw b 11 (wA τ b F)) (b + 10)) (fun _ => M1) 0 12)) := by
  have hB : BIG = 1000000 := rfl
  refine ⟨up1 (up1 (mI τ b) 2 (N 6)) 7 (N 1), ?_⟩
  have e0 : pI 2 2 (some b) (N 6) τ = some (wA τ b (up1 (mI τ b) 2 (N 6))) := pI_s hS
  have e1 : pI 2 7 (some b) (N 1) (wA τ b (up1 (mI τ b) 2 (N 6))) = some (wA τ b (up1 (up1 (mI τ b) 2 (N 6)) 7 (N 1))) := by
    rw [pI_s (show mS (wA τ b (up1 (mI τ b) 2 (N 6))) b = 2 from hS), wA_wA, mI_wA, if_pos rfl]
  obtain ⟨t, ht⟩ : ∃ t, t = wA τ b (up1 (up1 (mI τ b) 2 (N 6)) 7 (N 1)) := ⟨_, rfl⟩
  have hS : mS t b = 2 := by rw [ht]; exact hS
  have hN : mN t = b + 1 := by rw [ht]; exact hN
  rw [← ht] at e1 ⊢
  have nA_ : ∀ k n, k < 11 → n ≤ 300 → nA 100 (N n) (iw b k t) = some (some (b + (k + 1)), wN (iw b k t) 100 n) := fun k n hk hn => by
    unfold nA
    rw [iw_N hN k, N_idx (by omega), if_pos ⟨by omega, by rw [l0_, N_lt (by omega) (by omega)]; omega, by omega⟩]
  have pR_ : ∀ k n v, k < 11 → pR 2 (8 + k) (some b) v (wN (iw b k t) 100 n) = some (wR (wN (iw b k t) 100 n) b (8 + k) v) := fun k n v hk => by
    simp only [pR, Option.bind_some]
    exact if_pos ((mS_wN _ _ _ b).trans ((if_neg (by rw [iw_N hN k]; omega)).trans ((iw_S hN b k).trans ((if_neg (by omega)).trans hS))))
  have n0 : nA 100 (N 10) t = some (some (b + 1), wN t 100 10) := nA_ 0 10 (by omega) (by omega)
  have p0 : pR 2 8 (some b) (some (b + 1)) (wN t 100 10) = some (iw b 1 t) := pR_ 0 10 _ (by omega)
  have n1 : nA 100 (N 10) (iw b 1 t) = some (some (b + 2), wN (iw b 1 t) 100 10) := nA_ 1 10 (by omega) (by omega)
  have p1 : pR 2 9 (some b) (some (b + 2)) (wN (iw b 1 t) 100 10) = some (iw b 2 t) := pR_ 1 10 _ (by omega)
  have n2 : nA 100 (N 10) (iw b 2 t) = some (some (b + 3), wN (iw b 2 t) 100 10) := nA_ 2 10 (by omega) (by omega)
  have p2 : pR 2 10 (some b) (some (b + 3)) (wN (iw b 2 t) 100 10) = some (iw b 3 t) := pR_ 2 10 _ (by omega)
  have n3 : nA 100 (N 10) (iw b 3 t) = some (some (b + 4), wN (iw b 3 t) 100 10) := nA_ 3 10 (by omega) (by omega)
  have p3 : pR 2 11 (some b) (some (b + 4)) (wN (iw b 3 t) 100 10) = some (iw b 4 t) := pR_ 3 10 _ (by omega)
  have n4 : nA 100 (N 10) (iw b 4 t) = some (some (b + 5), wN (iw b 4 t) 100 10) := nA_ 4 10 (by omega) (by omega)
  have p4 : pR 2 12 (some b) (some (b + 5)) (wN (iw b 4 t) 100 10) = some (iw b 5 t) := pR_ 4 10 _ (by omega)
  have n5 : nA 100 (N 10) (iw b 5 t) = some (some (b + 6), wN (iw b 5 t) 100 10) := nA_ 5 10 (by omega) (by omega)
  have p5 : pR 2 13 (some b) (some (b + 6)) (wN (iw b 5 t) 100 10) = some (iw b 6 t) := pR_ 5 10 _ (by omega)
  have n6 : nA 100 (N 100) (iw b 6 t) = some (some (b + 7), wN (iw b 6 t) 100 100) := nA_ 6 100 (by omega) (by omega)
  have p6 : pR 2 14 (some b) (some (b + 7)) (wN (iw b 6 t) 100 100) = some (iw b 7 t) := pR_ 6 100 _ (by omega)
  have n7 : nA 100 (N 100) (iw b 7 t) = some (some (b + 8), wN (iw b 7 t) 100 100) := nA_ 7 100 (by omega) (by omega)
  have p7 : pR 2 15 (some b) (some (b + 8)) (wN (iw b 7 t) 100 100) = some (iw b 8 t) := pR_ 7 100 _ (by omega)
  have n8 : nA 100 (N 10) (iw b 8 t) = some (some (b + 9), wN (iw b 8 t) 100 10) := nA_ 8 10 (by omega) (by omega)
  have p8 : pR 2 16 (some b) (some (b + 9)) (wN (iw b 8 t) 100 10) = some (iw b 9 t) := pR_ 8 10 _ (by omega)
  have n9 : nA 100 (N 12) (iw b 9 t) = some (some (b + 10), wN (iw b 9 t) 100 12) := nA_ 9 12 (by omega) (by omega)
  have p9 : pR 2 17 (some b) (some (b + 10)) (wN (iw b 9 t) 100 12) = some (iw b 10 t) := pR_ 9 12 _ (by omega)
  have n10 : nA 100 (N 300) (iw b 10 t) = some (some (b + 11), wN (iw b 10 t) 100 300) := nA_ 10 300 (by omega) (by omega)
  have p10 : pR 2 18 (some b) (some (b + 11)) (wN (iw b 10 t) 100 300) = some (iw b 11 t) := pR_ 10 300 _ (by omega)
  have g10 : gR 2 17 (some b) (iw b 11 t) = some (some (b + 10)) := gR_s ((iw_S hN b 11).trans ((if_neg (by omega)).trans hS)) (iw_b hN 17 (by omega) 11 (by omega))
  have f10 : FJ0_fill (some (b + 10)) M1 (iw b 11 t) = _ := J_fill (m := 12) ((iw_S hN (b + 10) 11).trans (if_pos (by omega))) ((iw_L hN (b + 10) 11).trans ((if_pos (by omega)).trans (by rw [show b + 10 - b = 10 by omega]; rfl))) (by omega)
  unfold FX2_init
  simp only [↓m1_, l0_, l1_, l2_, l3_, l4_, l5_, l6_, l7_, l8_, l9_, l10_, l11_, l12_, l13_, l14_, l15_, l16_, l17_, l18_, l19_, l20_, l21_, l22_, l23_, l24_, l25_, l26_, l27_, l28_, l29_, l30_, l31_, l32_, l40_, l48_, l57_, l59_, l60_, l61_, l62_, l63_, l72_, l77_, l90_, l97_, l99_, l100_, l122_, l128_, l172_, l255_, l272_, l284_, l285_, l286_, l287_, l288_, l289_, l299_, l300_, l320_, l400_, l584_, l984_, l999_, l1023_, l1024_, l4095_, l6424_, l7008_, l10240_, l12345_, l32767_, l100000_, l1103515245_, l2000000000_, e0, e1, n0, p0, n1, p1, n2, p2, n3, p3, n4, p4, n5, p5, n6, p6, n7, p7, n8, p8, n9, p9, n10, p10, Option.bind_some, g10, f10]
end
/-- a World more, at the end of all places -/
def NW (b : Nat) (σ σ' : Mm) : Prop := mN σ' = b + 12 ∧ FW b σ' ∧ ∀ q, q < b ∨ b + 12 ≤ q → mS σ' q = mS σ q ∧ mL σ' q = mL σ q ∧ mI σ' q = mI σ q ∧ mR σ' q = mR σ q
theorem W_new {b : Nat} {σ : Mm} (hN : mN σ = b) (hb : b + 12 ≤ BIG) : ∃ σ', nO 2 σ = some (some b, wN σ 2 0) ∧ rv 2 (some b) (wN σ 2 0) = some b ∧ FX2_init b (wN σ 2 0) = some σ' ∧ NW b σ σ' := by
  have hS : mS (wN σ 2 0) b = 2 := by rw [mS_wN, hN, if_pos rfl]
  have hN' : mN (wN σ 2 0) = b + 1 := by rw [mN_wN, hN]
  obtain ⟨F, hF⟩ := X2_init hS hN' hb
  have hN2 : mN (wA (wN σ 2 0) b F) = b + 1 := hN'
  refine ⟨_, ?_, rv_s hS, hF, ?_, ?_, fun q hq => ⟨?_, ?_, ?_, ?_⟩⟩
  · unfold nO; rw [hN, if_pos (by omega)]
  · exact iw_N hN2 11
  · have fs : ∀ k, 1 ≤ k → k ≤ 11 → mS (iw b 11 (wA (wN σ 2 0) b F)) (b + k) = 100 := fun k h1 h2 => (iw_S hN2 (b + k) 11).trans (if_pos (by omega))
    have fl' : ∀ k, 1 ≤ k → k ≤ 11 → mL (iw b 11 (wA (wN σ 2 0) b F)) (b + k) = lkN k := fun k h1 h2 => (iw_L hN2 (b + k) 11).trans ((if_pos (by omega)).trans (by rw [show b + k - b = k by omega]))
    have fr : ∀ k, 1 ≤ k → k ≤ 11 → mR (iw b 11 (wA (wN σ 2 0) b F)) b (k + 7) = some (b + k) := fun k h1 h2 => (iw_b hN2 (k + 7) (by omega) 11 (by omega)).trans (by rw [show k + 7 - 7 = k by omega])
    exact ⟨(iw_S hN2 b 11).trans ((if_neg (by omega)).trans hS), ⟨fs 1 (by omega) (by omega), fl' 1 (by omega) (by omega)⟩, ⟨fs 2 (by omega) (by omega), fl' 2 (by omega) (by omega)⟩, ⟨fs 3 (by omega) (by omega), fl' 3 (by omega) (by omega)⟩, ⟨fs 4 (by omega) (by omega), fl' 4 (by omega) (by omega)⟩, ⟨fs 5 (by omega) (by omega), fl' 5 (by omega) (by omega)⟩, ⟨fs 6 (by omega) (by omega), fl' 6 (by omega) (by omega)⟩, ⟨fs 7 (by omega) (by omega), fl' 7 (by omega) (by omega)⟩, ⟨fs 8 (by omega) (by omega), fl' 8 (by omega) (by omega)⟩, ⟨fs 9 (by omega) (by omega), fl' 9 (by omega) (by omega)⟩, ⟨fs 10 (by omega) (by omega), fl' 10 (by omega) (by omega)⟩, ⟨fs 11 (by omega) (by omega), fl' 11 (by omega) (by omega)⟩, fr 1 (by omega) (by omega), fr 2 (by omega) (by omega), fr 3 (by omega) (by omega), fr 4 (by omega) (by omega), fr 5 (by omega) (by omega), fr 6 (by omega) (by omega), fr 7 (by omega) (by omega), fr 8 (by omega) (by omega), fr 9 (by omega) (by omega), fr 10 (by omega) (by omega), fr 11 (by omega) (by omega)⟩
  · exact (iw_S hN2 q 11).trans ((if_neg (by omega)).trans ((mS_wN σ 2 0 q).trans (if_neg (by omega))))
  · exact (iw_L hN2 q 11).trans ((if_neg (by omega)).trans ((mL_wN σ 2 0 q).trans (if_neg (by omega))))
  · rw [mI_wA, if_neg (by omega), iw_I hN2 q (by omega) 11 (by omega), mI_wA, if_neg (by omega), mI_wN, if_neg (by omega)]
  · refine (iw_R hN2 q hq 11 (by omega)).trans ?_
    rw [mR_wA, mR_wN, if_neg (by omega)]
