/-! THE PLAIN LAW, 84: the k-th of a set -/
set_option maxRecDepth 100000
def kth (P : Nat → Bool) : Nat → Nat → Nat → Option Nat
  | 0, _, _ => none
  | k + 1, i, v => if P i then (if v = 0 then some i else kth P k (i + 1) (v - 1)) else kth P k (i + 1) v
theorem kt_some {P : Nat → Bool} : ∀ k i v j, kth P k i v = some j → P j = true ∧ i ≤ j ∧ j < i + k := by
  intro k
  induction k with
  | zero => intro i v j h; cases h
  | succ k ih =>
    intro i v j h
    rw [kth] at h
    by_cases hp : P i = true
    · rw [if_pos hp] at h
      by_cases hv : v = 0
      · rw [if_pos hv] at h; cases h; exact ⟨hp, by omega, by omega⟩
      · rw [if_neg hv] at h
        obtain ⟨a, b, c⟩ := ih _ _ _ h
        exact ⟨a, by omega, by omega⟩
    · rw [if_neg hp] at h
      obtain ⟨a, b, c⟩ := ih _ _ _ h
      exact ⟨a, by omega, by omega⟩
theorem kt_congr {P Q : Nat → Bool} : ∀ k i v, (∀ j, i ≤ j → j < i + k → P j = Q j) → kth P k i v = kth Q k i v := by
  intro k
  induction k with
  | zero => intro i v _; rfl
  | succ k ih =>
    intro i v h
    rw [kth, kth, h i (by omega) (by omega), ih (i + 1) v (fun j h1 h2 => h j (by omega) (by omega)), ih (i + 1) (v - 1) (fun j h1 h2 => h j (by omega) (by omega))]
theorem kt_none {P : Nat → Bool} : ∀ k i v, (∀ j, i ≤ j → j < i + k → P j = false) → kth P k i v = none := by
  intro k
  induction k with
  | zero => intro i v _; rfl
  | succ k ih =>
    intro i v h
    rw [kth, h i (by omega) (by omega), ih (i + 1) v (fun j h1 h2 => h j (by omega) (by omega))]
    rfl
theorem kt_add {P : Nat → Bool} {m : Nat} : ∀ k i v, (∀ j, i + k ≤ j → j < i + k + m → P j = false) → kth P (k + m) i v = kth P k i v := by
  intro k
  induction k with
  | zero => intro i v h; rw [Nat.zero_add]; exact kt_none m i v fun j h1 h2 => h j (by omega) (by omega)
  | succ k ih =>
    intro i v h
    rw [show k + 1 + m = (k + m) + 1 by omega, kth, kth, ih (i + 1) v (fun j h1 h2 => h j (by omega) (by omega)), ih (i + 1) (v - 1) (fun j h1 h2 => h j (by omega) (by omega))]
theorem aHolders_bits (A : Nat → Int32) {np : Nat} (hn : np ≤ 10) : ∃ s, s < 2 ^ np ∧ aHolders A np = N s ∧ ∀ p, s.testBit p = (decide (p < np) && !decide (PA A p 3 = M1)) := by
  unfold aHolders
  have := fd_inv (f := fun p a => a ||| (if PA A p 3 = M1 then N 0 else bt p)) (fun i a => ∃ s, s < 2 ^ np ∧ a = N s ∧ ∀ p, s.testBit p = (decide (p < i) && !decide (PA A p 3 = M1))) np 0 (N 0) ⟨0, Nat.two_pow_pos np, rfl, fun p => by rw [Nat.zero_testBit, decide_eq_false (by omega)]; rfl⟩ fun j a _ hj ⟨s, hs, e, ht⟩ => ?_
  · rw [Nat.zero_add] at this; exact this
  · by_cases h : PA A j 3 = M1
    · refine ⟨s, hs, by rw [if_pos h, e, N_or, Nat.or_zero], fun p => ?_⟩
      rw [ht p]
      by_cases hpj : p = j
      · subst hpj; rw [h]; simp
      · rw [show decide (p < j) = decide (p < j + 1) from decide_eq_decide.mpr (by omega)]
    · refine ⟨s ||| 2 ^ j, Nat.or_lt_two_pow hs (Nat.pow_lt_pow_right (by omega) (by omega)), by rw [if_neg h, e, bt_N j (by omega), N_or], fun p => ?_⟩
      rw [Nat.testBit_or, ht p, Nat.testBit_two_pow]
      by_cases hpj : p = j
      · subst hpj
        rw [decide_eq_false h, decide_eq_true (show p = p from rfl), decide_eq_true (show p < p + 1 by omega)]
        simp
      · rw [show decide (p < j) = decide (p < j + 1) from decide_eq_decide.mpr (by omega), decide_eq_false (show ¬ j = p by omega), Bool.or_false]
def kn : Nat → Nat → Nat
  | s, 0 => s
  | s, v + 1 => kn (s &&& (s - 1)) v
theorem and_pred : ∀ x, x < 1024 → N x &&& (N x - N 1) = N (x &&& (x - 1)) := by decide +kernel
theorem kn_lt : ∀ v s, s < 1024 → kn s v < 1024 := by
  intro v
  induction v with
  | zero => intro s h; exact h
  | succ v ih => intro s h; exact ih _ (Nat.lt_of_le_of_lt Nat.and_le_left h)
theorem kn_kt : ∀ s, s < 1024 → ∀ v, v < 10 → v < pc s → kth s.testBit 10 0 v = some (lb (kn s v)) := by decide +kernel
theorem pc_10 : ∀ s, s < 1024 → pc s ≤ 10 := by decide +kernel
theorem pc_rm : ∀ s, s < 1024 → ∀ i, i < 10 → s.testBit i = true → pc (s &&& (1023 - 2 ^ i)) = pc s - 1 := by decide +kernel
theorem tb_rm0 : ∀ i, i < 10 → ∀ q, q < 10 → (1023 - 2 ^ i).testBit q = !decide (q = i) := by decide +kernel
theorem tb_rm {s i q : Nat} (hi : i < 10) (hq : q < 10) : (s &&& (1023 - 2 ^ i)).testBit q = (s.testBit q && !decide (q = i)) := by rw [Nat.testBit_and, tb_rm0 i hi q hq]
section
variable {σ : Mm}
theorem C_kth_4 {m : Nat} (hm : m ≤ 12) : ∀ (d n x j : Nat) (K : Int32 → Mm → Option (Int32 × Mm)), j + d = m → d < n → x < 1024 → FX1_kth_4 (N m) n (N x) (N j) σ K = K (N (kn x d)) σ := by
  intro d
  induction d with
  | zero =>
    intro n x j K hj hn hx
    obtain ⟨n, rfl⟩ : ∃ m, n = m + 1 := ⟨n - 1, by omega⟩
    rw [FX1_kth_4, if_pos (by rw [N_le (by omega) (by omega)]; omega)]
    rfl
  | succ d ih =>
    intro n x j K hj hn hx
    obtain ⟨n, rfl⟩ : ∃ m, n = m + 1 := ⟨n - 1, by omega⟩
    rw [FX1_kth_4, if_neg (by rw [N_le (by omega) (by omega)]; omega), l1_, and_pred x hx, N_add, ih n _ (j + 1) K (by omega) (by omega) (Nat.lt_of_le_of_lt Nat.and_le_left hx)]
    rfl
theorem C_kth {s v : Nat} (hs : s < 1024) (hv : v < pc s) : ∃ i, i < 10 ∧ kth s.testBit 10 0 v = some i ∧ FX1_kth (N s) (N v) σ = some (N i, σ) := by
  have h10 := pc_10 s hs
  have e := kn_kt s hs v (by omega) hv
  obtain ⟨-, -, h3⟩ := kt_some _ _ _ _ e
  refine ⟨_, by omega, e, ?_⟩
  unfold FX1_kth
  rw [l0_, C_kth_4 (m := v) (by omega) v fu s 0 _ (by omega) (by unfold fu; omega) hs, J_ntz (kn_lt _ _ hs), Option.bind_some]
theorem M_holder_5 {np : Nat} {y : Int32} (hM : FM σ) (h3 : mI σ 63 3 = N np) (hn : np ≤ 10) : ∀ (k i v n : Nat) (K1 : Mm → Option (Int32 × Mm)) (K2 : Int32 → Mm → Option (Int32 × Mm)), i + k = np → k < n → v < 1000000 → FX8_holder_5 62 y n (N v) (N i) σ K1 K2 = match kth (fun p => !decide (PA (mI σ 63) p 3 = M1) && !decide (N p = y)) k i v with
    | none => K1 σ
    | some j => K2 (N j) σ := by
  intro k
  induction k with
  | zero =>
    intro i v n K1 K2 hi hk hvv
    obtain ⟨n, rfl⟩ : ∃ m, n = m + 1 := ⟨n - 1, by omega⟩
    rw [FX8_holder_5, fm_gR1 hM, Option.bind_some, l3_, fm_rd63 hM (by omega), Option.bind_some, h3, if_pos (by rw [N_le (by omega) (by omega)]; omega)]
    rfl
  | succ k ih =>
    intro i v n K1 K2 hi hk hvv
    obtain ⟨n, rfl⟩ : ∃ m, n = m + 1 := ⟨n - 1, by omega⟩
    rw [FX8_holder_5, fm_gR1 hM, Option.bind_some, l3_, fm_rd63 hM (by omega), Option.bind_some, h3, if_neg (by rw [N_le (by omega) (by omega)]; omega), fm_ck hM, M_of hM (by omega) (by omega), Option.bind_some, m1_, l1_, N_add, kth]
    dsimp only
    by_cases c : PA (mI σ 63) i 3 = M1
    · rw [if_pos c, decide_eq_true c, ih _ _ _ _ _ (by omega) (by omega) (by omega)]
      rfl
    · rw [if_neg c, decide_eq_false c]
      by_cases c2 : N i = y
      · rw [if_pos c2, decide_eq_true c2, ih _ _ _ _ _ (by omega) (by omega) (by omega)]
        rfl
      · rw [if_neg c2, decide_eq_false c2]
        by_cases cv : v = 0
        · subst cv
          rw [if_pos (show N 0 = 0 from rfl)]
          rfl
        · obtain ⟨v, rfl⟩ : ∃ w, v = w + 1 := ⟨v - 1, by omega⟩
          have ev : N (v + 1) = 0 ↔ False := ⟨fun z => by have := (N_inj (a := v + 1) (b := 0) (by omega) (by omega)).mp z; omega, False.elim⟩
          rw [if_neg (by rw [ev]; exact id), N_dec, ih _ _ _ _ _ (by omega) (by omega) (by omega), if_pos (show (!false && !false) = true from rfl), if_neg cv]
          rfl
end
