/-! THE PLAIN LAW, 121: the trades, the component's side -/
set_option maxRecDepth 100000
def TK (σ τ : Mm) : Prop := mS τ = mS σ ∧ mL τ = mL σ ∧ mR τ = mR σ ∧ mN τ = mN σ ∧ ∀ p, p ≠ 41 → p ≠ 42 → p ≠ 43 → mI τ p = mI σ p
theorem TK.rf {σ : Mm} : TK σ σ := ⟨rfl, rfl, rfl, rfl, fun _ _ _ _ => rfl⟩
theorem TK.tr {σ τ υ : Mm} (h : TK σ τ) (g : TK τ υ) : TK σ υ := ⟨g.1.trans h.1, g.2.1.trans h.2.1, g.2.2.1.trans h.2.2.1, g.2.2.2.1.trans h.2.2.2.1, fun p a b c => (g.2.2.2.2 p a b c).trans (h.2.2.2.2 p a b c)⟩
theorem TK.w {σ τ : Mm} {p : Nat} {f : Nat → Int32} (h : TK σ τ) (hp : p = 41 ∨ p = 42 ∨ p = 43) : TK σ (wA τ p f) := by
  refine ⟨h.1, h.2.1, h.2.2.1, h.2.2.2.1, fun q a b c => ?_⟩
  rw [mI_wA, if_neg (by omega)]
  exact h.2.2.2.2 q a b c
theorem TK.kp {σ τ : Mm} (h : TK σ τ) : Kp σ τ := by
  obtain ⟨h1, h2, h3, h4, h5⟩ := h
  have e37 := h5 37 (by omega) (by omega) (by omega)
  have e62 := h5 62 (by omega) (by omega) (by omega)
  refine ⟨h1, h2, h3, h4, fun p hp => ?_, ⟨by rw [e37], by rw [e37]⟩, by rw [e62], by rw [e62], by rw [e62], by rw [e62], fun hb => ?_⟩
  · unfold KPl at hp
    exact h5 p (by omega) (by omega) (by omega)
  · unfold B62 at *
    rw [e62]; exact hb
def lfS (A : Nat → Int32) (v : Nat) (a : Int32) : Int32 := a ||| (if PA A v 2 = M1 then N 0 else bt v)
theorem aWears_bits (A : Nat → Int32) {np : Nat} (hn : np ≤ 10) : ∃ s, s < 2 ^ np ∧ fd (lfS A) 0 np (N 0) = N s ∧ ∀ p, s.testBit p = (decide (p < np) && !decide (PA A p 2 = M1)) := by
  have := fd_inv (f := lfS A) (fun i a => ∃ s, s < 2 ^ np ∧ a = N s ∧ ∀ p, s.testBit p = (decide (p < i) && !decide (PA A p 2 = M1))) np 0 (N 0) ⟨0, Nat.two_pow_pos np, rfl, fun p => by rw [Nat.zero_testBit, decide_eq_false (by omega)]; rfl⟩ fun j a _ hj ⟨s, hs, e, ht⟩ => ?_
  · rw [Nat.zero_add] at this; exact this
  · unfold lfS
    by_cases h : PA A j 2 = M1
    · refine ⟨s, hs, by rw [if_pos h, e, N_or, Nat.or_zero], fun p => ?_⟩
      rw [ht p]
      by_cases hpj : p = j
      · subst hpj; rw [h]; simp
      · rw [show decide (p < j) = decide (p < j + 1) from decide_eq_decide.mpr (by omega)]
    · refine ⟨s ||| 2 ^ j, Nat.or_lt_two_pow hs (Nat.pow_lt_pow_right (by omega) (by omega)), by rw [if_neg h, e, bt_N j (by omega), N_or], fun p => ?_⟩
      rw [Nat.testBit_or, ht p, Nat.testBit_two_pow]
      by_cases hpj : p = j
      · subst hpj
        rw [decide_eq_false h, decide_eq_true (show p = p from rfl), decide_eq_true (show p < p + 1 by omega)]
        simp
      · rw [show decide (p < j) = decide (p < j + 1) from decide_eq_decide.mpr (by omega), decide_eq_false (show ¬ j = p by omega), Bool.or_false]
def itr (w : Nat → Nat) : Nat → Nat → Nat
  | 0, v => v
  | k + 1, v => itr w k (w v)
def rgo (w : Nat → Nat) : Nat → Nat → Nat → Nat
  | 0, S, _ => S
  | n + 1, S, v => if S.testBit v then S else rgo w n (S ||| 2 ^ v) (w v)
/-- what is pointed to stays in the set -/
def cls (np s : Nat) (w : Nat → Nat) : Prop := ∀ j, j < np → s.testBit j = true → w j < np ∧ s.testBit (w j) = true
theorem itr_in {np s : Nat} {w : Nat → Nat} (h : cls np s w) : ∀ k v, v < np → s.testBit v = true → itr w k v < np ∧ s.testBit (itr w k v) = true := by
  intro k
  induction k with
  | zero => intro v h1 h2; exact ⟨h1, h2⟩
  | succ k ih => intro v h1 h2; exact ih _ (h v h1 h2).1 (h v h1 h2).2
theorem or_sub {s S v : Nat} (h : ∀ j, S.testBit j = true → s.testBit j = true) (hv : s.testBit v = true) : ∀ j, (S ||| 2 ^ v).testBit j = true → s.testBit j = true := by
  intro j hj
  rw [Nat.testBit_or, Nat.testBit_two_pow, Bool.or_eq_true, decide_eq_true_iff] at hj
  rcases hj with hj | hj
  · exact h j hj
  · rw [← hj]; exact hv
theorem rgo_in {np s : Nat} {w : Nat → Nat} (hn0 : np ≤ 10) (h : cls np s w) : ∀ n S v, v < np → s.testBit v = true → S < 1024 → (∀ j, S.testBit j = true → s.testBit j = true) → rgo w n S v < 1024 ∧ ∀ j, (rgo w n S v).testBit j = true → s.testBit j = true := by
  intro n
  induction n with
  | zero => intro S v _ _ hS h2; exact ⟨hS, h2⟩
  | succ n ih =>
    intro S v h1 h2 hS h3
    rw [rgo]
    split
    · exact ⟨hS, h3⟩
    · exact ih _ _ (h v h1 h2).1 (h v h1 h2).2 (or_lt hS (by omega)) (or_sub h3 h2)
theorem rgo_ge {w : Nat → Nat} : ∀ n S v j, S.testBit j = true → (rgo w n S v).testBit j = true := by
  intro n
  induction n with
  | zero => intro S v j h; exact h
  | succ n ih =>
    intro S v j h
    rw [rgo]
    split
    · exact h
    · exact ih _ _ _ (by rw [Nat.testBit_or, h, Bool.true_or])
theorem rgo_v {w : Nat → Nat} {n v : Nat} : (rgo w (n + 1) 0 v).testBit v = true := by
  rw [rgo, if_neg (by rw [Nat.zero_testBit]; exact Bool.false_ne_true)]
  exact rgo_ge _ _ _ _ (by rw [Nat.testBit_or, Nat.testBit_two_pow_self, Bool.or_true])
theorem lb_ok : ∀ s, s < 1024 → s ≠ 0 → s.testBit (lb s) = true ∧ lb s < 10 := by decide +kernel
theorem lb_min : ∀ s, s < 1024 → ∀ j, j < 10 → j < lb s → s.testBit j = false := by decide +kernel
theorem nR_k : ∀ R, R < 1024 → N 1023 &&& (N R ^^^ M1) = N (1023 ^^^ R) := by decide +kernel
theorem rm_R {s R : Nat} (hs : s < 1024) (hR : R < 1024) : N s &&& (N R ^^^ M1) = N (s &&& (1023 ^^^ R)) := by
  have e : s &&& 1023 = s := by
    have := Nat.and_two_pow_sub_one_eq_mod s 10
    rw [show 2 ^ 10 - 1 = 1023 from rfl, Nat.mod_eq_of_lt hs] at this
    exact this
  have e2 : N s = N s &&& N 1023 := by rw [N_and, e]
  rw [e2, Int32.and_assoc, nR_k R hR, N_and]
theorem rm_tb {s R j : Nat} (hj : j < 10) : (s &&& (1023 ^^^ R)).testBit j = (s.testBit j && !R.testBit j) := by
  have e : (1023 : Nat).testBit j = true := by
    rw [show (1023 : Nat) = 2 ^ 10 - 1 from rfl, Nat.testBit_two_pow_sub_one]; exact decide_eq_true hj
  rw [Nat.testBit_and, Nat.testBit_xor, e, Bool.true_xor]
/-- one ring of a set -/
def rgS (A : Nat → Int32) (D : Nat → List Nat) (np s : Nat) : Nat := rgo (dst A D np s) 11 0 (itr (dst A D np s) 10 (lb s))
def ttc (A : Nat → Int32) (D : Nat → List Nat) (np : Nat) : Nat → Nat → (Nat → Int32) → Nat → Int32
  | 0, _, g => g
  | m + 1, s, g => if s = 0 then g else ttc A D np m (s &&& (1023 ^^^ rgS A D np s)) (fun v => if (rgS A D np s).testBit v then PA A (dst A D np s v) 2 else g v)
theorem ttc_congr {A : Nat → Int32} {D : Nat → List Nat} {np : Nat} : ∀ m s g g', (∀ v, v < np → g v = g' v) → ∀ v, v < np → ttc A D np m s g v = ttc A D np m s g' v := by
  intro m
  induction m with
  | zero => intro s g g' h; exact h
  | succ m ih =>
    intro s g g' h v hv
    rw [ttc, ttc]
    split
    · exact h v hv
    · exact ih _ _ _ (fun u hu => by simp only [h u hu]) v hv
theorem dst_cls {A : Nat → Int32} {D : Nat → List Nat} {np s : Nat} : cls np s (dst A D np s) := fun j hj ht => by
  have := (dst_ok (A := A) (D := D) (p := j) ⟨j, hj, ht⟩).1
  exact ⟨this.1, this.2.1⟩
theorem rgS_ok {A : Nat → Int32} {D : Nat → List Nat} {np s : Nat} (hn0 : np ≤ 10) (hs : s < 2 ^ np) (h0 : s ≠ 0) : lb s < np ∧ s.testBit (lb s) = true ∧ rgS A D np s < 1024 ∧ (∀ j, (rgS A D np s).testBit j = true → s.testBit j = true) ∧ s &&& (1023 ^^^ rgS A D np s) < s := by
  obtain ⟨l1, l2⟩ := lb_ok s (p1024 hn0 hs) h0
  have l3 : lb s < np := by
    rcases Nat.lt_or_ge (lb s) np with h | h
    · exact h
    · rw [Nat.testBit_lt_two_pow (Nat.lt_of_lt_of_le hs (Nat.pow_le_pow_right (by omega) h))] at l1; cases l1
  obtain ⟨i1, i2⟩ := itr_in (dst_cls (A := A) (D := D) (np := np) (s := s)) 10 (lb s) l3 l1
  obtain ⟨r1, r2⟩ := rgo_in hn0 (dst_cls (A := A) (D := D) (np := np) (s := s)) 11 0 _ i1 i2 (by omega) (fun j hj => by rw [Nat.zero_testBit] at hj; cases hj)
  refine ⟨l3, l1, r1, r2, ?_⟩
  have le : s &&& (1023 ^^^ rgS A D np s) ≤ s := Nat.and_le_left
  rcases Nat.lt_or_ge (s &&& (1023 ^^^ rgS A D np s)) s with h | h
  · exact h
  · exfalso
    have e : s &&& (1023 ^^^ rgS A D np s) = s := Nat.le_antisymm le h
    have t := rm_tb (s := s) (R := rgS A D np s) (j := itr (dst A D np s) 10 (lb s)) (by omega)
    rw [e, i2, show (rgS A D np s).testBit (itr (dst A D np s) 10 (lb s)) = true from rgo_v] at t
    cases t
