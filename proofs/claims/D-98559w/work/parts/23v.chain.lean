/-! THE PLAIN LAW, 125: how far one is, by those one knows -/
set_option maxRecDepth 100000
def kn5 (A : Nat → Int32) (v : Nat) : Nat := ix (PA A v 5)
def stS (A : Nat → Int32) (s : Nat) (v a : Nat) : Nat := a ||| (if s.testBit v then kn5 A v else 0)
def stp (A : Nat → Int32) (np s : Nat) : Nat := fd (stS A s) 0 np s
def rk (A : Nat → Int32) (np x : Nat) : Nat → Nat
  | 0 => 2 ^ x
  | k + 1 => stp A np (rk A np x k)
theorem stp_tb {A : Nat → Int32} {np s j : Nat} : (stp A np s).testBit j = true ↔ (s.testBit j = true ∨ ∃ v, v < np ∧ s.testBit v = true ∧ (kn5 A v).testBit j = true) := by
  unfold stp
  have := fd_inv (f := stS A s) (fun i a => ∀ j, a.testBit j = true ↔ (s.testBit j = true ∨ ∃ v, v < i ∧ s.testBit v = true ∧ (kn5 A v).testBit j = true)) np 0 s (fun j => ⟨fun h => Or.inl h, fun h => h.elim id fun ⟨v, h, _⟩ => by omega⟩) fun i a _ hi h j => by
    unfold stS
    rw [Nat.testBit_or, Bool.or_eq_true, h j]
    by_cases c : s.testBit i = true
    · rw [if_pos c]
      constructor
      · rintro ((h1 | ⟨v, h1, h2, h3⟩) | h1)
        · exact Or.inl h1
        · exact Or.inr ⟨v, by omega, h2, h3⟩
        · exact Or.inr ⟨i, by omega, c, h1⟩
      · rintro (h1 | ⟨v, h1, h2, h3⟩)
        · exact Or.inl (Or.inl h1)
        · by_cases e : v = i
          · subst e; exact Or.inr h3
          · exact Or.inl (Or.inr ⟨v, by omega, h2, h3⟩)
    · rw [if_neg c, Nat.zero_testBit]
      constructor
      · rintro ((h1 | ⟨v, h1, h2, h3⟩) | h1)
        · exact Or.inl h1
        · exact Or.inr ⟨v, by omega, h2, h3⟩
        · cases h1
      · rintro (h1 | ⟨v, h1, h2, h3⟩)
        · exact Or.inl (Or.inl h1)
        · by_cases e : v = i
          · subst e; exact absurd h2 c
          · exact Or.inl (Or.inr ⟨v, by omega, h2, h3⟩)
  rw [Nat.zero_add] at this
  exact this j
section
variable {A : Nat → Int32} {np nh x : Nat}
theorem kn5_ok (hw : WF A np nh) {v : Nat} (hv : v < np) : kn5 A v < 2 ^ np ∧ PA A v 5 = N (kn5 A v) := by
  obtain ⟨m, h1, h2⟩ := (hw.2.1 v hv).2.2.2.2.2
  have h0 := p1024 hw.1.2.1 h1
  unfold kn5
  rw [h2, ix_N (by omega)]
  exact ⟨h1, rfl⟩
theorem stp_lt (hw : WF A np nh) {s : Nat} (hs : s < 2 ^ np) : stp A np s < 2 ^ np := by
  unfold stp
  have := fd_inv (f := stS A s) (fun _ a => a < 2 ^ np) np 0 s hs fun i a _ hi h => by
    unfold stS
    refine Nat.or_lt_two_pow h ?_
    split
    · exact (kn5_ok hw (by omega)).1
    · exact Nat.two_pow_pos np
  exact this
theorem rk_lt (hw : WF A np nh) (hx : x < np) : ∀ k, rk A np x k < 2 ^ np := by
  intro k
  induction k with
  | zero => exact Nat.pow_lt_pow_right (by omega) hx
  | succ k ih => exact stp_lt hw ih
theorem rk_mono {j : Nat} : ∀ d k, (rk A np x k).testBit j = true → (rk A np x (k + d)).testBit j = true := by
  intro d
  induction d with
  | zero => intro k h; exact h
  | succ d ih => intro k h; exact stp_tb.mpr (Or.inl (ih k h))
theorem rk_le {j k m : Nat} (h : (rk A np x k).testBit j = true) (hm : k ≤ m) : (rk A np x m).testBit j = true := by
  obtain ⟨d, rfl⟩ : ∃ d, m = k + d := ⟨m - k, by omega⟩
  exact rk_mono d k h
theorem rk_stop {k : Nat} (h : rk A np x (k + 1) = rk A np x k) : ∀ d, rk A np x (k + d) = rk A np x k := by
  intro d
  induction d with
  | zero => rfl
  | succ d ih =>
    show stp A np (rk A np x (k + d)) = _
    rw [ih]; exact h
theorem rk_10 (hw : WF A np nh) (hx : x < np) {y : Nat} (h : (rk A np x 10).testBit y = true) : (rk A np x 9).testBit y = true := by
  apply Classical.byContradiction
  intro h9
  have hn0 := hw.1.2.1
  have new : ∀ k, k ≤ 9 → ∃ j, (rk A np x (k + 1)).testBit j = true ∧ ¬ (rk A np x k).testBit j = true := fun k hk => by
    apply Classical.byContradiction
    intro hc
    have e : rk A np x (k + 1) = rk A np x k := Nat.eq_of_testBit_eq fun j => by
      cases h1 : (rk A np x k).testBit j with
      | true => exact rk_le h1 (by omega)
      | false =>
        apply Bool.eq_false_iff.mpr
        intro h2
        exact hc ⟨j, h2, by rw [h1]; exact Bool.false_ne_true⟩
    have e9 := rk_stop e (9 - k)
    have e10 := rk_stop e (10 - k)
    rw [show k + (9 - k) = 9 by omega] at e9
    rw [show k + (10 - k) = 10 by omega] at e10
    rw [e9] at h9
    rw [e10] at h
    exact h9 h
  have lt : ∀ k j, (rk A np x k).testBit j = true → j < np := fun k j hj => by
    rcases Nat.lt_or_ge j np with h | h
    · exact h
    · rw [Nat.testBit_lt_two_pow (Nat.lt_of_lt_of_le (rk_lt hw hx k) (Nat.pow_le_pow_right (by omega) h))] at hj; cases hj
  have ex : ∀ i, ∃ j, i ≤ 10 → (rk A np x i).testBit j = true ∧ ∀ k, k < i → ¬ (rk A np x k).testBit j = true := fun i => by
    cases i with
    | zero => exact ⟨x, fun _ => ⟨Nat.testBit_two_pow_self, fun k hk => by omega⟩⟩
    | succ i =>
      by_cases hi : i + 1 ≤ 10
      · obtain ⟨j, h1, h2⟩ := new i (by omega)
        exact ⟨j, fun _ => ⟨h1, fun k hk h3 => h2 (rk_le h3 (by omega))⟩⟩
      · exact ⟨0, fun h => absurd h hi⟩
  obtain ⟨g, hg⟩ := Classical.axiomOfChoice ex
  obtain ⟨i, j, h1, h2, h3⟩ := php g np fun i hi => lt i _ (hg i (by omega)).1
  exact (hg j (by omega)).2 i h1 (by rw [← h3]; exact (hg i (by omega)).1)
/-- how far at the d-th round -/
def fr (A : Nat → Int32) (np x : Nat) : Nat → Nat → Int32
  | 0, j => if j = x then N 0 else M1
  | d + 1, j => if fr A np x d j = M1 ∧ (rk A np x (d + 1)).testBit j = true then N (d + 1) else fr A np x d j
theorem fr_ok : ∀ d j, d ≤ 100 → ((rk A np x d).testBit j = false → fr A np x d j = M1) ∧ ∀ k, k ≤ d → (rk A np x k).testBit j = true → (∀ i, i < k → ¬ (rk A np x i).testBit j = true) → fr A np x d j = N k := by
  intro d
  induction d with
  | zero =>
    intro j _
    rw [fr, rk, Nat.testBit_two_pow]
    constructor
    · intro h
      rw [if_neg (fun e => by rw [e, decide_eq_true rfl] at h; cases h)]
    · intro k hk h _
      have : k = 0 := by omega
      subst this
      rw [rk, Nat.testBit_two_pow] at h
      rw [if_pos (of_decide_eq_true h).symm]
  | succ d ih =>
    intro j hd
    obtain ⟨i1, i2⟩ := ih j (by omega)
    rw [fr]
    constructor
    · intro h
      rw [if_neg (fun e => by rw [h] at e; cases e.2)]
      apply i1
      apply Bool.eq_false_iff.mpr
      intro h1
      rw [rk_le h1 (Nat.le_succ d)] at h; cases h
    · intro k hk h1 h2
      by_cases e : k = d + 1
      · subst e
        rw [if_pos ⟨i1 (Bool.eq_false_iff.mpr (h2 d (by omega))), h1⟩]
      · have := i2 k (by omega) h1 h2
        rw [this, if_neg (fun e => by rw [N_m1 (by omega)] at e; exact e.1)]
theorem fr_first {k j : Nat} (h : (rk A np x k).testBit j = true) : ∃ i, i ≤ k ∧ (rk A np x i).testBit j = true ∧ ∀ l, l < i → ¬ (rk A np x l).testBit j = true := by
  induction k with
  | zero => exact ⟨0, by omega, h, fun l hl => by omega⟩
  | succ k ih =>
    by_cases c : (rk A np x k).testBit j = true
    · obtain ⟨i, h1, h2⟩ := ih c
      exact ⟨i, by omega, h2⟩
    · exact ⟨k + 1, by omega, h, fun l hl h3 => c (rk_le h3 (by omega))⟩
theorem fr_m1 {d j : Nat} (hd : d ≤ 100) : fr A np x d j = M1 ↔ (rk A np x d).testBit j = false := by
  constructor
  · intro h
    apply Bool.eq_false_iff.mpr
    intro h1
    obtain ⟨i, i1, i2, i3⟩ := fr_first h1
    rw [(fr_ok d j hd).2 i i1 i2 i3, N_m1 (by omega)] at h
    exact h
  · exact (fr_ok d j hd).1
theorem fr_new {d j : Nat} (hd : d ≤ 100) : fr A np x d j = N d ↔ ((rk A np x d).testBit j = true ∧ ∀ i, i < d → ¬ (rk A np x i).testBit j = true) := by
  constructor
  · intro h
    have h1 : (rk A np x d).testBit j = true := by
      cases h2 : (rk A np x d).testBit j with
      | true => rfl
      | false => rw [(fr_ok d j hd).1 h2, m1_N (by omega)] at h; exact absurd h id
    obtain ⟨i, i1, i2, i3⟩ := fr_first h1
    rw [(fr_ok d j hd).2 i i1 i2 i3, N_inj (by omega) (by omega)] at h
    subst h
    exact ⟨h1, i3⟩
  · rintro ⟨h1, h2⟩
    exact (fr_ok d j hd).2 d (by omega) h1 h2
/-- a round of the model -/
def hitB (A : Nat → Int32) (np d : Nat) (g : Nat → Int32) (u j : Nat) : Prop := g j = M1 ∧ ∃ v, u ≤ v ∧ v < np ∧ g v = N d ∧ (kn5 A v).testBit j = true
theorem fr_step {d j : Nat} {g : Nat → Int32} (hd : d < 100) (hj : j < np) (hg : ∀ j, j < np → g j = fr A np x d j) : (hitB A np d g 0 j → fr A np x (d + 1) j = N (d + 1)) ∧ (¬ hitB A np d g 0 j → fr A np x (d + 1) j = g j) := by
  rw [fr]
  have key : fr A np x d j = M1 → ((rk A np x (d + 1)).testBit j = true ↔ ∃ v, v < np ∧ fr A np x d v = N d ∧ (kn5 A v).testBit j = true) := fun c => by
    have c1 := (fr_m1 (by omega)).mp c
    rw [rk, stp_tb]
    constructor
    · rintro (h | ⟨v, h1, h2, h3⟩)
      · rw [c1] at h; cases h
      · refine ⟨v, h1, (fr_new (by omega)).mpr ⟨h2, fun i hi h4 => ?_⟩, h3⟩
        have : (rk A np x (i + 1)).testBit j = true := stp_tb.mpr (Or.inr ⟨v, h1, h4, h3⟩)
        rw [rk_le this (by omega)] at c1; cases c1
    · rintro ⟨v, h1, h2, h3⟩
      exact Or.inr ⟨v, h1, ((fr_new (by omega)).mp h2).1, h3⟩
  constructor
  · rintro ⟨h1, v, -, h3, h4, h5⟩
    rw [hg j hj] at h1
    rw [hg v h3] at h4
    rw [if_pos ⟨h1, (key h1).mpr ⟨v, h3, h4, h5⟩⟩]
  · intro h
    rw [if_neg, hg j hj]
    rintro ⟨h1, h2⟩
    obtain ⟨v, h3, h4, h5⟩ := (key h1).mp h2
    exact h ⟨by rw [hg j hj]; exact h1, v, by omega, h3, by rw [hg v h3]; exact h4, h5⟩
/-- the first round from the k-th in which y is there -/
def chR (A : Nat → Int32) (np x y : Nat) : Nat → Nat → Option Nat
  | 0, _ => none
  | m + 1, k => if (rk A np x k).testBit y then some k else chR A np x y m (k + 1)
theorem chR_ok {y : Nat} : ∀ m k, (∀ i, i < k → ¬ (rk A np x i).testBit y = true) → (∀ j, chR A np x y m k = some j → j < k + m ∧ (rk A np x j).testBit y = true ∧ ∀ i, i < j → ¬ (rk A np x i).testBit y = true) ∧ (chR A np x y m k = none → ∀ i, i < k + m → ¬ (rk A np x i).testBit y = true) := by
  intro m
  induction m with
  | zero => intro k h; exact ⟨fun j hj => (by cases hj), fun _ => h⟩
  | succ m ih =>
    intro k h
    rw [chR]
    by_cases c : (rk A np x k).testBit y = true
    · rw [if_pos c]
      exact ⟨fun j hj => (by cases hj; exact ⟨by omega, c, h⟩), fun hj => (by cases hj)⟩
    · rw [if_neg c]
      obtain ⟨h1, h2⟩ := ih (k + 1) fun i hi => by
        by_cases e : i = k
        · rw [e]; exact c
        · exact h i (by omega)
      exact ⟨fun j hj => (by have := h1 j hj; exact ⟨by omega, this.2⟩), fun hj i hi => h2 hj i (by omega)⟩
/-- both sides' answers -/
theorem chain_eq (hw : WF A np nh) (hx : x < np) {y : Nat} (hxy : x ≠ y) : fr A np x 10 y = (match chR A np x y 9 1 with | none => M1 | some k => N k) := by
  obtain ⟨h1, h2⟩ := chR_ok (A := A) (np := np) (x := x) (y := y) 9 1 fun i hi => by
    have : i = 0 := by omega
    subst this
    rw [rk, Nat.testBit_two_pow, decide_eq_false hxy]
    exact Bool.false_ne_true
  cases h : chR A np x y 9 1 with
  | none =>
    have h9 := h2 h 9 (by omega)
    exact (fr_m1 (by omega)).mpr (Bool.eq_false_iff.mpr fun h10 => h9 (rk_10 hw hx h10))
  | some k =>
    obtain ⟨k1, k2, k3⟩ := h1 k h
    exact (fr_ok 10 y (by omega)).2 k (by omega) k2 k3
end
