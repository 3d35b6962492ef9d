/-! THE PLAIN LAW, 28: worlds that are remembered -/
set_option maxRecDepth 100000
theorem FW_at {b : Nat} {σ τ : Mm} (h : ∀ q, b ≤ q → q < b + 12 → mS τ q = mS σ q ∧ mL τ q = mL σ q) (hr : mR τ b = mR σ b) (hf : FW b σ) : FW b τ := by
  have s : ∀ k, k < 12 → mS τ (b + k) = mS σ (b + k) := fun k hk => (h _ (by omega) (by omega)).1
  have l : ∀ k, k < 12 → mL τ (b + k) = mL σ (b + k) := fun k hk => (h _ (by omega) (by omega)).2
  have s0 : mS τ b = mS σ b := s 0 (by omega)
  unfold FW
  rw [s0, s 1 (by omega), s 2 (by omega), s 3 (by omega), s 4 (by omega), s 5 (by omega), s 6 (by omega), s 7 (by omega), s 8 (by omega), s 9 (by omega), s 10 (by omega), s 11 (by omega), l 1 (by omega), l 2 (by omega), l 3 (by omega), l 4 (by omega), l 5 (by omega), l 6 (by omega), l 7 (by omega), l 8 (by omega), l 9 (by omega), l 10 (by omega), l 11 (by omega), hr]
  exact hf
def KX (σ : Mm) (n : Nat) (R : Nat → Nat → Int32) (v : Option Nat) (e : Nat) (f : Nat → Nat) : Prop := AL 40 n e σ ∧ (e = BIG + 122 ∨ 76 ≤ e) ∧ n ≤ 12 ∧ (∀ i, i < n → mR σ e i = some (f i) ∧ 76 ≤ f i ∧ f i + 12 ≤ mN σ ∧ (e < f i ∨ f i + 12 ≤ e) ∧ FW (f i) σ ∧ mR σ (f i) 19 = v ∧ ∃ np nh, WF (R i) np nh ∧ RW (f i) (R i) np σ) ∧ ∀ i j, i < n → j < n → i ≠ j → f i + 12 ≤ f j ∨ f j + 12 ≤ f i
theorem KX_at {σ τ : Mm} {n e : Nat} {R : Nat → Nat → Int32} {v : Option Nat} {f : Nat → Nat} (h40 : mS τ 40 = mS σ 40 ∧ mI τ 40 = mI σ 40 ∧ mR τ 40 = mR σ 40) (he : mS τ e = mS σ e ∧ mL τ e = mL σ e ∧ mR τ e = mR σ e) (hN : mN σ ≤ mN τ) (hf : ∀ i, i < n → ∀ q, f i ≤ q → q < f i + 12 → mS τ q = mS σ q ∧ mL τ q = mL σ q ∧ mI τ q = mI σ q ∧ mR τ q = mR σ q) (h : KX σ n R v e f) : KX τ n R v e f := by
  obtain ⟨⟨a1, a2, a3, a4, a5, ⟨a6, a6'⟩, a7⟩, b, c, d, g⟩ := h
  have m40 : mI τ 40 2 = mI σ 40 2 := by rw [h40.2.1]
  refine ⟨⟨h40.1.trans a1, m40.trans a2, by rw [h40.2.2]; exact a3, a4, ?_, ⟨a6, by omega⟩, fun i hi => ?_⟩, b, c, fun i hi => ?_, g⟩
  · rcases a5 with a5 | ⟨e1, e2, e3, e4, e5⟩
    · exact Or.inl a5
    · exact Or.inr ⟨by omega, he.1.trans e2, by rw [he.2.1]; exact e3, by rw [he.2.1]; exact e4, by rw [he.2.1]; exact e5⟩
  · obtain ⟨q, q1, q2, q3⟩ := a7 i hi
    obtain ⟨d1, d2, d3, d4, d5, d6, d7⟩ := d i hi
    have : q = f i := by rw [d1] at q1; cases q1; rfl
    subst this
    exact ⟨_, by rw [he.2.2]; exact q1, by omega, (obj_e (hf i hi _ (Nat.le_refl _) (by omega)).1).trans q3⟩
  · obtain ⟨d1, d2, d3, d4, d5, d6, np, nh, d7, d8⟩ := d i hi
    have r0 := (hf i hi (f i) (Nat.le_refl _) (by omega)).2.2.2
    exact ⟨by rw [he.2.2]; exact d1, d2, by omega, d4, FW_at (fun q h1 h2 => ⟨(hf i hi q h1 h2).1, (hf i hi q h1 h2).2.1⟩) r0 d5, by rw [r0]; exact d6, np, nh, d7, RW_eq (fun k hk => (hf i hi _ (by omega) (by omega)).2.2.1) d8⟩
theorem obj_2 {σ : Mm} {q : Nat} (h : mS σ q = 2) : obj σ q = true := by unfold obj; rw [h]; decide
/-- what remembering leaves as it was -/
def RF (σ σ' : Mm) : Prop := (mN σ ≤ mN σ' ∧ mN σ' ≤ mN σ + 13) ∧ (∀ q, q < mN σ ∨ mN σ + 13 ≤ q → mS σ' q = mS σ q ∧ mL σ' q = mL σ q) ∧ (∀ q, q < 76 ∨ mN σ + 13 ≤ q → q ≠ 40 → mI σ' q = mI σ q ∧ mR σ' q = mR σ q) ∧ (∀ k, k ≠ 1 → mR σ' 40 k = mR σ 40 k) ∧ (∀ q, 76 ≤ q → q < mN σ → mS σ q ≠ 2 → mS σ q ≠ 100 → mR σ 40 1 ≠ some q → mI σ' q = mI σ q ∧ mR σ' q = mR σ q) ∧ (mR σ' 40 1 = mR σ 40 1 ∨ ∃ e', mR σ' 40 1 = some e' ∧ mN σ ≤ e' ∧ e' < mN σ + 13)
def remR (R : Nat → Nat → Int32) (A : Nat → Int32) (m : Nat) : Nat → Nat → Int32 := fun i => if i < m then R i else A
theorem C_rem_join {σ : Mm} {m np nh e b : Nat} {A : Nat → Int32} {R : Nat → Nat → Int32} {v : Option Nat} {f : Nat → Nat} (hK : KS σ) (h : KX σ m R v e f) (hm : m ≤ 11) (hb : FW b σ) (hb' : 76 ≤ b ∧ b + 12 ≤ mN σ) (hbe : e < b ∨ b + 12 ≤ e) (hbf : ∀ i, i < m → f i + 12 ≤ b ∨ b + 12 ≤ f i) (hW : FW 1 σ) (hr : RW 1 A np σ) (hA : WF A np nh) (hv : mR σ 1 19 = v) (hN : mN σ < BIG) (hN0 : 76 ≤ mN σ) : ∃ σ2 σ' c z e' f', FX2_likens b (some 1) σ = some (some b, σ2) ∧ mS σ2 40 = 17 ∧ FJ3_add 40 (some b) σ2 = some (.inl (N 1, σ'), c, z) ∧ c ≤ 1 ∧ z ≤ 40 ∧ KX σ' (m + 1) (remR R A m) v e' f' ∧ (mN σ ≤ mN σ' ∧ mN σ' ≤ mN σ + 1) ∧ (∀ q, q ≠ mN σ → mS σ' q = mS σ q ∧ mL σ' q = mL σ q) ∧ (∀ q, q ≠ 40 → q ≠ e' → (q < b ∨ b + 12 ≤ q) → mI σ' q = mI σ q ∧ mR σ' q = mR σ q) ∧ (∀ k, k ≠ 1 → mR σ' 40 k = mR σ 40 k) ∧ (e' = e ∨ e' = mN σ) := by
  have hB : BIG = 1000000 := rfl
  have hn0 : np ≤ 10 := hA.1.2.1
  obtain ⟨l1, l2, o1, o2, o3, o4, o5, o6⟩ := W_likens (b := b) (c := 1) (by omega) hn0 hb hW hr
  obtain ⟨σ2, h2⟩ : ∃ σ2, σ2 = lkM b 1 σ := ⟨_, rfl⟩
  rw [← h2] at l1 l2 o1 o2 o3 o4 o5 o6
  have hFb : FW b σ2 := by rw [h2]; exact (W_likens (b := b) (c := 1) (by omega) hn0 hb hW hr).2.2.fw hb
  have oR : ∀ q, q ≠ b → mR σ2 q = mR σ q := fun q hq => funext fun k => o3 q k (Or.inl hq)
  obtain ⟨a1, a2, a3, a4, a5⟩ := h
  have h' : KX σ2 m R v e f := KX_at ⟨by rw [o1], by rw [o6 40 (by omega)], oR 40 (by omega)⟩ ⟨by rw [o1], by rw [o2], oR e (by omega)⟩ (by omega) (fun i hi q q1 q2 => by
    have := hbf i hi
    exact ⟨by rw [o1], by rw [o2], o6 q (by omega), oR q (by omega)⟩) ⟨a1, a2, a3, a4, a5⟩
  have hK2 : KS σ2 := by
    refine ⟨fun p hp => ?_, fun p k hp h3 => ?_⟩
    · rw [o1, o2, o6 p (by omega)]; exact hK.1 p hp
    · rw [oR p (by omega)]; exact hK.2 p k hp h3
  obtain ⟨e', σ', c, z, j1, j2, j3, j4, j5, j6, ⟨j7, j8, j9, j10, j11⟩, j12⟩ := J_add (l := 40) (b := b) hK2 h'.1 (obj_2 hFb.1) (by omega) (by omega) (by omega)
  have ne : e' ≠ b ∧ (e' < b ∨ b + 12 ≤ e') := by omega
  have nf : ∀ i, i < m → e' < f i ∨ f i + 12 ≤ e' := fun i hi => by
    have := (a4 i hi).2.2.1
    have := (a4 i hi).2.2.2.1
    omega
  have e40 : e' ≠ 40 := by
    have := a1.2.2.2.2.2.1.1
    omega
  refine ⟨σ2, σ', c, z, e', fun i => if i < m then f i else b, l1, h'.1.1, j1, j2, by omega, ⟨j4, by omega, by omega, fun i hi => ?_, fun i j hi hj hij => ?_⟩, by omega, fun q hq => ?_, fun q q1 q2 q4 => ?_, fun k hk => ?_, by omega⟩
  · by_cases him : i < m
    · have ev : (if i < m then f i else b) = f i := if_pos him
      have er : remR R A m i = R i := if_pos him
      dsimp only
      rw [ev, er]
      obtain ⟨d1, d2, d3, d4, d5, d6, np', nh', d7, d8⟩ := h'.2.2.2.1 i him
      have fs : ∀ q, f i ≤ q → q < f i + 12 → mS σ' q = mS σ2 q ∧ mL σ' q = mL σ2 q ∧ mI σ' q = mI σ2 q ∧ mR σ' q = mR σ2 q := fun q q1 q2 => by
        have := nf i him
        exact ⟨(j9 q (by omega)).1, (j9 q (by omega)).2, (j10 q (by omega) (by omega)).1, (j10 q (by omega) (by omega)).2⟩
      have f0 := (fs (f i) (Nat.le_refl _) (by omega)).2.2.2
      exact ⟨(j5 i him).trans d1, d2, by omega, nf i him, FW_at (fun q q1 q2 => ⟨(fs q q1 q2).1, (fs q q1 q2).2.1⟩) f0 d5, by rw [f0]; exact d6, np', nh', d7, RW_eq (fun k hk => (fs _ (by omega) (by omega)).2.2.1) d8⟩
    · have : i = m := by omega
      subst this
      have ev : (if i < i then f i else b) = b := if_neg (by omega)
      have er : remR R A i i = A := if_neg (by omega)
      dsimp only
      rw [ev, er]
      have fs : ∀ q, b ≤ q → q < b + 12 → mS σ' q = mS σ2 q ∧ mL σ' q = mL σ2 q ∧ mI σ' q = mI σ2 q ∧ mR σ' q = mR σ2 q := fun q q1 q2 => by
        exact ⟨(j9 q (by omega)).1, (j9 q (by omega)).2, (j10 q (by omega) (by omega)).1, (j10 q (by omega) (by omega)).2⟩
      have f0 := (fs b (Nat.le_refl _) (by omega)).2.2.2
      exact ⟨j6, hb'.1, by omega, ne.2, FW_at (fun q q1 q2 => ⟨(fs q q1 q2).1, (fs q q1 q2).2.1⟩) f0 hFb, by rw [f0]; exact o4.trans hv, np, nh, hA, RW_eq (fun k hk => (fs _ (by omega) (by omega)).2.2.1) l2⟩
  · dsimp only
    by_cases h1 : i < m
    · rw [if_pos h1]
      by_cases h2 : j < m
      · rw [if_pos h2]; exact a5 i j h1 h2 hij
      · rw [if_neg h2]; exact hbf i h1
    · rw [if_neg h1]
      have h2 : j < m := by omega
      rw [if_pos h2]; exact (hbf j h2).symm
  · exact ⟨(j9 q (by omega)).1.trans (by rw [o1]), (j9 q (by omega)).2.trans (by rw [o2])⟩
  · exact ⟨(j10 q q2 q1).1.trans (o6 q q4), (j10 q q2 q1).2.trans (oR q (by omega))⟩
  · exact (j11 k hk).trans (by rw [oR 40 (by omega)])
