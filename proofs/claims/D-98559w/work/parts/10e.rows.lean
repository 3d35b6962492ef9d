/-! THE PLAIN LAW, 5: the row of numbers; a World that tells of it -/
set_option maxRecDepth 100000
def PA (A : Nat → Int32) (p w : Nat) : Int32 := A (12 + 6 * p + w)
def HA (A : Nat → Int32) (h : Nat) : Int32 := A (272 + h)
def bt (p : Nat) : Int32 := N 1 <<< (N p &&& N 31)
theorem pa_ (σ : Mm) (p w : Nat) : mI σ 63 (12 + 6 * p + w) = PA (mI σ 63) p w := rfl
theorem ha_ (σ : Mm) (h : Nat) : mI σ 63 (272 + h) = HA (mI σ 63) h := rfl
def okF (n : Nat) (x : Int32) : Prop := x = M1 ∨ ∃ a, a < n ∧ x = N a
/-- the wishes: what is told (a list of each), then the others by numbers -/
def rest (n : Nat) (l : List Nat) : List Nat := (List.range n).filter fun f => !l.contains f
def WS (np : Nat) (A W T : Nat → Int32) : Prop := ∃ l : Nat → List Nat, ∀ p, p < np → T p = N (l p).length ∧ (l p).Nodup ∧ (∀ f ∈ l p, f < np) ∧ (∀ k, k < np → W (10 * p + k) = N ((l p ++ rest np (l p)).getD k 0)) ∧ ∀ k, k < 10 → A (72 + 10 * p + k) = N ((l p ++ rest 10 (l p)).getD k 0)
/-- what is true of a row -/
def WF (A : Nat → Int32) (np nh : Nat) : Prop :=
  (A 3 = N np ∧ np ≤ 10 ∧ A 4 = N nh ∧ 1 ≤ nh ∧ nh ≤ 12 ∧ ∃ g, g ≤ 60 ∧ A 8 = N g) ∧
  (∀ p, p < np → okF np (PA A p 2) ∧ okF nh (PA A p 3) ∧ okF np (PA A p 4) ∧ (∃ m, m < 256 ∧ PA A p 0 = N m) ∧ (∃ m, m < 256 ∧ PA A p 1 = N m) ∧ ∃ m, m < 2 ^ np ∧ PA A p 5 = N m) ∧
  (∀ h, h < nh → okF np (HA A h)) ∧ (∀ h, nh ≤ h → h < 12 → HA A h = M1) ∧
  (∀ p q, p < np → q < np → PA A p 2 = PA A q 2 → PA A p 2 ≠ M1 → p = q) ∧ (∀ p h, p < np → h < nh → PA A p 2 = HA A h → PA A p 2 = M1) ∧ ∀ g h, g < nh → h < nh → HA A g = HA A h → HA A g ≠ M1 → g = h
/-- a World at b tells of the row A -/
def RW (b : Nat) (A : Nat → Int32) (np : Nat) (σ : Mm) : Prop :=
  (mI σ b 0 = A 0 ∧ mI σ b 1 = A 3 ∧ mI σ b 2 = A 4 ∧ mI σ b 3 = A 5 ∧ mI σ b 4 = A 6 ∧ mI σ b 5 = A 7 ∧ mI σ b 6 = A 8 ∧ mI σ b 7 = A 9) ∧
  (∀ p, p < 10 → mI σ (b + 1) p = PA A p 0 ∧ mI σ (b + 2) p = PA A p 1 ∧ mI σ (b + 3) p = PA A p 2 ∧ mI σ (b + 4) p = PA A p 3 ∧ mI σ (b + 5) p = PA A p 4 ∧ mI σ (b + 6) p = PA A p 5) ∧
  (∀ j, j < 100 → mI σ (b + 7) j = A (172 + j)) ∧ (∀ h, h < 12 → mI σ (b + 10) h = HA A h) ∧ (∀ j, j < 300 → mI σ (b + 11) j = A (284 + j)) ∧ WS np A (mI σ (b + 8)) (mI σ (b + 9))
/-! what is asked of a row -/
def aWearer (A : Nat → Int32) (np : Nat) (y : Int32) : Option Nat := sr (fun p => PA A p 2 = y) 0 np
def aHookOf (A : Nat → Int32) (nh : Nat) (y : Int32) : Option Nat := sr (fun h => HA A h = y) 0 nh
def aTicket (A : Nat → Int32) (np : Nat) (y : Int32) : Option Nat := sr (fun p => PA A p 3 = y) 0 np
def aHung (A : Nat → Int32) (nh : Nat) : Int32 := fd (fun h a => a + (if HA A h = M1 then N 0 else N 1)) 0 nh (N 0)
def aHolders (A : Nat → Int32) (np : Nat) : Int32 := fd (fun p a => a ||| (if PA A p 3 = M1 then N 0 else bt p)) 0 np (N 0)
theorem bt_ (p : Nat) : N 1 <<< (N p &&& N 31) = bt p := rfl
theorem sr_congr {P Q : Nat → Prop} [∀ i, Decidable (P i)] [∀ i, Decidable (Q i)] (k : Nat) : ∀ i, (∀ j, i ≤ j → j < i + k → (P j ↔ Q j)) → sr P i k = sr Q i k := by
  induction k with
  | zero => intro i _; rfl
  | succ k ih =>
    intro i h
    rw [sr, sr]
    have h0 := h i (Nat.le_refl _) (by omega)
    by_cases hp : P i
    · rw [if_pos hp, if_pos (h0.mp hp)]
    · rw [if_neg hp, if_neg (fun z => hp (h0.mpr z)), ih _ fun j h1 h2 => h j (by omega) (by omega)]
theorem sr_none {P : Nat → Prop} [∀ i, Decidable (P i)] (k : Nat) : ∀ i, sr P i k = none ↔ ∀ j, i ≤ j → j < i + k → ¬ P j := by
  induction k with
  | zero => intro i; exact ⟨fun _ j h1 h2 => by omega, fun _ => rfl⟩
  | succ k ih =>
    intro i
    rw [sr]
    by_cases hp : P i
    · rw [if_pos hp]
      exact ⟨fun h => (by cases h), fun h => absurd hp (h i (Nat.le_refl _) (by omega))⟩
    · rw [if_neg hp, ih]
      constructor
      · intro h j h1 h2
        by_cases e : j = i
        · rw [e]; exact hp
        · exact h j (by omega) (by omega)
      · intro h j h1 h2
        exact h j (by omega) (by omega)
theorem sr_some {P : Nat → Prop} [∀ i, Decidable (P i)] (k : Nat) : ∀ i r, sr P i k = some r → P r ∧ i ≤ r ∧ r < i + k ∧ ∀ j, i ≤ j → j < r → ¬ P j := by
  induction k with
  | zero => intro i r h; cases h
  | succ k ih =>
    intro i r h
    rw [sr] at h
    by_cases hp : P i
    · rw [if_pos hp] at h
      cases h
      exact ⟨hp, Nat.le_refl _, by omega, fun j h1 h2 => by omega⟩
    · rw [if_neg hp] at h
      obtain ⟨a, b, c, d⟩ := ih _ _ h
      refine ⟨a, by omega, by omega, fun j h1 h2 => ?_⟩
      by_cases e : j = i
      · rw [e]; exact hp
      · exact d j (by omega) h2
