/-! THE PLAIN LAW, 114: a dearer face in a set -/
set_option maxRecDepth 100000
def hsB (S : Int32) (j : Nat) : Bool := decide (((S >>> (N j &&& N 31)) &&& N 1) = N 1)
def pfB (A : Nat → Int32) (D : Nat → List Nat) (p q : Nat) : Bool := decide ((D p).idxOf (ix (PA A q 2)) < (D p).idxOf (ix (PA A p 2)))
def tkB (A : Nat → Int32) (D : Nat → List Nat) (S : Int32) (p : Nat) : Nat → Nat → Bool
  | 0, _ => false
  | k + 1, j => if hsB S j && pfB A D p j then true else tkB A D S p k (j + 1)
section
variable {np nh : Nat} {σ : Mm} {S : Int32} {D : Nat → List Nat}
theorem C_takes_2 (K : Co np nh σ) (hD : ∀ p, p < np → WL np (mI σ 63) (mI σ (1 + 8)) p (D p)) (hS : ∀ j, j < np → hsB S j = true → ∃ f, f < np ∧ PA (mI σ 63) j 2 = N f) {p : Nat} (hp : p < np) (hpS : hsB S p = true) (K1 K2 : Mm → Option (Int32 × Mm)) : ∀ (k j n : Nat), j + k = np → k < n → FX1_takesFrom_2 0 (N p) S n (N j) σ K1 K2 = if tkB (mI σ 63) D S p k j then K2 σ else K1 σ := by
  have hC := K.c; have hr := K.r; have hn0 := K.n0
  obtain ⟨f, hf, ef⟩ := hS p hp hpS
  intro k
  induction k with
  | zero =>
    intro j n hj hn
    obtain ⟨n, rfl⟩ : ∃ m, n = m + 1 := ⟨n - 1, by omega⟩
    rw [FX1_takesFrom_2, fc_gR0_0 hC, Option.bind_some, fw_gI hC.1, Option.bind_some, rw1 hr, K.n, if_pos (by rw [N_le (by omega) (by omega)]; omega), tkB, if_neg (by decide)]
  | succ k ih =>
    intro j n hj hn
    obtain ⟨n, rfl⟩ : ∃ m, n = m + 1 := ⟨n - 1, by omega⟩
    have ih' := ih (j + 1) n (by omega) (by omega)
    rw [FX1_takesFrom_2, fc_gR0_0 hC, Option.bind_some, fw_gI hC.1, Option.bind_some, rw1 hr, K.n, if_neg (by rw [N_le (by omega) (by omega)]; omega), tkB, l1_, N_add]
    by_cases cj : j = p
    · subst cj
      have e0 : pfB (mI σ 63) D j j = false := by unfold pfB; rw [decide_eq_false (by omega)]
      rw [if_pos rfl, e0, Bool.and_false, if_neg Bool.false_ne_true, ih']
    · rw [if_neg (fun z => cj ((N_inj (by omega) (by omega)).mp z)), C_has, Option.bind_some]
      dsimp only
      by_cases cs : ((S >>> (N j &&& N 31)) &&& N 1) = N 1
      · have hb : hsB S j = true := decide_eq_true cs
        obtain ⟨g, hg, eg⟩ := hS j (by omega) hb
        have e1 : pfB (mI σ 63) D p j = decide ((D p).idxOf g < (D p).idxOf f) := by unfold pfB; rw [eg, ef, ix_N (by omega), ix_N (by omega)]
        rw [if_pos cs, if_neg (show ¬ N 1 = 0 by decide), fc_ck0 hC, C_rather K hp (by omega) (hD p hp) hf hg ef eg, Option.bind_some, hb, e1, Bool.true_and]
        dsimp only
        by_cases c : (D p).idxOf g < (D p).idxOf f
        · rw [decide_eq_true c, if_neg (show ¬ bN true = (0 : Int32) by decide), if_pos rfl, if_pos rfl]
        · rw [decide_eq_false c, if_pos (show bN false = (0 : Int32) from rfl), if_neg Bool.false_ne_true, ih']
      · have hb : hsB S j = false := decide_eq_false cs
        rw [if_neg cs, if_pos (show N 0 = 0 from rfl), hb, Bool.false_and, if_neg Bool.false_ne_true, ih']
end
