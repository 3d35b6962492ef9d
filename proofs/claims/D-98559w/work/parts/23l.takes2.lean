/-! THE PLAIN LAW, 115: a dearer face in a set, the model's side -/
set_option maxRecDepth 100000
section
variable {np nh : Nat} {σ : Mm} {S : Int32} {D : Nat → List Nat} {A W : Nat → Int32}
theorem M_takes_2 (h : FM σ) (hA : mI σ 63 = A) (hnn : A 3 = N np) (hn0 : np ≤ 10) (hD : ∀ p, p < np → WL np A W p (D p)) (hS : ∀ j, j < np → hsB S j = true → ∃ f, f < np ∧ PA A j 2 = N f) {p : Nat} (hp : p < np) (hpS : hsB S p = true) (K1 K2 : Mm → Option (Int32 × Mm)) : ∀ (k j n : Nat), j + k = np → k < n → FX8_hasDearer_2 62 (N p) S n (N j) σ K1 K2 = if tkB A D S p k j then K2 σ else K1 σ := by
  subst hA
  obtain ⟨f, hf, ef⟩ := hS p hp hpS
  intro k
  induction k with
  | zero =>
    intro j n hj hn
    obtain ⟨n, rfl⟩ : ∃ m, n = m + 1 := ⟨n - 1, by omega⟩
    rw [FX8_hasDearer_2, fm_gR1 h, Option.bind_some, l3_, fm_rd63 h (by omega), Option.bind_some, hnn, if_pos (by rw [N_le (by omega) (by omega)]; omega), tkB, if_neg (by decide)]
  | succ k ih =>
    intro j n hj hn
    obtain ⟨n, rfl⟩ : ∃ m, n = m + 1 := ⟨n - 1, by omega⟩
    have ih' := ih (j + 1) n (by omega) (by omega)
    rw [FX8_hasDearer_2, fm_gR1 h, Option.bind_some, l3_, fm_rd63 h (by omega), Option.bind_some, hnn, if_neg (by rw [N_le (by omega) (by omega)]; omega), tkB, l1_, N_add, M_isOf, Option.bind_some]
    dsimp only
    by_cases cs : ((S >>> (N j &&& N 31)) &&& N 1) = N 1
    · have hb : hsB S j = true := decide_eq_true cs
      obtain ⟨g, hg, eg⟩ := hS j (by omega) hb
      have e1 : pfB (mI σ 63) D p j = decide ((D p).idxOf g < (D p).idxOf f) := by unfold pfB; rw [eg, ef, ix_N (by omega), ix_N (by omega)]
      have a1 := WL_at (hD p hp) hf
      have a2 := WL_at (hD p hp) hg
      rw [if_pos cs, if_neg (show ¬ N 1 = 0 by decide), fm_ck h, l2_, M_of h (by omega) (by omega), Option.bind_some]
      dsimp only
      rw [fm_ck h, eg, M_dear h hn0 hp (hD p hp) (WL_lt (hD p hp)) hg, Option.bind_some]
      dsimp only
      rw [fm_ck h, M_of h (by omega) (by omega), Option.bind_some]
      dsimp only
      rw [fm_ck h, ef, M_dear h hn0 hp (hD p hp) (WL_lt (hD p hp)) hf, Option.bind_some, hb, e1, Bool.true_and]
      dsimp only
      by_cases c : (D p).idxOf g < (D p).idxOf f
      · rw [decide_eq_true c, if_neg (by rw [N_le (by omega) (by omega)]; omega), if_pos rfl, if_pos rfl]
      · rw [decide_eq_false c, if_pos (by rw [N_le (by omega) (by omega)]; omega), if_neg Bool.false_ne_true, ih']
    · have hb : hsB S j = false := decide_eq_false cs
      rw [if_neg cs, if_pos (show N 0 = 0 from rfl), hb, Bool.false_and, if_neg Bool.false_ne_true, ih']
theorem M_takes (h : FM σ) (hA : mI σ 63 = A) (hnn : A 3 = N np) (hn0 : np ≤ 10) (hD : ∀ p, p < np → WL np A W p (D p)) (hS : ∀ j, j < np → hsB S j = true → ∃ f, f < np ∧ PA A j 2 = N f) {p : Nat} (hp : p < np) (hpS : hsB S p = true) : FX8_hasDearer 62 (N p) S σ = some (bN (tkB A D S p np 0), σ) := by
  unfold FX8_hasDearer
  rw [l0_, M_takes_2 h hA hnn hn0 hD hS hp hpS _ _ np 0 fu (by omega) (by unfold fu; omega)]
  cases tkB A D S p np 0
  · rw [if_neg Bool.false_ne_true, rZ_0]; rfl
  · rw [if_pos rfl, l1_, rZ_1]; rfl
theorem C_takes (K : Co np nh σ) (hD : ∀ p, p < np → WL np (mI σ 63) (mI σ (1 + 8)) p (D p)) (hS : ∀ j, j < np → hsB S j = true → ∃ f, f < np ∧ PA (mI σ 63) j 2 = N f) {p : Nat} (hp : p < np) (hpS : hsB S p = true) : FX1_takesFrom 0 (N p) S σ = some (bN (tkB (mI σ 63) D S p np 0), σ) := by
  have hn0 := K.n0
  unfold FX1_takesFrom
  rw [l0_, C_takes_2 K hD hS hp hpS _ _ np 0 fu (by omega) (by unfold fu; omega)]
  cases tkB (mI σ 63) D S p np 0
  · rw [if_neg Bool.false_ne_true, rZ_0]; rfl
  · rw [if_pos rfl, l1_, rZ_1]; rfl
end
