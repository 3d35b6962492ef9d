/-! THE PLAIN LAW, 42: holders as a set -/
set_option maxRecDepth 100000
theorem aHolders_N (A : Nat → Int32) {np : Nat} (hn : np ≤ 10) : ∃ s, s < 2 ^ np ∧ aHolders A np = N s := by
  unfold aHolders
  refine fd_inv (fun _ a => ∃ s, s < 2 ^ np ∧ a = N s) np 0 (N 0) ⟨0, Nat.two_pow_pos np, rfl⟩ fun j a _ hj ⟨s, hs, e⟩ => ?_
  by_cases h : PA A j 3 = M1
  · exact ⟨s, hs, by rw [if_pos h, e, N_or, Nat.or_zero]⟩
  · exact ⟨s ||| 2 ^ j, Nat.or_lt_two_pow hs (Nat.pow_lt_pow_right (by omega) (by omega)), by rw [if_neg h, e, bt_N j (by omega), N_or]⟩
