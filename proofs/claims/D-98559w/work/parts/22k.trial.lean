/-! THE PLAIN LAW, 90: what is tried, and put back -/
set_option maxRecDepth 100000
theorem M_puts_2 (kx : Mm → Option Mm) (k : Nat) : ∀ (i n : Nat) (σ : Mm), FM σ → i + k = 584 → k < n → FX8_putsAside_2 62 n (N i) σ kx = kx (wA σ 65 (fl (mI σ 65) (mI σ 63) i 584)) := by
  induction k with
  | zero =>
    intro i n σ h hi hk
    obtain ⟨n, rfl⟩ : ∃ n', n = n' + 1 := ⟨n - 1, by omega⟩
    have : i = 584 := by omega
    subst this
    rw [FX8_putsAside_2, fl_0, wA_self]
    exact if_pos (by decide)
  | succ k ih =>
    intro i n σ h hi hk
    obtain ⟨n, rfl⟩ : ∃ n', n = n' + 1 := ⟨n - 1, by omega⟩
    rw [FX8_putsAside_2, l584_, if_neg (by rw [N_le (by omega) (by omega)]; omega), fm_gR4 h, Option.bind_some, fm_gR1 h, Option.bind_some, fm_rd63 h (by omega), Option.bind_some, fm_wr65 h (by omega), Option.bind_some, l1_, N_add, ih (i + 1) n (wA σ 65 (up1 (mI σ 65) i (mI σ 63 i))) h (by omega) (by omega), mI_wA, if_pos rfl, wA_wA]
    have e63 : mI (wA σ 65 (up1 (mI σ 65) i (mI σ 63 i))) 63 = mI σ 63 := rfl
    rw [e63, fl_s (f := mI σ 65) (g := mI σ 63) (a := i) (b := 584) (by omega)]
theorem M_back_2 (kx : Mm → Option Mm) (k : Nat) : ∀ (i n : Nat) (σ : Mm), FM σ → i + k = 584 → k < n → FX8_comesBack_2 62 n (N i) σ kx = kx (wA σ 63 (fl (mI σ 63) (mI σ 65) i 584)) := by
  induction k with
  | zero =>
    intro i n σ h hi hk
    obtain ⟨n, rfl⟩ : ∃ n', n = n' + 1 := ⟨n - 1, by omega⟩
    have : i = 584 := by omega
    subst this
    rw [FX8_comesBack_2, fl_0, wA_self]
    exact if_pos (by decide)
  | succ k ih =>
    intro i n σ h hi hk
    obtain ⟨n, rfl⟩ : ∃ n', n = n' + 1 := ⟨n - 1, by omega⟩
    rw [FX8_comesBack_2, l584_, if_neg (by rw [N_le (by omega) (by omega)]; omega), fm_gR1 h, Option.bind_some, fm_gR4 h, Option.bind_some, fm_rd65 h (by omega), Option.bind_some, fm_wr63 h (by omega), Option.bind_some, l1_, N_add, ih (i + 1) n (wA σ 63 (up1 (mI σ 63) i (mI σ 65 i))) h (by omega) (by omega), mI_wA, if_pos rfl, wA_wA]
    have e65 : mI (wA σ 63 (up1 (mI σ 63) i (mI σ 65 i))) 65 = mI σ 65 := rfl
    rw [e65, fl_s (f := mI σ 63) (g := mI σ 65) (a := i) (b := 584) (by omega)]
theorem M_puts {σ : Mm} (h : FM σ) : FX8_putsAside 62 σ = some (wA σ 65 (fl (mI σ 65) (mI σ 63) 0 584)) := by
  unfold FX8_putsAside
  rw [l0_, M_puts_2 _ 584 0 fu σ h (by omega) (by unfold fu; omega)]
theorem M_back {σ : Mm} (h : FM σ) : FX8_comesBack 62 σ = some (wA σ 63 (fl (mI σ 63) (mI σ 65) 0 584)) := by
  unfold FX8_comesBack
  rw [l0_, M_back_2 _ 584 0 fu σ h (by omega) (by unfold fu; omega)]
theorem aWrong_N (A : Nat → Int32) {np : Nat} (hn : np ≤ 10) : ∃ s, s < 2 ^ np ∧ aWrong A np = N s := by
  unfold aWrong
  refine fd_inv (fun _ a => ∃ s, s < 2 ^ np ∧ a = N s) np 0 (N 0) ⟨0, Nat.two_pow_pos np, rfl⟩ fun j a _ hj ⟨s, hs, e⟩ => ?_
  by_cases h : PA A j 2 = M1
  · exact ⟨s, hs, by rw [if_pos h, e, N_or, Nat.or_zero]⟩
  · by_cases h2 : PA A j 2 = N j
    · exact ⟨s, hs, by rw [if_neg h, if_pos h2, e, N_or, Nat.or_zero]⟩
    · exact ⟨s ||| 2 ^ j, Nat.or_lt_two_pow hs (Nat.pow_lt_pow_right (by omega) (by omega)), by rw [if_neg h, if_neg h2, e, bt_N j (by omega), N_or]⟩
section
variable {np nh n L : Nat} {σ τ : Mm} {A Z : Nat → Int32} {v : Option Nat} {ls : List (Bool × Option Cn)}
theorem tries_2_ok (ls : List (Bool × Option Cn)) {m : Nat} (hm : m ≤ 1000) : ∀ (k : Nat) (A : Nat → Int32), WF A np nh → k ≤ m → ∃ B t, WF B np nh ∧ R0 A B ∧ t ≤ k * 10 ∧ (∀ v σ n (K : Mm → Option (Int32 × Mm)), k < n → CS 50 np nh v ls A σ → ∃ τ, FX1_tries_2 0 (N m) n (N (m - k)) σ K = K τ ∧ CS 50 np nh v ls B τ ∧ OH 50 σ τ) ∧ ∀ v σ n c K, k < n → c + k * 10 < 1000000 → HS np nh v ls A σ → ∃ τ, FX8_goes_4 62 (N m) n (N c) (N (m - k)) σ K = K (N (c + t)) τ ∧ HS np nh v ls B τ ∧ OM σ τ := by
  intro k
  induction k with
  | zero =>
    intro A hA _
    refine ⟨A, 0, hA, fun _ _ => rfl, Nat.le_refl _, fun v σ n K hn h => ⟨σ, ?_, h, OH.rf⟩, fun v σ n c K hn hc h => ⟨σ, ?_, h, OM.rf⟩⟩
    · obtain ⟨n, rfl⟩ : ∃ z, n = z + 1 := ⟨n - 1, by omega⟩
      rw [FX1_tries_2, if_pos (by rw [N_le (by omega) (by omega)]; omega)]
    · obtain ⟨n, rfl⟩ : ∃ z, n = z + 1 := ⟨n - 1, by omega⟩
      rw [FX8_goes_4, if_pos (by rw [N_le (by omega) (by omega)]; omega)]
      rfl
  | succ k ih =>
    intro A hA hk
    have hn0 := hA.1.2.1
    obtain ⟨B1, c1, b1, b2, b3, b4, b5⟩ := hour_ok ls hA
    obtain ⟨B, t, d1, d2, d3, d4, d5⟩ := ih B1 b1 (by omega)
    refine ⟨B, c1 + t, d1, b2.tr d2, by omega, fun v σ n K hn h => ?_, fun v σ n c K hn hc h => ?_⟩
    · obtain ⟨n, rfl⟩ : ∃ z, n = z + 1 := ⟨n - 1, by omega⟩
      obtain ⟨τ, t1, t2, t3⟩ := b4 50 v σ h
      obtain ⟨υ, u1, u2, u3⟩ := d4 v τ n K (by omega) t2
      obtain ⟨-, hC, -⟩ := id h
      refine ⟨υ, ?_, u2, t3.tr u3⟩
      rw [FX1_tries_2, if_neg (by rw [N_le (by omega) (by omega)]; omega), fc_gR0_10 hC, Option.bind_some, fc_ck0 hC, t1, Option.bind_some]
      dsimp only
      rw [l1_, N_add, show m - (k + 1) + 1 = m - k by omega, u1]
    · obtain ⟨n, rfl⟩ : ∃ z, n = z + 1 := ⟨n - 1, by omega⟩
      obtain ⟨τ, t1, t2, t3⟩ := b5 v σ h
      obtain ⟨υ, u1, u2, u3⟩ := d5 v τ n (c + c1) K (by omega) (by omega) t2
      obtain ⟨hM, -⟩ := id h
      refine ⟨υ, ?_, u2, t3.tr u3⟩
      rw [FX8_goes_4, if_neg (by rw [N_le (by omega) (by omega)]; omega), fm_ck hM, t1, Option.bind_some]
      dsimp only
      rw [N_add, l1_, N_add, show m - (k + 1) + 1 = m - k by omega, u1, Nat.add_assoc]
theorem tries_ok (ls : List (Bool × Option Cn)) {m : Nat} (hm : m ≤ 1000) (hA : WF A np nh) : ∃ w, w ≤ 10 ∧ (∀ v σ, CS 50 np nh v ls A σ → ∃ τ, FX1_tries 0 (N m) σ = some (N w, τ) ∧ OH 50 σ τ) ∧ ∀ v σ Z, HS np nh v ls A σ → WF Z np nh → R0 A Z → (∀ j, j < 584 → mI σ 65 j = Z j) → ∃ τ, FX8_tries 62 (N m) σ = some (N w, τ) ∧ HS np nh v ls Z τ ∧ OM σ τ := by
  have hn0 := hA.1.2.1
  obtain ⟨B, t, b1, b2, b3, b4, b5⟩ := tries_2_ok ls hm m A hA (Nat.le_refl m)
  obtain ⟨s, hs0, es⟩ := aWrong_N B hn0
  have hs : s < 1024 := Nat.lt_of_lt_of_le hs0 (Nat.pow_le_pow_right (n := 2) (by omega) hn0)
  refine ⟨pc s, pc_10 s hs, fun v σ h => ?_, fun v σ Z h hZ hZ0 h65 => ?_⟩
  · obtain ⟨τ, t1, t2, t3⟩ := b4 v σ fu (fun (σ : Mm) => (gR 1 10 (some 0) σ).bind fun x26 => (FX1_wrongOf x26 σ).bind fun (x27, σ28) => (FJ16_bitCount x27 σ28).bind fun (x29, σ30) => some (x29, σ30)) (by unfold fu; omega) h
    obtain ⟨-, hC, hK, hW, hr, -⟩ := id t2
    refine ⟨τ, ?_, t3⟩
    unfold FX1_tries
    rw [Nat.sub_self] at t1
    rw [l0_, t1, fc_gR0_10 hC, Option.bind_some, C_wrongOf hW hr b1.1.1 hn0, Option.bind_some, es]
    dsimp only
    rw [J_bitCount (by omega), Option.bind_some]
  · obtain ⟨τ, t1, t2, t3⟩ := b5 v σ fu 0 (fun (x25 : Int32) (σ : Mm) => some (x25, σ)) (by unfold fu; omega) (by omega) h
    obtain ⟨hM, hK, e, -⟩ := id t2
    rw [Nat.sub_self] at t1
    have eZ : fl (mI τ 63) (mI τ 65) 0 584 = Z := by
      funext j
      unfold fl
      rw [e, t3.2.2.2.2.1 65 (by omega) (by omega) (by omega)]
      by_cases hj : 0 ≤ j ∧ j < 584
      · rw [if_pos hj]; exact h65 j hj.2
      · rw [if_neg hj, b2 j (by omega)]; exact (hZ0 j (by omega)).symm
    have hB := b1.1.1
    refine ⟨_, ?_, t2.go hZ (fun j hj => (hZ0 j hj).trans (b2 j hj).symm), t3.tr OM.w63⟩
    unfold FX8_tries FX8_goes
    rw [fm_ck h.1, l0_, t1, Option.bind_some]
    dsimp only
    rw [fm_ck hM, M_wrongs hM (by rw [e]; exact b1.1.1) hn0 (by rw [e]; exact b1.1.2.2.1) b1.1.2.2.2.2.1, Option.bind_some, e, es]
    dsimp only
    rw [M_bits (by omega), Option.bind_some]
    dsimp only
    rw [fm_ck hM, M_back hM, Option.bind_some, eZ]
end
