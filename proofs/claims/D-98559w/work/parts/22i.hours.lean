/-! THE PLAIN LAW, 88: an hour, and hours -/
set_option maxRecDepth 100000
section
variable {b np nh : Nat} {A B : Nat → Int32} {σ τ : Mm} {v : Option Nat} {ls : List (Bool × Option Cn)}
theorem hour_eq : FX8_hour 62 σ = FX8_hour_4 62 fu 0 0 σ (fun x56 σ => mixM (fun σ => robM (fun σ => (gR 8 1 (some 62) σ).bind fun x73 => (aI 100 x73 5 σ).bind fun x74 => (sI x73 5 (x74 + 1) σ).bind fun σ75 => some (x56, σ75)) σ) σ) := rfl
theorem hour_ok (ls : List (Bool × Option Cn)) (hA : WF A np nh) : ∃ B c, WF B np nh ∧ R0 A B ∧ c ≤ np ∧ (∀ b v σ, CS b np nh v ls A σ → ∃ τ, FX1_anHour 0 (some b) σ = some (N c, τ) ∧ CS b np nh v ls B τ ∧ OH b σ τ) ∧ ∀ v σ, HS np nh v ls A σ → ∃ τ, FX8_hour 62 σ = some (N c, τ) ∧ HS np nh v ls B τ ∧ OM σ τ := by
  have hn0 := hA.1.2.1
  obtain ⟨a1, a2⟩ := aAll_ok (ls := ls) np 0 A (by omega) hA
  obtain ⟨B1, b1, b2, b3, b4⟩ := mixing_ok a1
  obtain ⟨B2, c1, c2, c3, c4⟩ := thieving_ok b1
  refine ⟨up1 B2 5 (B2 5 + N 1), aNum nh ls np 0 A, WF_oth c1 (by omega), ((a2.tr b2).tr c2).tr fun j hj => if_neg (by omega), aNum_le np 0 A, fun b v σ h => ?_, fun v σ h => ?_⟩
  · obtain ⟨τ, t1, t2, t3⟩ := C_hour_4 np 0 fu 0 A σ (fun (x28 : Int32) (σ : Mm) => (FX1_mixing (some b) σ).bind fun σ29 => (FX1_thieving (some b) σ29).bind fun σ30 => (gI 2 3 (some b) σ30).bind fun x31 => (pI 2 3 (some b) (x31 + 1) σ30).bind fun σ32 => some (x28, σ32)) (by omega) (by unfold fu; omega) (by omega) h
    obtain ⟨υ, u1, u2, u3⟩ := b3 b v ls τ t2
    obtain ⟨φ, f1, f2, f3⟩ := c3 b v ls υ u2
    obtain ⟨hb, hC, hK, hW, hr, -, hv, hl⟩ := id f2
    have ow : OW b φ (wA φ b (up1 (mI φ b) 3 (B2 5 + N 1))) := OW.rf.w (by omega)
    refine ⟨_, ?_, f2.go ow.oh (RW_fld (Or.inl ⟨rfl, rfl⟩) hn0 hr) (WF_oth c1 (by omega)) (fun j hj => if_neg (by omega)), ((t3.tr u3).tr f3).tr ow.oh⟩
    unfold FX1_anHour
    rw [l0_, t1, u1, Option.bind_some, f1, Option.bind_some, fw_gI hW, Option.bind_some, rw3 hr, l1_, fw_pI hW, Option.bind_some, Nat.zero_add]
  · obtain ⟨τ, t1, t2, t3⟩ := M_hour_4 np 0 fu 0 A σ (fun x56 σ => mixM (fun σ => robM (fun σ => (gR 8 1 (some 62) σ).bind fun x73 => (aI 100 x73 5 σ).bind fun x74 => (sI x73 5 (x74 + 1) σ).bind fun σ75 => some (x56, σ75)) σ) σ) (by omega) (by unfold fu; omega) (by omega) h
    obtain ⟨υ, u1, u2, u3⟩ := b4 v ls τ (fun σ => robM (fun σ => (gR 8 1 (some 62) σ).bind fun x73 => (aI 100 x73 5 σ).bind fun x74 => (sI x73 5 (x74 + 1) σ).bind fun σ75 => some (N (0 + aNum nh ls np 0 A), σ75)) σ) t2
    obtain ⟨φ, f1, f2, f3⟩ := c4 v ls υ (fun σ => (gR 8 1 (some 62) σ).bind fun x73 => (aI 100 x73 5 σ).bind fun x74 => (sI x73 5 (x74 + 1) σ).bind fun σ75 => some (N (0 + aNum nh ls np 0 A), σ75)) u2
    obtain ⟨hM, hK, e, -, hl, hb⟩ := id f2
    refine ⟨_, ?_, f2.go (B := up1 B2 5 (B2 5 + N 1)) (WF_oth c1 (by omega)) (fun j hj => if_neg (by omega)), ((t3.tr u3).tr f3).tr OM.w63⟩
    rw [hour_eq, l0_, t1, u1, f1, fm_gR1 hM, Option.bind_some, l5_, fm_rd63 hM (by omega), Option.bind_some, l1_, fm_wr63 hM (by omega), Option.bind_some, e, Nat.zero_add]
theorem hours_ok (ls : List (Bool × Option Cn)) {m : Nat} (hm : m ≤ 1000) : ∀ (k : Nat) (A : Nat → Int32), WF A np nh → k ≤ m → ∃ B t, WF B np nh ∧ R0 A B ∧ t ≤ k * 10 ∧ (∀ v σ n c (K : Int32 → Mm → DX (Int32 × Mm)), k < n → c + k * 10 < 1000000 → CS 1 np nh v ls A σ → ∃ τ, FX1_hours_18 0 (N m) n (N c) (N (m - k)) σ K = K (N (c + t)) τ ∧ CS 1 np nh v ls B τ ∧ OH 1 σ τ) ∧ ∀ v σ n c K, k < n → c + k * 10 < 1000000 → HS np nh v ls A σ → ∃ τ, FX8_goes_4 62 (N m) n (N c) (N (m - k)) σ K = K (N (c + t)) τ ∧ HS np nh v ls B τ ∧ OM σ τ := by
  intro k
  induction k with
  | zero =>
    intro A hA _
    refine ⟨A, 0, hA, fun _ _ => rfl, Nat.le_refl _, fun v σ n c K hn hc h => ⟨σ, ?_, h, OH.rf⟩, fun v σ n c K hn hc h => ⟨σ, ?_, h, OM.rf⟩⟩
    · obtain ⟨n, rfl⟩ : ∃ z, n = z + 1 := ⟨n - 1, by omega⟩
      rw [FX1_hours_18, if_pos (by rw [N_le (by omega) (by omega)]; omega)]
      rfl
    · obtain ⟨n, rfl⟩ : ∃ z, n = z + 1 := ⟨n - 1, by omega⟩
      rw [FX8_goes_4, if_pos (by rw [N_le (by omega) (by omega)]; omega)]
      rfl
  | succ k ih =>
    intro A hA hk
    have hn0 := hA.1.2.1
    obtain ⟨B1, c1, b1, b2, b3, b4, b5⟩ := hour_ok ls hA
    obtain ⟨B, t, d1, d2, d3, d4, d5⟩ := ih B1 b1 (by omega)
    refine ⟨B, c1 + t, d1, b2.tr d2, by omega, fun v σ n c K hn hc h => ?_, fun v σ n c K hn hc h => ?_⟩
    · obtain ⟨n, rfl⟩ : ∃ z, n = z + 1 := ⟨n - 1, by omega⟩
      obtain ⟨τ, t1, t2, t3⟩ := b4 1 v σ h
      obtain ⟨υ, u1, u2, u3⟩ := d4 v τ n (c + c1) K (by omega) (by omega) t2
      obtain ⟨-, hC, -⟩ := id h
      refine ⟨υ, ?_, u2, t3.tr u3⟩
      rw [FX1_hours_18, if_neg (by rw [N_le (by omega) (by omega)]; omega), fc_gR0_0 hC, Option.bind_some, fc_ck0 hC, t1, Option.bind_some]
      dsimp only
      rw [N_add, l1_, N_add, show m - (k + 1) + 1 = m - k by omega, u1, Nat.add_assoc]
    · obtain ⟨n, rfl⟩ : ∃ z, n = z + 1 := ⟨n - 1, by omega⟩
      obtain ⟨τ, t1, t2, t3⟩ := b5 v σ h
      obtain ⟨υ, u1, u2, u3⟩ := d5 v τ n (c + c1) K (by omega) (by omega) t2
      obtain ⟨hM, -⟩ := id h
      refine ⟨υ, ?_, u2, t3.tr u3⟩
      rw [FX8_goes_4, if_neg (by rw [N_le (by omega) (by omega)]; omega), fm_ck hM, t1, Option.bind_some]
      dsimp only
      rw [N_add, l1_, N_add, show m - (k + 1) + 1 = m - k by omega, u1, Nat.add_assoc]
end
