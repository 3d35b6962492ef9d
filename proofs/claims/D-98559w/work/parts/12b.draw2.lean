/-! THE PLAIN LAW, 39: what is drawn -/
set_option maxRecDepth 100000
theorem dr_N (s : Int32) : ∃ d, d < 32768 ∧ dr s = N d := by
  unfold dr
  generalize ush s (N 16) = x
  refine ⟨x.toBitVec.toNat &&& 32767, Nat.lt_succ_of_le Nat.and_le_right, ?_⟩
  apply Int32.toBitVec_inj.mp
  rw [Int32.toBitVec_and]
  apply BitVec.eq_of_toNat_eq
  rw [BitVec.toNat_and]
  have e1 : (N 32767).toBitVec.toNat = 32767 := by decide
  have e2 : (N (x.toBitVec.toNat &&& 32767)).toBitVec.toNat = (x.toBitVec.toNat &&& 32767) := by
    show (BitVec.ofNat 32 (x.toBitVec.toNat &&& 32767)).toNat = _
    rw [BitVec.toNat_ofNat]
    exact Nat.mod_eq_of_lt (Nat.lt_of_le_of_lt Nat.and_le_right (by decide))
  rw [e1, e2]
theorem rm_N {d m : Nat} (hd : d < 32768) (hm : 0 < m) (hm2 : m < 32768) : rm_ (N d) (N m) = some (N (d % m)) := by
  unfold rm_
  have e : N d / N m = N (d / m) := (Int32.ofNat_div (by omega) (by omega)).symm
  have h1 : d / m * m ≤ d := Nat.div_mul_le_self d m
  have h2 : d - d / m * m = d % m := by
    have := Nat.div_add_mod d m
    rw [Nat.mul_comm] at this
    omega
  rw [l0_, if_neg (by rw [N_inj (by omega) (by omega)]; omega), e, N_mul, N_sub h1, h2]
theorem dr_rm (s : Int32) {m : Nat} (hm : 0 < m) (hm2 : m < 32768) : ∃ v, v < m ∧ rm_ (dr s) (N m) = some (N v) := by
  obtain ⟨d, hd, e⟩ := dr_N s
  exact ⟨d % m, Nat.mod_lt d hm, by rw [e]; exact rm_N hd hm hm2⟩
