/-! THE PLAIN LAW, 109: what may be forged, asked of both -/
set_option maxRecDepth 100000
section
variable {np nh : Nat} {σ : Mm} {y z : Int32}
theorem C_hang_15 (K : Co np nh σ) (Kx : Int32 → Mm → DX (Int32 × Mm)) : ∀ (k i n : Nat) (a : Int32), i + k = nh → k < n → FX1_forged_15 0 y n a (N i) σ Kx = Kx (fd (fun h a => a ||| (if HA (mI σ 63) h = M1 then N 0 else N 1 <<< (HA (mI σ 63) h &&& N 31))) i k a) σ := by
  have hC := K.c; have hr := K.r; have hk0 := K.k0
  intro k
  induction k with
  | zero =>
    intro i n a hi hn
    obtain ⟨n, rfl⟩ : ∃ m, n = m + 1 := ⟨n - 1, by omega⟩
    rw [FX1_forged_15, fc_gR0_0 hC, Option.bind_some, fw_gI hC.1, Option.bind_some, rw2 hr, K.k, if_pos (by rw [N_le (by omega) (by omega)]; omega)]
    rfl
  | succ k ih =>
    intro i n a hi hn
    obtain ⟨n, rfl⟩ : ∃ m, n = m + 1 := ⟨n - 1, by omega⟩
    have rd := fw_rd10 (b := 1) (a := i) hC.1 (by omega)
    rw [rwH hr (by omega)] at rd
    rw [FX1_forged_15, fc_gR0_0 hC, Option.bind_some, fw_gI hC.1, Option.bind_some, rw2 hr, K.k, if_neg (by rw [N_le (by omega) (by omega)]; omega), fd]
    unfold jn
    dsimp only
    simp only [Option.bind_some, fw_gR17 hC.1, rd, m1_]
    by_cases c : HA (mI σ 63) i = M1
    · rw [if_pos c, l1_, N_add, l0_, ih (i + 1) n _ (by omega) (by omega), if_pos c]
    · rw [if_neg c, l1_, N_add, ih (i + 1) n _ (by omega) (by omega), if_neg c]
      rfl
theorem M_hang_33 (h : FM σ) (hk : mI σ 63 4 = N nh) (hk0 : nh ≤ 12) (Kx : Int32 → Mm → Option (Int32 × Mm)) : ∀ (k i n : Nat) (a : Int32), i + k = nh → k < n → FX8_forged_33 62 y n a (N i) σ Kx = Kx (fd (fun h a => a ||| (if HA (mI σ 63) h = M1 then N 0 else N 1 <<< (HA (mI σ 63) h &&& N 31))) i k a) σ := by
  intro k
  induction k with
  | zero =>
    intro i n a hi hn
    obtain ⟨n, rfl⟩ : ∃ m, n = m + 1 := ⟨n - 1, by omega⟩
    rw [FX8_forged_33, fm_gR1 h, Option.bind_some, l4_, fm_rd63 h (by omega), Option.bind_some, hk, if_pos (by rw [N_le (by omega) (by omega)]; omega)]
    rfl
  | succ k ih =>
    intro i n a hi hn
    obtain ⟨n, rfl⟩ : ∃ m, n = m + 1 := ⟨n - 1, by omega⟩
    have rd : aI 100 (some 63) (272 + N i) σ = some (HA (mI σ 63) i) := by
      rw [l272_, N_add, fm_rd63 h (by omega)]; rfl
    rw [FX8_forged_33, fm_gR1 h, Option.bind_some, l4_, fm_rd63 h (by omega), Option.bind_some, hk, if_neg (by rw [N_le (by omega) (by omega)]; omega), fd]
    unfold jn
    dsimp only
    simp only [Option.bind_some, rd, m1_]
    by_cases c : HA (mI σ 63) i = M1
    · rw [if_pos c, l1_, N_add, l0_, ih (i + 1) n _ (by omega) (by omega), if_pos c]
    · rw [if_neg c, l1_, N_add, ih (i + 1) n _ (by omega) (by omega), if_neg c]
      rfl
def fgU (A : Nat → Int32) (np : Nat) (y z : Int32) (k : Nat) : Bool := decide (N k &&& (z ^^^ M1) = N 0) && decide (y &&& (aMkO A np (N k) ^^^ M1) = N 0)
theorem C_fg_68 (K : Co np nh σ) (Kx : Int32 → Mm → DX (Int32 × Mm)) : ∀ (k n : Nat) (o : Option Nat), k ≤ 1024 → (∀ b, o = some b → b < 1024) → k < n → FX1_forged_68 0 y z n (oN o) (vk k) σ Kx = Kx (oN (dnO (fgU (mI σ 63) np y z) k o)) σ := by
  have hC := K.c
  intro k
  induction k with
  | zero =>
    intro n o _ _ hn
    obtain ⟨n, rfl⟩ : ∃ m, n = m + 1 := ⟨n - 1, by omega⟩
    rw [FX1_forged_68, if_pos (show vk 0 < 0 by decide)]
    cases o <;> rfl
  | succ k ih =>
    intro n o hk ho hn
    obtain ⟨n, rfl⟩ : ∃ m, n = m + 1 := ⟨n - 1, by omega⟩
    have e : vk (k + 1) = N k := rfl
    have s1 : N k = oN (some k) := rfl
    have p1 := pc_10 k (by omega)
    have ih1 := ih n (some k) (by omega) (fun b hb => by cases hb; omega) (by omega)
    have ih0 := ih n o (by omega) ho (by omega)
    -- the test
    have test : ∀ o', o' = o → ck 1 0 σ ((FX1_marksOf 0 (N k) σ).bind fun w => if (y &&& (w.1 ^^^ M1)) = N 0 then FX1_forged_68 0 y z n (N k) (vk k) w.2 Kx else FX1_forged_68 0 y z n (oN o) (vk k) w.2 Kx) = if y &&& (aMkO (mI σ 63) np (N k) ^^^ M1) = N 0 then Kx (oN (dnO (fgU (mI σ 63) np y z) k (some k))) σ else Kx (oN (dnO (fgU (mI σ 63) np y z) k o)) σ := fun o' _ => by
      rw [fc_ck0 hC, C_mkO K, Option.bind_some]
      dsimp only
      by_cases c : y &&& (aMkO (mI σ 63) np (N k) ^^^ M1) = N 0
      · rw [if_pos c, if_pos c, s1, ih1]
      · rw [if_neg c, if_neg c, ih0]
    rw [FX1_forged_68, e, if_neg (by rw [l0_, N_lt (by omega) (by omega)]; omega), m1_, vk_dec, l0_]
    unfold jn
    dsimp only
    by_cases cs : N k &&& (z ^^^ M1) = N 0
    · rw [if_pos cs]
      have u1 : fgU (mI σ 63) np y z k = decide (y &&& (aMkO (mI σ 63) np (N k) ^^^ M1) = N 0) := by unfold fgU; rw [decide_eq_true cs, Bool.true_and]
      cases o with
      | none =>
        rw [if_pos (show oN none = M1 from rfl), test none rfl, dnO, u1]
        by_cases c : y &&& (aMkO (mI σ 63) np (N k) ^^^ M1) = N 0
        · rw [if_pos c, if_pos (decide_eq_true c)]
        · rw [if_neg c, if_neg (by rw [decide_eq_false c]; decide)]
      | some b =>
        have hb := ho b rfl
        have p2 := pc_10 b hb
        rw [if_neg (show ¬ oN (some b) = M1 by show ¬ N b = M1; rw [N_m1 (by omega)]; exact id), J_bitCount (by omega), Option.bind_some, dnO, u1]
        dsimp only
        rw [show FJ16_bitCount (oN (some b)) σ = some (N (pc b), σ) from J_bitCount (by omega), Option.bind_some]
        dsimp only
        by_cases c2 : pc k ≤ pc b
        · rw [if_pos (show N (pc k) ≤ N (pc b) by rw [N_le (by omega) (by omega)]; exact c2), if_pos c2, test (some b) rfl]
          by_cases c : y &&& (aMkO (mI σ 63) np (N k) ^^^ M1) = N 0
          · rw [if_pos c, if_pos (decide_eq_true c)]
          · rw [if_neg c, if_neg (by rw [decide_eq_false c]; decide)]
        · rw [if_neg (show ¬ N (pc k) ≤ N (pc b) by rw [N_le (by omega) (by omega)]; exact c2), if_neg c2, ih0]
    · have u0 : fgU (mI σ 63) np y z k = false := by unfold fgU; rw [decide_eq_false cs, Bool.false_and]
      rw [if_neg cs, ih0]
      cases o with
      | none => rw [dnO, u0, if_neg (by decide)]
      | some b => rw [dnO, u0]; split <;> rfl
end
