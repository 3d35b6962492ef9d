/-! THE PLAIN LAW, 108: what may be forged; down and up -/
set_option maxRecDepth 100000
def dnO (U : Nat → Bool) : Nat → Option Nat → Option Nat
  | 0, o => o
  | k + 1, none => dnO U k (if U k then some k else none)
  | k + 1, some b => dnO U k (if pc k ≤ pc b then (if U k then some k else some b) else some b)
theorem dnO_ok {U : Nat → Bool} {T : Nat} : ∀ k (o : Option Nat), k ≤ T → (match o with | none => ∀ m, k ≤ m → m < T → U m = false | some b => U b = true ∧ b < T ∧ ∀ m, k ≤ m → m < T → U m = true → lx b m) → (match dnO U k o with | none => ∀ m, m < T → U m = false | some b => U b = true ∧ b < T ∧ ∀ m, m < T → U m = true → lx b m) := by
  intro k
  induction k with
  | zero =>
    intro o _ h
    rw [dnO]
    cases o with
    | none => exact fun m hm => h m (Nat.zero_le _) hm
    | some b => exact ⟨h.1, h.2.1, fun m hm => h.2.2 m (Nat.zero_le _) hm⟩
  | succ k ih =>
    intro o hk h
    cases o with
    | none =>
      rw [dnO]
      by_cases cu : U k = true
      · rw [if_pos cu]
        refine ih (some k) (by omega) ⟨cu, by omega, fun m m1 m2 m3 => ?_⟩
        by_cases e : m = k
        · rw [e]; exact Or.inr ⟨rfl, Nat.le_refl _⟩
        · have := h m (by omega) m2
          rw [this] at m3; cases m3
      · rw [if_neg cu]
        refine ih none (by omega) fun m m1 m2 => ?_
        by_cases e : m = k
        · rw [e]
          cases h : U k with
          | false => rfl
          | true => exact absurd h cu
        · exact h m (by omega) m2
    | some b =>
      obtain ⟨h1, h2, h3⟩ := h
      rw [dnO]
      by_cases c : pc k ≤ pc b
      · rw [if_pos c]
        by_cases cu : U k = true
        · rw [if_pos cu]
          refine ih (some k) (by omega) ⟨cu, by omega, fun m m1 m2 m3 => ?_⟩
          by_cases e : m = k
          · rw [e]; exact Or.inr ⟨rfl, Nat.le_refl _⟩
          · have := h3 m (by omega) m2 m3
            unfold lx at this ⊢
            omega
        · rw [if_neg cu]
          refine ih (some b) (by omega) ⟨h1, h2, fun m m1 m2 m3 => ?_⟩
          by_cases e : m = k
          · rw [e] at m3; exact absurd m3 cu
          · exact h3 m (by omega) m2 m3
      · rw [if_neg c]
        refine ih (some b) (by omega) ⟨h1, h2, fun m m1 m2 m3 => ?_⟩
        by_cases e : m = k
        · rw [e]; unfold lx; omega
        · exact h3 m (by omega) m2 m3
theorem dnO_up {U : Nat → Bool} {T : Nat} : upM U T 0 none = dnO U T none := by
  have d := dnO_ok (U := U) (T := T) T none (Nat.le_refl _) (fun m m1 m2 => by omega)
  have u := upM_ok (U := U) (T := T) T 0 none (by omega) (fun m hm => by omega)
  cases e1 : upM U T 0 none with
  | none =>
    rw [e1] at u
    cases e2 : dnO U T none with
    | none => rfl
    | some b =>
      rw [e2] at d
      have := u b d.2.1
      rw [d.1] at this; cases this
  | some a =>
    rw [e1] at u
    cases e2 : dnO U T none with
    | none =>
      rw [e2] at d
      have := d a u.2.1
      rw [u.1] at this; cases this
    | some b =>
      rw [e2] at d
      have a1 := u.2.2 b d.2.1 d.1
      have a2 := d.2.2 a u.2.1 u.1
      unfold lx at a1 a2
      rw [show a = b by omega]
/-- the faces that hang -/
def aHang (A : Nat → Int32) (nh : Nat) : Int32 := fd (fun h a => a ||| (if HA A h = M1 then N 0 else N 1 <<< (HA A h &&& N 31))) 0 nh (N 0)
theorem aHang_N {A : Nat → Int32} {np nh : Nat} (hA : WF A np nh) : ∃ s, s < 1024 ∧ aHang A nh = N s := by
  have hn0 := hA.1.2.1
  unfold aHang
  refine fd_inv (fun _ a => ∃ s, s < 1024 ∧ a = N s) nh 0 (N 0) ⟨0, by omega, rfl⟩ fun j a _ hj ⟨s, hs, e⟩ => ?_
  rcases hA.2.2.1 j (by omega) with h | ⟨f, hf, h⟩
  · exact ⟨s, hs, by rw [if_pos h, e, N_or, Nat.or_zero]⟩
  · exact ⟨s ||| 2 ^ f, or_lt hs (by omega), by rw [if_neg (by rw [h, N_m1 (by omega)]; exact id), h, e, bt_or (by omega)]⟩
def aMkO (A : Nat → Int32) (np : Nat) (y : Int32) : Int32 := fd (fun p a => a ||| (if ((y >>> (N p &&& N 31)) &&& N 1) = N 1 then PA A p 0 else N 0)) 0 np (N 0)
section
variable {np nh : Nat} {σ : Mm} {y : Int32}
theorem C_mkO_4 (K : Co np nh σ) (Kx : Int32 → Mm → Option (Int32 × Mm)) : ∀ (k i n : Nat) (a : Int32), i + k = np → k < n → FX1_marksOf_4 0 y n a (N i) σ Kx = Kx (fd (fun p a => a ||| (if ((y >>> (N p &&& N 31)) &&& N 1) = N 1 then PA (mI σ 63) p 0 else N 0)) i k a) σ := by
  have hC := K.c; have hr := K.r; have hn0 := K.n0
  intro k
  induction k with
  | zero =>
    intro i n a hi hn
    obtain ⟨n, rfl⟩ : ∃ m, n = m + 1 := ⟨n - 1, by omega⟩
    rw [FX1_marksOf_4, fc_gR0_0 hC, Option.bind_some, fw_gI hC.1, Option.bind_some, rw1 hr, K.n, if_pos (by rw [N_le (by omega) (by omega)]; omega)]
    rfl
  | succ k ih =>
    intro i n a hi hn
    obtain ⟨n, rfl⟩ : ∃ m, n = m + 1 := ⟨n - 1, by omega⟩
    rw [FX1_marksOf_4, fc_gR0_0 hC, Option.bind_some, fw_gI hC.1, Option.bind_some, rw1 hr, K.n, if_neg (by rw [N_le (by omega) (by omega)]; omega), C_has, Option.bind_some, l1_, N_add, fd]
    unfold jn
    dsimp only
    by_cases c : ((y >>> (N i &&& N 31)) &&& N 1) = N 1
    · rw [if_pos c, if_neg (show ¬ N 1 = 0 by decide)]
      simp (disch := omega) only [Option.bind_some, fc_gR0_0 hC, fw_gR8 hC.1, fw_rd1 hC.1, rwF hr]
      rw [ih (i + 1) n _ (by omega) (by omega), if_pos c]
    · rw [if_neg c, if_pos (show N 0 = 0 from rfl), l0_, ih (i + 1) n _ (by omega) (by omega), if_neg c]
theorem M_mkO_4 (h : FM σ) (hnn : mI σ 63 3 = N np) (hn0 : np ≤ 10) (Kx : Int32 → Mm → Option (Int32 × Mm)) : ∀ (k i n : Nat) (a : Int32), i + k = np → k < n → FX8_marksOf_4 62 y n a (N i) σ Kx = Kx (fd (fun p a => a ||| (if ((y >>> (N p &&& N 31)) &&& N 1) = N 1 then PA (mI σ 63) p 0 else N 0)) i k a) σ := by
  intro k
  induction k with
  | zero =>
    intro i n a hi hn
    obtain ⟨n, rfl⟩ : ∃ m, n = m + 1 := ⟨n - 1, by omega⟩
    rw [FX8_marksOf_4, fm_gR1 h, Option.bind_some, l3_, fm_rd63 h (by omega), Option.bind_some, hnn, if_pos (by rw [N_le (by omega) (by omega)]; omega)]
    rfl
  | succ k ih =>
    intro i n a hi hn
    obtain ⟨n, rfl⟩ : ∃ m, n = m + 1 := ⟨n - 1, by omega⟩
    rw [FX8_marksOf_4, fm_gR1 h, Option.bind_some, l3_, fm_rd63 h (by omega), Option.bind_some, hnn, if_neg (by rw [N_le (by omega) (by omega)]; omega), M_isOf, Option.bind_some, l1_, N_add, fd]
    unfold jn
    dsimp only
    by_cases c : ((y >>> (N i &&& N 31)) &&& N 1) = N 1
    · rw [if_pos c, if_neg (show ¬ N 1 = 0 by decide), fm_ck h, l0_, M_of h (by omega) (by omega), Option.bind_some]
      dsimp only
      rw [ih (i + 1) n _ (by omega) (by omega), if_pos c]
    · rw [if_neg c, if_pos (show N 0 = 0 from rfl), l0_, ih (i + 1) n _ (by omega) (by omega), if_neg c]
theorem C_mkO (K : Co np nh σ) : FX1_marksOf 0 y σ = some (aMkO (mI σ 63) np y, σ) := by
  have hn0 := K.n0
  unfold FX1_marksOf
  rw [l0_, C_mkO_4 K _ np 0 fu _ (by omega) (by unfold fu; omega)]
  rfl
theorem M_mkO (h : FM σ) (hnn : mI σ 63 3 = N np) (hn0 : np ≤ 10) : FX8_marksOf 62 y σ = some (aMkO (mI σ 63) np y, σ) := by
  unfold FX8_marksOf
  rw [l0_, M_mkO_4 h hnn hn0 _ np 0 fu _ (by omega) (by unfold fu; omega)]
  rfl
end
