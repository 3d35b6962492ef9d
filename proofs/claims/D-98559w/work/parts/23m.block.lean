/-! THE PLAIN LAW, 116: sets that gain among themselves -/
set_option maxRecDepth 100000
theorem all_N : ∀ n, n ≤ 10 → (N 1 <<< (N n &&& N 31)) - N 1 = N (2 ^ n - 1) := by decide +kernel
theorem N_andl (x : Int32) (m : Nat) (hm : m < 4294967296) : ∃ t, t ≤ m ∧ x &&& N m = N t := by
  refine ⟨(x.toBitVec &&& BitVec.ofNat 32 m).toNat, ?_, ?_⟩
  · rw [BitVec.toNat_and, BitVec.toNat_ofNat, Nat.mod_eq_of_lt (by omega)]
    exact Nat.and_le_right
  · apply Int32.toBitVec_inj.mp
    show x.toBitVec &&& BitVec.ofNat 32 m = BitVec.ofNat 32 _
    rw [BitVec.ofNat_toNat, BitVec.setWidth_eq]
theorem all_and (x : Int32) {np : Nat} (hn : np ≤ 10) : ∃ s, s < 2 ^ np ∧ x &&& ((N 1 <<< (N np &&& N 31)) - N 1) = N s := by
  have h1 : 2 ^ np ≤ 2 ^ 10 := Nat.pow_le_pow_right (by omega) hn
  have h2 : 0 < 2 ^ np := Nat.two_pow_pos np
  rw [all_N np hn]
  obtain ⟨t, h3, h4⟩ := N_andl x (2 ^ np - 1) (by omega)
  exact ⟨t, by omega, h4⟩
theorem hsB_N {s j : Nat} (hs : s < 1024) (hj : j < 31) : hsB (N s) j = s.testBit j := by
  unfold hsB
  have e := tb_N (a := s) (k := j) (by omega) hj
  cases h : s.testBit j with
  | true => exact decide_eq_true (e.mpr h)
  | false => exact decide_eq_false fun z => by rw [e.mp z] at h; cases h
def blT (A : Nat → Int32) (D : Nat → List Nat) (np s v : Nat) : Bool := s.testBit v && !tkB A D (N s) v np 0
def blS (A : Nat → Int32) (D : Nat → List Nat) (np : Nat) : Nat → Nat → Nat → Nat
  | 0, _, s => s
  | k + 1, v, s => blS A D np k (v + 1) (if blT A D np s v then s &&& (1023 - 2 ^ v) else s)
theorem blS_le {A : Nat → Int32} {D : Nat → List Nat} {np : Nat} : ∀ k v s, blS A D np k v s ≤ s ∧ ∀ j, (blS A D np k v s).testBit j = true → s.testBit j = true := by
  intro k
  induction k with
  | zero => intro v s; exact ⟨Nat.le_refl _, fun j h => h⟩
  | succ k ih =>
    intro v s
    rw [blS]
    split
    · obtain ⟨h1, h2⟩ := ih (v + 1) (s &&& (1023 - 2 ^ v))
      refine ⟨Nat.le_trans h1 Nat.and_le_left, fun j hj => ?_⟩
      have := h2 j hj
      rw [Nat.testBit_and, Bool.and_eq_true] at this
      exact this.1
    · exact ih (v + 1) s
theorem bl_rm {s v : Nat} (hs : s < 1024) (hv : v < 10) (h : s.testBit v = true) : s &&& (1023 - 2 ^ v) < s := by
  have h1 : s &&& (1023 - 2 ^ v) ≤ s := Nat.and_le_left
  rcases Nat.lt_or_ge (s &&& (1023 - 2 ^ v)) s with h2 | h2
  · exact h2
  · exfalso
    have h3 : s &&& (1023 - 2 ^ v) = s := Nat.le_antisymm h1 h2
    have h4 := tb_rm (s := s) hv hv
    rw [h3, h] at h4
    simp at h4
/-- the set at the end -/
def blR (A : Nat → Int32) (D : Nat → List Nat) (np : Nat) : Nat → Nat → Nat
  | 0, s => s
  | m + 1, s => if blS A D np np 0 s = s then s else blR A D np m (blS A D np np 0 s)
section
variable {np nh : Nat} {σ : Mm} {D : Nat → List Nat} {A W : Nat → Int32}
def hWS (A : Nat → Int32) (np s : Nat) : Prop := ∀ j, j < np → s.testBit j = true → ∃ f, f < np ∧ PA A j 2 = N f
theorem hWS.hs {s : Nat} (h : hWS A np s) (hs : s < 1024) (hn0 : np ≤ 10) : ∀ j, j < np → hsB (N s) j = true → ∃ f, f < np ∧ PA A j 2 = N f := fun j hj hb => h j hj (by rw [← hsB_N hs (by omega)]; exact hb)
theorem hWS.le {s t : Nat} (h : hWS A np s) (ht : ∀ j, t.testBit j = true → s.testBit j = true) : hWS A np t := fun j hj hb => h j hj (ht j hb)
theorem C_block_70 (K : Co np nh σ) (hD : ∀ p, p < np → WL np (mI σ 63) (mI σ (1 + 8)) p (D p)) {y3 : Int32} (Kx : Int32 → Mm → DX (Int32 × Mm)) : ∀ (k v n s : Nat), v + k = np → k < n → s < 1024 → hWS (mI σ 63) np s → FX1_block_70 0 y3 n (N s) (N v) σ Kx = Kx (N (blS (mI σ 63) D np k v s)) σ := by
  have hC := K.c; have hr := K.r; have hn0 := K.n0
  intro k
  induction k with
  | zero =>
    intro v n s hv hn hs hw
    obtain ⟨n, rfl⟩ : ∃ m, n = m + 1 := ⟨n - 1, by omega⟩
    rw [FX1_block_70, fc_gR0_0 hC, Option.bind_some, fw_gI hC.1, Option.bind_some, rw1 hr, K.n, if_pos (by rw [N_le (by omega) (by omega)]; omega), blS]
  | succ k ih =>
    intro v n s hv hn hs hw
    obtain ⟨n, rfl⟩ : ∃ m, n = m + 1 := ⟨n - 1, by omega⟩
    have ih0 := ih (v + 1) n s (by omega) (by omega) hs hw
    have ih1 := ih (v + 1) n (s &&& (1023 - 2 ^ v)) (by omega) (by omega) (Nat.lt_of_le_of_lt Nat.and_le_left hs) (hw.le fun j hj => by rw [Nat.testBit_and, Bool.and_eq_true] at hj; exact hj.1)
    have en : N s &&& ((1 <<< (N v &&& 31)) ^^^ (-1)) = N (s &&& (1023 - 2 ^ v)) := nb_and hs (by omega)
    rw [FX1_block_70, fc_gR0_0 hC, Option.bind_some, fw_gI hC.1, Option.bind_some, rw1 hr, K.n, if_neg (by rw [N_le (by omega) (by omega)]; omega), blS, en, l1_, N_add, C_has, Option.bind_some]
    try dsimp only
    simp (disch := omega) only [tb_N]
    by_cases cs : s.testBit v = true
    · rw [if_pos cs, if_neg (show ¬ N 1 = 0 by decide), fc_ck0 hC, C_takes K hD (hw.hs hs hn0) (p := v) (by omega) (by rw [hsB_N hs (by omega)]; exact cs), Option.bind_some]
      try dsimp only
      have e1 : blT (mI σ 63) D np s v = !tkB (mI σ 63) D (N s) v np 0 := by unfold blT; rw [cs, Bool.true_and]
      rw [e1]
      cases tkB (mI σ 63) D (N s) v np 0
      · rw [if_pos (show bN false = (0 : Int32) from rfl), if_pos (show (!false) = true from rfl), ih1]
      · rw [if_neg (show ¬ bN true = (0 : Int32) by decide), if_neg (show ¬ (!true) = true by decide), ih0]
    · have e1 : blT (mI σ 63) D np s v = false := by unfold blT; rw [Bool.eq_false_iff.mpr cs, Bool.false_and]
      rw [if_neg cs, if_pos (show N 0 = 0 from rfl), e1, if_neg Bool.false_ne_true, ih0]
theorem M_block_101 (h : FM σ) (hA : mI σ 63 = A) (hnn : A 3 = N np) (hn0 : np ≤ 10) (hD : ∀ p, p < np → WL np A W p (D p)) (Kx : Int32 → Int32 → Mm → Option (Int32 × Mm)) : ∀ (k v n s : Nat) (c : Int32), v + k = np → k < n → s < 1024 → hWS A np s → FX8_block_101 62 n (N s) c (N v) σ Kx = Kx (N (blS A D np k v s)) (if blS A D np k v s = s then c else N 1) σ := by
  intro k
  induction k with
  | zero =>
    intro v n s c hv hn hs hw
    obtain ⟨n, rfl⟩ : ∃ m, n = m + 1 := ⟨n - 1, by omega⟩
    rw [FX8_block_101, fm_gR1 h, Option.bind_some, l3_, fm_rd63 h (by omega), Option.bind_some, hA, hnn, if_pos (by rw [N_le (by omega) (by omega)]; omega), blS, if_pos rfl]
  | succ k ih =>
    intro v n s c hv hn hs hw
    obtain ⟨n, rfl⟩ : ∃ m, n = m + 1 := ⟨n - 1, by omega⟩
    have ih0 := ih (v + 1) n s c (by omega) (by omega) hs hw
    have ih1 := ih (v + 1) n (s &&& (1023 - 2 ^ v)) (N 1) (by omega) (by omega) (Nat.lt_of_le_of_lt Nat.and_le_left hs) (hw.le fun j hj => by rw [Nat.testBit_and, Bool.and_eq_true] at hj; exact hj.1)
    have en : N s &&& ((1 <<< (N v &&& 31)) ^^^ (-1)) = N (s &&& (1023 - 2 ^ v)) := nb_and hs (by omega)
    rw [FX8_block_101, fm_gR1 h, Option.bind_some, l3_, fm_rd63 h (by omega), Option.bind_some, hA, hnn, if_neg (by rw [N_le (by omega) (by omega)]; omega), blS, en, l1_, N_add, M_isOf, Option.bind_some]
    try dsimp only
    simp (disch := omega) only [tb_N]
    by_cases cs : s.testBit v = true
    · rw [if_pos cs, if_neg (show ¬ N 1 = 0 by decide), fm_ck h, M_takes h hA hnn hn0 hD (hw.hs hs hn0) (p := v) (by omega) (by rw [hsB_N hs (by omega)]; exact cs), Option.bind_some]
      try dsimp only
      have e1 : blT A D np s v = !tkB A D (N s) v np 0 := by unfold blT; rw [cs, Bool.true_and]
      rw [e1]
      cases tkB A D (N s) v np 0
      · have l1 := (blS_le (A := A) (D := D) (np := np) k (v + 1) (s &&& (1023 - 2 ^ v))).1
        have l2 := bl_rm hs (show v < 10 by omega) cs
        have ne : ¬ blS A D np k (v + 1) (s &&& (1023 - 2 ^ v)) = s := by omega
        rw [if_pos (show bN false = (0 : Int32) from rfl), if_pos (show (!false) = true from rfl), ih1, if_neg ne]
        split <;> rfl
      · rw [if_neg (show ¬ bN true = (0 : Int32) by decide), if_neg (show ¬ (!true) = true by decide), ih0]
    · have e1 : blT A D np s v = false := by unfold blT; rw [Bool.eq_false_iff.mpr cs, Bool.false_and]
      rw [if_neg cs, if_pos (show N 0 = 0 from rfl), e1, if_neg Bool.false_ne_true, ih0]
theorem C_block_60 (K : Co np nh σ) (hD : ∀ p, p < np → WL np (mI σ 63) (mI σ (1 + 8)) p (D p)) (Kx : Int32 → Mm → DX (Int32 × Mm)) : ∀ (m n s : Nat) (y : Int32), s < m → m + 1 < n → s < 1024 → hWS (mI σ 63) np s → y ≠ N s → FX1_block_60 0 n (N s) y σ Kx = Kx (N (blR (mI σ 63) D np m s)) σ := by
  have hn0 := K.n0
  intro m
  induction m with
  | zero => intro n s y hs; omega
  | succ m ih =>
    intro n s y hs hn hs2 hw hy
    obtain ⟨n, rfl⟩ : ∃ m, n = m + 1 := ⟨n - 1, by omega⟩
    obtain ⟨l1, l2⟩ := blS_le (A := mI σ 63) (D := D) (np := np) np 0 s
    rw [FX1_block_60, if_neg (fun e => hy e.symm), l0_, C_block_70 K hD _ np 0 fu s (by omega) (by unfold fu; omega) hs2 hw, blR]
    try dsimp only
    by_cases c : blS (mI σ 63) D np np 0 s = s
    · obtain ⟨n, rfl⟩ : ∃ m, n = m + 1 := ⟨n - 1, by omega⟩
      rw [if_pos c, c, FX1_block_60, if_pos rfl]
    · rw [if_neg c, ih n _ (N s) (by omega) (by omega) (by omega) (hw.le l2) (fun e => c ((N_inj (by omega) (by omega)).mp e).symm)]
theorem M_block_90 (h : FM σ) (hA : mI σ 63 = A) (hnn : A 3 = N np) (hn0 : np ≤ 10) (hD : ∀ p, p < np → WL np A W p (D p)) (Kx : Int32 → Mm → Option (Int32 × Mm)) : ∀ (m n s : Nat), s < m → m + 1 < n → s < 1024 → hWS A np s → FX8_block_90 62 n (N s) (N 1) σ Kx = Kx (N (blR A D np m s)) σ := by
  intro m
  induction m with
  | zero => intro n s hs; omega
  | succ m ih =>
    intro n s hs hn hs2 hw
    obtain ⟨n, rfl⟩ : ∃ m, n = m + 1 := ⟨n - 1, by omega⟩
    obtain ⟨l1, l2⟩ := blS_le (A := A) (D := D) (np := np) np 0 s
    rw [FX8_block_90, if_neg (show ¬ N 1 = 0 by decide), l0_, M_block_101 h hA hnn hn0 hD _ np 0 fu s (N 0) (by omega) (by unfold fu; omega) hs2 hw, blR]
    try dsimp only
    by_cases c : blS A D np np 0 s = s
    · obtain ⟨n, rfl⟩ : ∃ m, n = m + 1 := ⟨n - 1, by omega⟩
      rw [if_pos c, if_pos c, c, FX8_block_90, if_pos (show N 0 = 0 from rfl)]
    · rw [if_neg c, if_neg c, ih n _ (by omega) (by omega) (by omega) (hw.le l2)]
end
