/-! THE PLAIN LAW, 100: the tape is fed, both loops -/
set_option maxRecDepth 100000
def tF (x : Nat → Int32) (i : Nat) : Nat := ix (ush (x (i / 4)) (N (24 - 8 * (i % 4))) &&& N 255)
def gB (c : Nat → Int32) (L m : Nat) (g : Nat → Int32) : Nat → Int32 := fun k => if L ≤ k ∧ k < L + m then c (k - L) else g k
theorem gB_0 {c g : Nat → Int32} {L : Nat} : gB c L 0 g = g := by
  funext k; unfold gB; rw [if_neg (by omega)]
theorem gB_s {c g : Nat → Int32} {L m : Nat} : up1 (gB c L m g) (L + m) (c m) = gB c L (m + 1) g := by
  funext k
  rw [up1_app]
  unfold gB
  by_cases h : k = L + m
  · rw [if_pos h, if_pos (by omega), show k - L = m by omega]
  · rw [if_neg h]
    by_cases h2 : L ≤ k ∧ k < L + m
    · rw [if_pos h2, if_pos (by omega)]
    · rw [if_neg h2, if_neg (by omega)]
theorem tF_ok (x : Nat → Int32) (i : Nat) : tF x i < 256 ∧ (x (i / 4) >>> (N (24 - 8 * (i % 4)) &&& N 31)).toInt8.toInt32 = cb (tF x i) ∧ ush (x (i / 4)) (N (24 - 8 * (i % 4))) &&& N 255 = N (tF x i) := by
  have hs : N (24 - 8 * (i % 4)) = N 0 ∨ N (24 - 8 * (i % 4)) = N 8 ∨ N (24 - 8 * (i % 4)) = N 16 ∨ N (24 - 8 * (i % 4)) = N 24 := by
    have : i % 4 = 0 ∨ i % 4 = 1 ∨ i % 4 = 2 ∨ i % 4 = 3 := by omega
    rcases this with e | e | e | e <;> rw [e]
    · exact Or.inr (Or.inr (Or.inr rfl))
    · exact Or.inr (Or.inr (Or.inl rfl))
    · exact Or.inr (Or.inl rfl)
    · exact Or.inl rfl
  obtain ⟨t, ht, e1, e2⟩ := byte_of (x (i / 4)) _ hs
  have e : tF x i = t := by unfold tF; rw [e2, ix_N (by omega)]
  rw [e]
  exact ⟨ht, e1, e2⟩
def tn (σ : Mm) (p : Nat) (g : Nat → Int32) : Mm := wA (wA σ 38 g) 37 (up1 (mI σ 37) 1 (N p))
def mt (σ : Mm) (p : Nat) (g : Nat → Int32) : Mm := wA (wA σ 67 g) 62 (up1 (mI σ 62) 8 (N p))
section
variable {σ : Mm} {x : Nat → Int32} {L : Nat} {g : Nat → Int32}
theorem C_byte {w : Int32} {n s t p : Nat} {y2 : Option Nat} {y3 y4 : Int32} {K : Mm → Option (Int32 × Mm)} (hC : FC σ) (hp : p < 400) (hs : s ≤ 24) (ht : t < 256) (e : (w >>> (N s &&& N 31)).toInt8.toInt32 = cb t) : FX3_add_39 37 y2 y3 y4 w (n + 1) (N s) (tn σ p g) K = FX3_add_39 37 y2 y3 y4 w n (N s + (-8)) (tn σ (p + 1) (up1 g p (cb t))) K := by
  have c1 : FC (tn σ p g) := FC_w (FC_w hC)
  have e1 : mI (tn σ p g) 37 1 = N p := rfl
  have e38 : mI (tn σ p g) 38 = g := rfl
  have s38 := sB_cb (σ := tn σ p g) (q := 38) (a := p) (t := t) (n := 400) hC.2.2.2.2.2.2.2.2.2.2.2.1.1 hC.2.2.2.2.2.2.2.2.2.2.2.1.2 hp (by omega) ht
  have e' : (w >>> (N s &&& 31)).toInt8.toInt32 = cb t := e
  rw [FX3_add_39, if_neg (by rw [l0_, N_lt (by omega) (by omega)]; omega), fc_gR37_0 c1, Option.bind_some, fc_gI37 c1, Option.bind_some, e1, e', s38, Option.bind_some, fc_gI37 (FC_w c1), Option.bind_some]
  have e2 : mI (wA (tn σ p g) 38 (up1 (mI (tn σ p g) 38) p (cb t))) 37 1 = N p := rfl
  rw [e2, fc_pI37 (FC_w c1), Option.bind_some, l1_, N_add, e38]
  congr 1
  unfold tn
  rw [wA_cm (by omega : (37 : Nat) ≠ 38), wA_wA, wA_wA]
  have : up1 (mI (wA (wA σ 38 (up1 g p (cb t))) 37 (up1 (mI σ 37) 1 (N p))) 37) 1 (N (p + 1)) = up1 (mI σ 37) 1 (N (p + 1)) := by
    show up1 (up1 (mI σ 37) 1 (N p)) 1 (N (p + 1)) = _
    exact up1_up
  rw [this]
theorem C_word4 {j n : Nat} {y2 : Option Nat} {y3 y4 : Int32} {K : Mm → Option (Int32 × Mm)} (hC : FC σ) (hL : L + 20 ≤ 400) (hj : j < 5) : FX3_add_39 37 y2 y3 y4 (x j) (n + 5) (N 24) (tn σ (L + 4 * j) (gB (fun i => cb (tF x i)) L (4 * j) g)) K = K (tn σ (L + 4 * (j + 1)) (gB (fun i => cb (tF x i)) L (4 * (j + 1)) g)) := by
  have t0 := tF_ok x (4 * j)
  have t1 := tF_ok x (4 * j + 1)
  have t2 := tF_ok x (4 * j + 2)
  have t3 := tF_ok x (4 * j + 3)
  rw [show 4 * j / 4 = j by omega, show 24 - 8 * (4 * j % 4) = 24 by omega] at t0
  rw [show (4 * j + 1) / 4 = j by omega, show 24 - 8 * ((4 * j + 1) % 4) = 16 by omega] at t1
  rw [show (4 * j + 2) / 4 = j by omega, show 24 - 8 * ((4 * j + 2) % 4) = 8 by omega] at t2
  rw [show (4 * j + 3) / 4 = j by omega, show 24 - 8 * ((4 * j + 3) % 4) = 0 by omega] at t3
  have z1 : N 24 + (-8) = N 16 := by decide
  have z2 : N 16 + (-8) = N 8 := by decide
  have z3 : N 8 + (-8) = N 0 := by decide
  have z4 : N 0 + (-8) < 0 := by decide
  rw [C_byte hC (by omega) (by omega) t0.1 t0.2.1, z1, gB_s (c := fun i => cb (tF x i)), show L + 4 * j + 1 = L + (4 * j + 1) by omega, C_byte hC (by omega) (by omega) t1.1 t1.2.1, z2, gB_s (c := fun i => cb (tF x i)), show L + (4 * j + 1) + 1 = L + (4 * j + 2) by omega, C_byte hC (by omega) (by omega) t2.1 t2.2.1, z3, gB_s (c := fun i => cb (tF x i)), show L + (4 * j + 1 + 1) + 1 = L + (4 * j + 3) by omega, C_byte hC (by omega) (by omega) t3.1 t3.2.1, gB_s (c := fun i => cb (tF x i)), show L + (4 * j + 1 + 1 + 1) + 1 = L + 4 * (j + 1) by omega, show 4 * j + 1 + 1 + 1 + 1 = 4 * (j + 1) by omega, FX3_add_39, if_pos z4]
theorem C_add_23 {q : Nat} (hC : FC σ) (hL : L + 20 ≤ 400) (hq : q ≠ 37 ∧ q ≠ 38) (hs : mS σ q = 100) (hl : mL σ q = 5) (hx : ∀ j, j < 5 → mI σ q j = x j) (K : Mm → Option (Int32 × Mm)) : ∀ (k j n : Nat), j + k = 5 → k < n → FX3_add_23 37 (some q) (N 5) n (N j) (tn σ (L + 4 * j) (gB (fun i => cb (tF x i)) L (4 * j) g)) K = K (tn σ (L + 20) (gB (fun i => cb (tF x i)) L 20 g)) := by
  intro k
  induction k with
  | zero =>
    intro j n hj hn
    obtain ⟨n, rfl⟩ : ∃ m, n = m + 1 := ⟨n - 1, by omega⟩
    have : j = 5 := by omega
    subst this
    rw [FX3_add_23, if_pos (by rw [N_le (by omega) (by omega)]; omega)]
  | succ k ih =>
    intro j n hj hn
    obtain ⟨n, rfl⟩ : ∃ m, n = m + 1 := ⟨n - 1, by omega⟩
    have eI : aI 100 (some q) (N j) (tn σ (L + 4 * j) (gB (fun i => cb (tF x i)) L (4 * j) g)) = some (x j) := by
      rw [aI_N (σ := tn σ (L + 4 * j) (gB (fun i => cb (tF x i)) L (4 * j) g)) (n := 5) hs hl (by omega) (by decide)]
      have : mI (tn σ (L + 4 * j) (gB (fun i => cb (tF x i)) L (4 * j) g)) q = mI σ q := by
        unfold tn
        rw [mI_wA, if_neg hq.1, mI_wA, if_neg hq.2]
      rw [this, hx j (by omega)]
    have ef : fu = 99995 + 5 := rfl
    rw [FX3_add_23, if_neg (by rw [N_le (by omega) (by omega)]; omega), eI, Option.bind_some, l24_, ef, C_word4 hC hL (by omega), l1_, N_add, ih (j + 1) n (by omega) (by omega)]
theorem M_feed_23 (hM : FM σ) (hL : L + 20 ≤ 400) (K : Mm → Option (Int32 × Mm)) : ∀ (k i n : Nat), i + k = 20 → k < n → FX8_feed_23 62 (x 0) (x 1) (x 2) (x 3) (x 4) n (N i) (mt σ (L + i) (gB (fun i => N (tF x i)) L i g)) K = K (mt σ (L + 20) (gB (fun i => N (tF x i)) L 20 g)) := by
  intro k
  induction k with
  | zero =>
    intro i n hi hn
    obtain ⟨n, rfl⟩ : ∃ m, n = m + 1 := ⟨n - 1, by omega⟩
    have : i = 20 := by omega
    subst this
    rw [FX8_feed_23, l20_, if_pos (by rw [N_le (by omega) (by omega)]; omega)]
  | succ k ih =>
    intro i n hi hn
    obtain ⟨n, rfl⟩ : ∃ m, n = m + 1 := ⟨n - 1, by omega⟩
    have c1 : FM (mt σ (L + i) (gB (fun i => N (tF x i)) L i g)) := FM_w (FM_w hM)
    obtain ⟨t1, -, t3⟩ := tF_ok x i
    have e8 : mI (mt σ (L + i) (gB (fun i => N (tF x i)) L i g)) 62 8 = N (L + i) := rfl
    have e67 : mI (mt σ (L + i) (gB (fun i => N (tF x i)) L i g)) 67 = gB (fun i => N (tF x i)) L i g := rfl
    have step : ∀ w, w = x (i / 4) → ((gR 8 7 (some 62) (mt σ (L + i) (gB (fun i => N (tF x i)) L i g))).bind fun x24 => (gI 8 8 (some 62) (mt σ (L + i) (gB (fun i => N (tF x i)) L i g))).bind fun x25 => (rm_ (N i) 4).bind fun x26 => (sI x24 x25 ((ush w (24 - (8 * x26))) &&& 255) (mt σ (L + i) (gB (fun i => N (tF x i)) L i g))).bind fun σ27 => (gI 8 8 (some 62) σ27).bind fun x28 => (pI 8 8 (some 62) (x28 + 1) σ27).bind fun σ29 => FX8_feed_23 62 (x 0) (x 1) (x 2) (x 3) (x 4) n (N i + 1) σ29 K) = K (mt σ (L + 20) (gB (fun i => N (tF x i)) L 20 g)) := fun w hw => by
      subst hw
      have er : rm_ (N i) 4 = some (N (i % 4)) := rm_N (m := 4) (by omega) (by omega) (by omega)
      have es : (24 : Int32) - 8 * N (i % 4) = N (24 - 8 * (i % 4)) := by
        rw [l24_, l8_, N_mul, N_sub (by omega)]
      rw [fm_gR7 c1, Option.bind_some, fm_gI c1, Option.bind_some, e8, er, Option.bind_some, es, l255_, t3, fm_wr67 c1 (by omega), Option.bind_some, fm_gI (FM_w c1), Option.bind_some, e67, gB_s (c := fun i => N (tF x i))]
      have e2 : mI (wA (mt σ (L + i) (gB (fun i => N (tF x i)) L i g)) 67 (gB (fun i => N (tF x i)) L (i + 1) g)) 62 8 = N (L + i) := rfl
      have e3 : wA (wA (mt σ (L + i) (gB (fun i => N (tF x i)) L i g)) 67 (gB (fun i => N (tF x i)) L (i + 1) g)) 62 (up1 (mI (wA (mt σ (L + i) (gB (fun i => N (tF x i)) L i g)) 67 (gB (fun i => N (tF x i)) L (i + 1) g)) 62) 8 (N (L + i + 1))) = mt σ (L + (i + 1)) (gB (fun i => N (tF x i)) L (i + 1) g) := by
        have : up1 (mI (wA (mt σ (L + i) (gB (fun i => N (tF x i)) L i g)) 67 (gB (fun i => N (tF x i)) L (i + 1) g)) 62) 8 (N (L + i + 1)) = up1 (mI σ 62) 8 (N (L + i + 1)) := by
          show up1 (up1 (mI σ 62) 8 (N (L + i))) 8 (N (L + i + 1)) = _
          exact up1_up
        rw [this]
        unfold mt
        rw [wA_cm (by omega : (62 : Nat) ≠ 67), wA_wA, wA_wA]
        rfl
      rw [e2, l1_, N_add, fm_pI (FM_w c1), Option.bind_some, e3, N_add, ih (i + 1) n (by omega) (by omega)]
    rw [FX8_feed_23, l20_, if_neg (by rw [N_le (by omega) (by omega)]; omega)]
    unfold jn
    dsimp only
    by_cases h4 : 4 ≤ i
    · rw [if_pos (show (4 : Int32) ≤ N i by rw [l4_, N_le (by omega) (by omega)]; exact h4)]
      by_cases h8 : 8 ≤ i
      · rw [if_pos (show (8 : Int32) ≤ N i by rw [l8_, N_le (by omega) (by omega)]; exact h8)]
        by_cases h12 : 12 ≤ i
        · rw [if_pos (show (12 : Int32) ≤ N i by rw [l12_, N_le (by omega) (by omega)]; exact h12)]
          by_cases h16 : 16 ≤ i
          · rw [if_pos (show (16 : Int32) ≤ N i by rw [l16_, N_le (by omega) (by omega)]; exact h16)]
            exact step _ (by rw [show i / 4 = 4 by omega])
          · rw [if_neg (show ¬ (16 : Int32) ≤ N i by rw [l16_, N_le (by omega) (by omega)]; exact h16)]
            exact step _ (by rw [show i / 4 = 3 by omega])
        · rw [if_neg (show ¬ (12 : Int32) ≤ N i by rw [l12_, N_le (by omega) (by omega)]; exact h12)]
          exact step _ (by rw [show i / 4 = 2 by omega])
      · rw [if_neg (show ¬ (8 : Int32) ≤ N i by rw [l8_, N_le (by omega) (by omega)]; exact h8)]
        exact step _ (by rw [show i / 4 = 1 by omega])
    · rw [if_neg (show ¬ (4 : Int32) ≤ N i by rw [l4_, N_le (by omega) (by omega)]; exact h4)]
      exact step _ (by rw [show i / 4 = 0 by omega])
end
