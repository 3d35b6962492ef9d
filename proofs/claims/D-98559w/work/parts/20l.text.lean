/-! THE PLAIN LAW, 61: HungFaces reads numbers and parts -/
set_option maxRecDepth 100000
theorem E_k10 {q v cq n : Nat} {f : Nat → Nat} {w : List Nat} {τ : Mm} (hS : STR q v n f τ) (hK : KW cq w τ) (hq : q < BIG) (hcq : BIG ≤ cq) (hk : kS cq = 520) (hn : n < 1000) : FJ6_equalsk10 cq (some q) τ = some (bN (decide (n = w.length ∧ ∀ i, i < w.length → f i = w.getD i 0)), τ) := by
  obtain ⟨⟨s1, s2, s3, s4, s5⟩, s6, s7, s8⟩ := hS
  obtain ⟨k1, k2, k3, k4, k5, k6, k7⟩ := hK
  have hd : dif cq (some q) = true := by
    unfold dif
    simp [hq, hcq, hk]
  have lp : ∀ (kx ky : Mm → Option (Int32 × Mm)), w.length = n → ∀ (j i m : Nat), i + j = n → j < m → FJ10_equalsk10_9 (some (cq + 1)) (some v) m (N i) τ kx ky = if ∀ i', i' < n → i ≤ i' → f i' = w.getD i' 0 then kx τ else ky τ := fun kx ky hnw j => by
    induction j with
    | zero =>
      intro i m hi hm
      obtain ⟨m, rfl⟩ : ∃ m', m = m' + 1 := ⟨m - 1, by omega⟩
      rw [FJ10_equalsk10_9, aL_s k4 k5, Option.bind_some, if_pos (by rw [N_le (by omega) (by omega)]; omega), if_pos (fun i' h1 h2 => by omega)]
    | succ j ih =>
      intro i m hi hm
      obtain ⟨m, rfl⟩ : ∃ m', m = m' + 1 := ⟨m - 1, by omega⟩
      have a1 := s8 i (by omega)
      have a2 := k7 i (by omega)
      rw [FJ10_equalsk10_9, aL_s k4 k5, Option.bind_some, if_neg (by rw [N_le (by omega) (by omega)]; omega), aI_N k4 k5 (by omega) (by omega), Option.bind_some, aI_N s6 s7 (by omega) (by omega), Option.bind_some, a1.1, a2.1]
      by_cases h3 : f i = w.getD i 0
      · rw [if_pos (by rw [h3]), l1_, N_add, ih (i + 1) m (by omega) (by omega)]
        by_cases h4 : ∀ i', i' < n → i + 1 ≤ i' → f i' = w.getD i' 0
        · rw [if_pos h4, if_pos (fun i' h1 h2 => by
            by_cases e1 : i' = i
            · rw [e1]; exact h3
            · exact h4 i' (by omega) (by omega))]
        · rw [if_neg h4, if_neg (fun h5 => h4 fun i' h1 h2 => h5 i' (by omega) (by omega))]
      · rw [if_neg (by rw [N_inj (by omega) (by omega)]; exact fun z => h3 z.symm), if_neg (fun h5 => h3 (h5 i (by omega) (by omega)))]
  unfold FJ6_equalsk10 jn FJ10_equalsk10
  dsimp only
  rw [if_pos hd, rv_s s1, Option.bind_some, if_neg (by decide), Option.bind_some, if_neg (by decide), gI_s k1, Option.bind_some, gI_s s1, Option.bind_some, s3, k3, if_pos rfl, gR_s k1 k2, Option.bind_some, gR_s s1 s2, Option.bind_some, aL_s k4 k5, Option.bind_some, aL_s s6 s7, Option.bind_some]
  by_cases hnw : n = w.length
  · rw [if_pos (by rw [hnw]), l0_, lp _ _ hnw.symm n 0 fu (by omega) (by unfold fu; omega)]
    by_cases h4 : ∀ i', i' < n → 0 ≤ i' → f i' = w.getD i' 0
    · rw [if_pos h4, decide_eq_true ⟨hnw, fun i hi => h4 i (by omega) (by omega)⟩, l1_, rZ_1, Option.bind_some]
      exact (if_neg (show ¬ (N 1 : Int32) = N 0 by decide)).trans (rZ_1 _)
    · rw [if_neg h4, decide_eq_false (fun h5 => h4 fun i hi _ => h5.2 i (by omega)), rZ_0, Option.bind_some]
      exact (if_pos rfl).trans (rZ_0 _)
  · rw [if_neg (by rw [N_inj (by omega) (by omega)]; exact fun z => hnw z.symm), decide_eq_false (fun h5 => hnw h5.1), l0_, rZ_0, Option.bind_some]
    exact (if_pos rfl).trans (rZ_0 _)
def wFact (j : Nat) : List Nat := [wWho, wHour, wHook, wMarks, wHung, wFree].getD j []
theorem kFact {σ : Mm} (h : KS σ) {j : Nat} (hj : j < 6) : KW (BIG + 2 * (15 + j)) (wFact j) σ := by
  have h2 : j = 0 ∨ j = 1 ∨ j = 2 ∨ j = 3 ∨ j = 4 ∨ j = 5 := by omega
  rcases h2 with rfl | rfl | rfl | rfl | rfl | rfl
  · exact kWho h
  · exact kHour h
  · exact kHook h
  · exact kMarks h
  · exact kHung h
  · exact kFree h
section
variable {T : Nat → Nat} {e : Nat} {σ : Mm} {a b d x : Int32} {k : Nat}
theorem X17_step {q v arr k1 j m : Nat} {ν : Mm} (hS : STR q v (wd T e k1 - k1) (fun i => T (k1 + i)) ν) (hK : KS ν) (hq : q < BIG) (hn : wd T e k1 - k1 < 1000) (ha : mS ν arr = 103) (hl : mL ν arr = 6) (hr : ∀ i, i < 6 → mR ν arr i = some (BIG + 110 + i)) (hj : j < 6) (kx : Mm → DX (Option Nat × Mm)) (ky : Option Nat → Mm → DX (Option Nat × Mm)) : FX17_of_9 (some q) (some arr) (N 6) (m + 1) (N j) ν kx ky = if isW T e k1 (wFact j) = true then ky (some (BIG + 110 + j)) ν else FX17_of_9 (some q) (some arr) (N 6) m (N (j + 1)) ν kx ky := by
  have hB : BIG = 1000000 := rfl
  have h1 := hK.1 (BIG + 110 + j) (by omega)
  have h2 : j = 0 ∨ j = 1 ∨ j = 2 ∨ j = 3 ∨ j = 4 ∨ j = 5 := by omega
  have s1 : mS ν (BIG + 110 + j) = 522 := h1.1.trans (by rcases h2 with rfl | rfl | rfl | rfl | rfl | rfl <;> decide)
  have r1 : mR ν (BIG + 110 + j) 1 = some (BIG + 2 * (15 + j)) := (hK.2 (BIG + 110 + j) 1 (by omega) (by omega)).trans (by rcases h2 with rfl | rfl | rfl | rfl | rfl | rfl <;> decide)
  have k9 : kS (BIG + 2 * (15 + j)) = 520 := by rcases h2 with rfl | rfl | rfl | rfl | rfl | rfl <;> decide
  have kw := kFact hK hj
  rw [FX17_of_9, if_neg (by rw [N_le (by omega) (by omega)]; omega), aR_N ha hl hj (by omega), Option.bind_some, hr j hj, gR_s s1 r1, Option.bind_some, rv_s kw.1, Option.bind_some, E_k10 hS kw hq (by omega) k9 hn, isW_dec, Option.bind_some]
  dsimp only
  cases isW T e k1 (wFact j)
  · rw [if_pos (show (bN false : Int32) = 0 from rfl), if_neg (by decide), l1_, N_add]
  · rw [if_neg (show ¬ (bN true : Int32) = 0 by decide), if_pos rfl]
theorem mR_wB {σ : Mm} {p q : Nat} {f : Nat → Option Nat} : mR (wB σ p f) q = if q = p then f else mR σ q := rfl
theorem C_fact {q v k1 : Nat} {ν : Mm} (hS : STR q v (wd T e k1 - k1) (fun i => T (k1 + i)) ν) (hK : KS ν) (hq : q < mN ν) (hv : v < mN ν) (hN : mN ν < BIG) (hn : wd T e k1 - k1 < 1000) : ∃ ν', FX17_of (some q) ν = some (.inl ((factP T e k1).map fun j => BIG + 110 + j, ν'), 1, 6) ∧ FA ν ν' ∧ mN ν' = mN ν + 1 := by
  have hB : BIG = 1000000 := rfl
  have hF : FA ν (wB (wN ν 103 6) (mN ν) (mR ν (BIG + 120))) := by
    have hF0 : FA ν (wN ν 103 6) := FA_wN hN
    refine ⟨hF0.1, hF0.2.1, fun p hp => ?_, hF0.2.2.2⟩
    obtain ⟨x1, x2, x3, x4⟩ := hF0.2.2.1 p hp
    have h9 : p ≠ mN ν := by omega
    exact ⟨x1, x2, x3, by rw [mR_wB, if_neg h9]; exact x4⟩
  have sA : mS (wB (wN ν 103 6) (mN ν) (mR ν (BIG + 120))) (mN ν) = 103 := by show mS (wN ν 103 6) (mN ν) = _; rw [mS_wN, if_pos rfl]
  have lA : mL (wB (wN ν 103 6) (mN ν) (mR ν (BIG + 120))) (mN ν) = 6 := by show mL (wN ν 103 6) (mN ν) = _; rw [mL_wN, if_pos rfl]
  have rA : ∀ i, i < 6 → mR (wB (wN ν 103 6) (mN ν) (mR ν (BIG + 120))) (mN ν) i = some (BIG + 110 + i) := fun i hi => by
    rw [mR_wB, if_pos rfl, hK.2 (BIG + 120) i (by omega) (by omega)]
    have h2 : i = 0 ∨ i = 1 ∨ i = 2 ∨ i = 3 ∨ i = 4 ∨ i = 5 := by omega
    rcases h2 with rfl | rfl | rfl | rfl | rfl | rfl <;> decide
  have hS' : STR q v (wd T e k1 - k1) (fun i => T (k1 + i)) (wB (wN ν 103 6) (mN ν) (mR ν (BIG + 120))) := by
    obtain ⟨⟨x1, x2, x3, x4, x5⟩, x6, x7, x8⟩ := hS
    obtain ⟨a1, a2, a3, a4⟩ := hF.2.2.1 q (by omega)
    obtain ⟨b1, b2, b3, b4⟩ := hF.2.2.1 v (by omega)
    exact ⟨⟨by rw [a1]; exact x1, by rw [a4]; exact x2, by rw [a3]; exact x3, by rw [a3]; exact x4, by rw [a3]; exact x5⟩, by rw [b1]; exact x6, by rw [b2]; exact x7, by rw [b3]; exact x8⟩
  have hK' := hF.ks hK
  have cl : FX17_values ν = some (.inl (some (mN ν), wB (wN ν 103 6) (mN ν) (mR ν (BIG + 120))), 1, 6) := by
    unfold FX17_values
    have c0 : clF (some (BIG + 120)) ν = some (some (mN ν), wB (wN ν 103 6) (mN ν) (mR ν (BIG + 120))) := by
      simp only [clF, Option.bind_some]
      rw [if_pos ⟨trivial, hN⟩]
    rw [c0, Option.bind_some]
    dsimp only
    rw [rv_s sA, Option.bind_some]
    rfl
  refine ⟨wB (wN ν 103 6) (mN ν) (mR ν (BIG + 120)), ?_, hF, rfl⟩
  unfold FX17_of
  rw [cl, db_in]
  dsimp only
  rw [aL_s sA lA, Option.bind_some, l0_]
  have st : ∀ j m, j < 6 → _ := fun j m hj => X17_step (j := j) (m := m) hS' hK' (by omega) hn sA lA rA hj (fun (σ : Mm) => rt (none, σ)) (fun (x32 : Option Nat) (σ : Mm) => rt (x32, σ))
  show pay 1 6 (FX17_of_9 (some q) (some (mN ν)) (N 6) (99993 + 6 + 1) (N 0) _ _ _) = _
  unfold factP
  rw [st 0 _ (by omega)]
  by_cases w0 : isW T e k1 wWho = true
  · rw [if_pos w0, if_pos (show isW T e k1 (wFact 0) = true from w0)]; rfl
  rw [if_neg w0, if_neg (show ¬ isW T e k1 (wFact 0) = true from w0), st 1 (99993 + 5) (by omega)]
  by_cases w1 : isW T e k1 wHour = true
  · rw [if_pos w1, if_pos (show isW T e k1 (wFact 1) = true from w1)]; rfl
  rw [if_neg w1, if_neg (show ¬ isW T e k1 (wFact 1) = true from w1), st 2 (99993 + 4) (by omega)]
  by_cases w2 : isW T e k1 wHook = true
  · rw [if_pos w2, if_pos (show isW T e k1 (wFact 2) = true from w2)]; rfl
  rw [if_neg w2, if_neg (show ¬ isW T e k1 (wFact 2) = true from w2), st 3 (99993 + 3) (by omega)]
  by_cases w3 : isW T e k1 wMarks = true
  · rw [if_pos w3, if_pos (show isW T e k1 (wFact 3) = true from w3)]; rfl
  rw [if_neg w3, if_neg (show ¬ isW T e k1 (wFact 3) = true from w3), st 4 (99993 + 2) (by omega)]
  by_cases w4 : isW T e k1 wHung = true
  · rw [if_pos w4, if_pos (show isW T e k1 (wFact 4) = true from w4)]; rfl
  rw [if_neg w4, if_neg (show ¬ isW T e k1 (wFact 4) = true from w4), st 5 (99993 + 1) (by omega)]
  by_cases w5 : isW T e k1 wFree = true
  · rw [if_pos w5, if_pos (show isW T e k1 (wFact 5) = true from w5)]; rfl
  rw [if_neg w5, if_neg (show ¬ isW T e k1 (wFact 5) = true from w5)]
  show pay 1 6 (FX17_of_9 (some q) (some (mN ν)) (N 6) (99993 + 1) (N 6) _ _ _) = _
  rw [FX17_of_9, if_pos (by rw [N_le (by omega) (by omega)]; omega)]
  rfl
theorem C_in_dN {v lo n : Nat} {σ : Mm} (hv : v < 1000000) (hl : lo < 1000000) (hn : n ≤ 1000000) : FX1_in (N v) (N lo) (dN n) σ = some ((if lo ≤ v ∧ v < n then N 1 else N 0), σ) := by
  unfold FX1_in
  by_cases h1 : v < lo
  · rw [if_pos (by rw [N_lt (by omega) (by omega)]; exact h1), if_neg (by omega), l0_, rZ_0]
  · rw [if_neg (by rw [N_lt (by omega) (by omega)]; exact h1)]
    by_cases h2 : v < n
    · rw [if_neg (by rw [Int32.not_lt, N_dN (by omega) (by omega)]; exact h2), if_pos ⟨by omega, h2⟩, l1_, rZ_1]
    · rw [if_pos (by rw [← Int32.not_le, N_dN (by omega) (by omega)]; exact h2), if_neg (by omega), l0_, rZ_0]
theorem C_wrongI {a b d : Int32} {σ : Mm} (h0 : 76 ≤ mN σ) (hN : mN σ < BIG) (h : FC σ) : ∃ τ, pay 1 6 ((FX3_wrong 37 (rs σ a b d)).bind fun x => (thrd x.1 x.2 : DX (Int32 × Mm))) = some (.inr (1, rs τ a b d), 1, 6) ∧ pay 1 6 ((FX3_wrong 37 (rs σ a b d)).bind fun x => (thrd x.1 x.2 : DX (Option Nat × Mm))) = some (.inr (1, rs τ a b d), 1, 6) ∧ pay 1 6 ((FX3_wrong 37 (rs σ a b d)).bind fun x => (thrd x.1 x.2 : DX Mm)) = some (.inr (1, rs τ a b d), 1, 6) ∧ FA σ τ ∧ mN τ = mN σ + 1 := by
  obtain ⟨ν, g1, g2, g3, g4, g5⟩ := X_wrong (σ := rs σ a b d) (h0 := 37) hN
  obtain ⟨τ, t1, t2, t3, _⟩ := FA_rs h0 g4
  refine ⟨τ, ?_, ?_, ?_, t2, by rw [t3, g5]; rfl⟩
  · rw [g1, ← t1]; rfl
  · rw [g2, ← t1]; rfl
  · rw [g3, ← t1]; rfl
/-- a number is read -/
theorem C_number (hT : TX T e) (h : RT T e σ) (h0 : 76 ≤ mN σ) (hN : mN σ < BIG) {lo n : Nat} (hlo : lo < 1000000) (hn : n ≤ 1000000) (hk : k ≤ e) : match numP T e lo n k with
    | .ok o => ∃ b', FX3_number 37 (N lo) (dN n) (rs σ (N k) b d) = some (.inl (N o.1, rs σ (N o.2) b' d), 0, 0)
    | .error p => ∃ τ a, FX3_number 37 (N lo) (dN n) (rs σ (N k) b d) = some (.inr (1, rs τ a (N p) d), 1, 6) ∧ FA σ τ ∧ mN τ = mN σ + 1 := by
  have he := hT.1
  have h1 := sk_le (T := T) hk
  have h3 := dg_ge (T := T) (e := e) (k := sk T e k)
  have h4 := dg_le (T := T) (e := e) (k := sk T e k) h1
  have hv : nv T (sk T e k) (min (dg T e (sk T e k) - sk T e k) 3) < 1000 := by
    have := nv_lt (T := T) (k := sk T e k) (min (dg T e (sk T e k) - sk T e k) 3) fun j hj => dg_in (T := T) (e := e) (k := sk T e k) (by omega) (by omega)
    have h5 : 10 ^ min (dg T e (sk T e k) - sk T e k) 3 ≤ 10 ^ 3 := Nat.pow_le_pow_right (by omega) (by omega)
    omega
  obtain ⟨τ, w1, -, -, w4, w5⟩ := C_wrongI (a := N (dg T e (sk T e k))) (b := N (sk T e k)) (d := d) h0 hN h.1
  have run : FX3_figures 37 (N lo) (dN n) 3 (rs σ (N k) b d) = if dg T e (sk T e k) = sk T e k ∨ 3 < dg T e (sk T e k) - sk T e k ∨ nv T (sk T e k) (dg T e (sk T e k) - sk T e k) < lo ∨ n ≤ nv T (sk T e k) (dg T e (sk T e k) - sk T e k) then some (.inr (1, rs τ (N (dg T e (sk T e k))) (N (sk T e k)) d), 1, 6) else some (.inl (N (nv T (sk T e k) (dg T e (sk T e k) - sk T e k)), rs σ (N (dg T e (sk T e k))) (N (sk T e k)) d), 0, 0) := by
    unfold FX3_figures
    rw [c_ck h.1, C_blanks hT h (by omega), Option.bind_some, l3_]
    have hl := fun kx => C_fig_7 (d := d) hT h (N lo) (dN n) kx (sk T e k) h1 (dg T e (sk T e k) - sk T e k) 0 fu (by omega) (by unfold fu; omega)
    rw [Nat.add_zero] at hl
    refine Eq.trans (hl _) ?_
    unfold jn
    dsimp only
    rw [c_g3 h.1, Option.bind_some, c_g4 h.1, Option.bind_some]
    have tl : ck 3 37 (rs σ (N (dg T e (sk T e k))) (N (sk T e k)) d) (pay 1 6 ((FX3_wrong 37 (rs σ (N (dg T e (sk T e k))) (N (sk T e k)) d)).bind fun x => (thrd x.1 x.2 : DX (Int32 × Mm)))) = some (.inr (1, rs τ (N (dg T e (sk T e k))) (N (sk T e k)) d), 1, 6) := by rw [c_ck h.1, w1]
    by_cases c1 : dg T e (sk T e k) = sk T e k
    · rw [if_pos (by rw [c1]), if_pos (Or.inl c1)]
      exact tl
    rw [if_neg (by rw [N_inj (by omega) (by omega)]; exact c1), Option.bind_some, Option.bind_some, N_sub h3]
    by_cases c2 : 3 < dg T e (sk T e k) - sk T e k
    · rw [if_pos (by rw [N_lt (by omega) (by omega)]; exact c2), if_pos (Or.inr (Or.inl c2))]
      exact tl
    have c3 : min (dg T e (sk T e k) - sk T e k) 3 = dg T e (sk T e k) - sk T e k := by omega
    rw [if_neg (by rw [N_lt (by omega) (by omega)]; exact c2)]
    rw [c3] at hv ⊢
    rw [C_in_dN (by omega) hlo hn, Option.bind_some]
    by_cases c4 : lo ≤ nv T (sk T e k) (dg T e (sk T e k) - sk T e k) ∧ nv T (sk T e k) (dg T e (sk T e k) - sk T e k) < n
    · rw [if_pos c4]
      dsimp only
      rw [if_neg (show ¬ (N 1 : Int32) = 0 by decide), if_neg (by omega)]
      rfl
    · rw [if_neg c4]
      dsimp only
      rw [if_pos (show (N 0 : Int32) = 0 from rfl), if_pos (by omega)]
      exact tl
  unfold numP
  dsimp only
  unfold FX3_number
  rw [c_ck h.1, run]
  by_cases c : dg T e (sk T e k) = sk T e k ∨ 3 < dg T e (sk T e k) - sk T e k ∨ nv T (sk T e k) (dg T e (sk T e k) - sk T e k) < lo ∨ n ≤ nv T (sk T e k) (dg T e (sk T e k) - sk T e k)
  · rw [if_pos c, if_pos c]
    exact ⟨τ, _, rfl, w4, w5⟩
  · rw [if_neg c, if_neg c]
    exact ⟨_, rfl⟩
end
