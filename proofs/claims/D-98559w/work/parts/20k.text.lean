/-! THE PLAIN LAW, 60: lists that are put together; what a part, a sum, a condition means -/
set_option maxRecDepth 100000
/-- a list that can be read -/
def RL (l n e : Nat) (τ : Mm) : Prop := mS τ l = 17 ∧ mI τ l 2 = N n ∧ mR τ l 1 = some e ∧ n < 100000 ∧ (0 < n → mS τ e = 102 ∧ n ≤ mL τ e ∧ mL τ e < 60000)
theorem AL.rl {l n e : Nat} {τ : Mm} (h : AL l n e τ) : RL l n e τ := by
  obtain ⟨h1, h2, h3, h4, h5, h6, h7⟩ := h
  refine ⟨h1, h2, h3, h4, fun h0 => ?_⟩
  rcases h5 with ⟨_, h5⟩ | h5
  · omega
  · exact ⟨h5.2.1, h5.2.2.1, h5.2.2.2.2⟩
theorem J_size {l n e : Nat} {τ : Mm} (h : RL l n e τ) : FJ3_size l τ = some (N n, τ) := by
  unfold FJ3_size
  rw [gI_s h.1, Option.bind_some, h.2.1]
theorem J_get {l n e i : Nat} {τ : Mm} (h : RL l n e τ) (hi : i < n) : FJ3_get l (N i) τ = some (mR τ e i, τ) := by
  obtain ⟨h1, h2, h3, h4, h5⟩ := h
  obtain ⟨h6, h7, h8⟩ := h5 (by omega)
  unfold FJ3_get FJ3_elementData
  rw [gI_s h1, Option.bind_some, h2, J_chk hi (by omega), Option.bind_some]
  dsimp only
  rw [ck_s h1, gR_s h1 h3, Option.bind_some, aR_N h6 rfl (by omega) (by omega), Option.bind_some, Option.bind_some]
/-- a new list -/
theorem J_new17 {σ : Mm} (hN : mN σ < BIG) : ∃ τ, nO 17 σ = some (some (mN σ), wN σ 17 0) ∧ rv 17 (some (mN σ)) (wN σ 17 0) = some (mN σ) ∧ FJ3_init (mN σ) (wN σ 17 0) = some τ ∧ AL (mN σ) 0 (BIG + 122) τ ∧ FA σ τ ∧ mN τ = mN σ + 1 ∧ (∀ q, q ≠ mN σ → mS τ q = mS σ q ∧ mL τ q = mL σ q ∧ mI τ q = mI σ q ∧ mR τ q = mR σ q) := by
  have s : mS (wN σ 17 0) (mN σ) = 17 := by rw [mS_wN, if_pos rfl]
  refine ⟨wR (wA (wN σ 17 0) (mN σ) (up1 (mI (wN σ 17 0) (mN σ)) 0 0)) (mN σ) 1 (some (BIG + 122)), if_pos hN, rv_s s, ?_, ⟨s, ?_, ?_, by omega, Or.inl ⟨rfl, rfl⟩, ⟨by omega, ?_⟩, fun i hi => by omega⟩, ?_, rfl, fun q hq => ⟨?_, ?_, ?_, ?_⟩⟩
  · unfold FJ3_init FJ2_init FJ1_init
    rw [ck_s s, ck_s s, Option.bind_some, pI_s s, Option.bind_some, Option.bind_some, pR_s (show mS (wA (wN σ 17 0) (mN σ) _) (mN σ) = 17 from s), Option.bind_some]
  · rw [mI_wR, mI_wA, if_pos rfl, up1_app, if_neg (by omega), mI_wN, if_pos rfl]; rfl
  · rw [mR_wR, if_pos rfl, if_pos rfl]
  · show mN σ < mN σ + 1; omega
  · exact FA_wR (FA_wA (FA_wN hN) (Nat.le_refl _) (by show mN σ < mN σ + 1; omega)) (Nat.le_refl _) (by show mN σ < mN σ + 1; omega)
  · show mS (wN σ 17 0) q = _; rw [mS_wN, if_neg hq]
  · show mL (wN σ 17 0) q = _; rw [mL_wN, if_neg hq]
  · rw [mI_wR, mI_wA, if_neg hq, mI_wN, if_neg hq]
  · funext j; rw [mR_wR_n (Or.inl hq)]; show mR (wN σ 17 0) q j = _; rw [mR_wN, if_neg hq]
/-- alike from lo to hi -/
def Ag (lo hi : Nat) (σ τ : Mm) : Prop := ∀ p, lo ≤ p → p < hi → mS τ p = mS σ p ∧ mL τ p = mL σ p ∧ mI τ p = mI σ p ∧ mR τ p = mR σ p
theorem Ag.rf {lo hi : Nat} {σ : Mm} : Ag lo hi σ σ := fun _ _ _ => ⟨rfl, rfl, rfl, rfl⟩
theorem Ag.trans {lo hi : Nat} {a b c : Mm} (h : Ag lo hi a b) (g : Ag lo hi b c) : Ag lo hi a c := fun p h1 h2 => by
  obtain ⟨a1, a2, a3, a4⟩ := h p h1 h2
  obtain ⟨b1, b2, b3, b4⟩ := g p h1 h2
  exact ⟨b1.trans a1, b2.trans a2, b3.trans a3, b4.trans a4⟩
theorem Ag.sub {lo hi lo' hi' : Nat} {a b : Mm} (h : Ag lo hi a b) (h1 : lo ≤ lo') (h2 : hi' ≤ hi) : Ag lo' hi' a b := fun p a1 a2 => h p (by omega) (by omega)
theorem FA.ag {lo hi : Nat} {σ τ : Mm} (h : FA σ τ) (h1 : hi ≤ mN σ) : Ag lo hi σ τ := fun p _ a2 => h.2.2.1 p (by omega)
theorem Ag_rs {lo hi : Nat} {σ : Mm} {a b d : Int32} (h : 38 ≤ lo) : Ag lo hi σ (rs σ a b d) := fun p a1 _ => ⟨rfl, rfl, rs_q (by omega), rfl⟩
/-- what the law sees -/
def CE (τ : Mm) : Nat → Int32 := fun j => if j < 8 then mI τ 39 j else N 0
def EV (τ : Mm) : Prop := FC τ ∧ KS τ ∧ (∃ b, mI τ 39 6 = bN b) ∧ ∃ b, mI τ 39 7 = bN b
def Pm (lo hi q : Nat) (f : Sm) (σ : Mm) : Prop := mS σ q = 16 ∧ (lo ≤ q ∧ q < hi) ∧ ∀ τ, Ag lo hi σ τ → EV τ → FX16_in q (some 39) τ = some (f (CE τ), τ)
def Sg (lo hi q : Nat) (f : Sm) (σ : Mm) : Prop := mS σ q = 15 ∧ (lo ≤ q ∧ q < hi) ∧ ∀ τ, Ag lo hi σ τ → EV τ → FX15_in q (some 39) τ = some (f (CE τ), τ)
def Cg (D lo hi q : Nat) (c : Cn) (σ : Mm) : Prop := (mS σ q = 12 ∨ mS σ q = 13 ∨ mS σ q = 14 ∨ mS σ q = 18) ∧ (lo ≤ q ∧ q < hi) ∧ ∀ τ D', D ≤ D' → Ag lo hi σ τ → EV τ → Fholds D' q (some 39) τ = some (bN (c (CE τ)), τ)
section
variable {lo hi lo' hi' q D : Nat} {σ τ : Mm}
theorem Pm.ag {f : Sm} (h : Pm lo hi q f σ) (g : Ag lo hi σ τ) : Pm lo hi q f τ := ⟨by rw [(g q h.2.1.1 h.2.1.2).1]; exact h.1, h.2.1, fun μ a b => h.2.2 μ (g.trans a) b⟩
theorem Sg.ag {f : Sm} (h : Sg lo hi q f σ) (g : Ag lo hi σ τ) : Sg lo hi q f τ := ⟨by rw [(g q h.2.1.1 h.2.1.2).1]; exact h.1, h.2.1, fun μ a b => h.2.2 μ (g.trans a) b⟩
theorem Cg.ag {c : Cn} (h : Cg D lo hi q c σ) (g : Ag lo hi σ τ) : Cg D lo hi q c τ := ⟨by rw [(g q h.2.1.1 h.2.1.2).1]; exact h.1, h.2.1, fun μ D' hD a b => h.2.2 μ D' hD (g.trans a) b⟩
theorem Cg.up {c : Cn} {D2 : Nat} (h : Cg D lo hi q c σ) (hD : D ≤ D2) : Cg D2 lo hi q c σ := ⟨h.1, h.2.1, fun μ D' h' a b => h.2.2 μ D' (by omega) a b⟩
theorem Cg.sub {c : Cn} (h : Cg D lo hi q c σ) (h1 : lo' ≤ lo) (h2 : hi ≤ hi') : Cg D lo' hi' q c σ := ⟨h.1, by have := h.2.1; omega, fun μ D' hD a b => h.2.2 μ D' hD (a.sub h1 h2) b⟩
theorem X4_of {j : Nat} (h : EV τ) (hj : j < 6) : FX4_of 39 (some (BIG + 110 + j)) τ = some (CE τ j, τ) := by
  have hB : BIG = 1000000 := rfl
  have hC := h.1
  have hK := h.2.1
  have e : CE τ j = mI τ 39 j := if_pos (by omega)
  have g : gI 522 0 (some (BIG + 110 + j)) τ = some (N j) := by
    have h1 := hK.1 (BIG + 110 + j) (by omega)
    have h2 : j = 0 ∨ j = 1 ∨ j = 2 ∨ j = 3 ∨ j = 4 ∨ j = 5 := by omega
    rw [gI_s (h1.1.trans (by rcases h2 with rfl | rfl | rfl | rfl | rfl | rfl <;> decide)), h1.2.2]
    rcases h2 with rfl | rfl | rfl | rfl | rfl | rfl <;> rfl
  unfold FX4_of
  rw [g, Option.bind_some, e]
  have h2 : j = 0 ∨ j = 1 ∨ j = 2 ∨ j = 3 ∨ j = 4 ∨ j = 5 := by omega
  rcases h2 with rfl | rfl | rfl | rfl | rfl | rfl
  · rw [if_pos (show (N 0 : Int32) = 0 from rfl), fc_gI39 hC, Option.bind_some]
  · rw [if_neg (by decide), if_pos (show (N 1 : Int32) = 1 from rfl), fc_gI39 hC, Option.bind_some]
  · rw [if_neg (by decide), if_neg (by decide), if_pos (show (N 2 : Int32) = 2 from rfl), fc_gI39 hC, Option.bind_some]
  · rw [if_neg (by decide), if_neg (by decide), if_neg (by decide), if_pos (show (N 3 : Int32) = 3 from rfl), fc_gI39 hC, Option.bind_some]
  · rw [if_neg (by decide), if_neg (by decide), if_neg (by decide), if_neg (by decide), if_pos (show (N 4 : Int32) = 4 from rfl), fc_gI39 hC, Option.bind_some]
  · rw [if_neg (by decide), if_neg (by decide), if_neg (by decide), if_neg (by decide), if_neg (by decide), fc_gI39 hC, Option.bind_some]
/-- a part that is a number -/
theorem Pm_num {x : Int32} (h1 : mS σ q = 16) (h2 : lo ≤ q ∧ q < hi) (h3 : mI σ q 0 = x) (h4 : mR σ q 1 = none) : Pm lo hi q (fun _ => x) σ := by
  refine ⟨h1, h2, fun τ a _ => ?_⟩
  obtain ⟨a1, a2, a3, a4⟩ := a q h2.1 h2.2
  have s : mS τ q = 16 := by rw [a1]; exact h1
  unfold FX16_in
  rw [gR_s s (show mR τ q 1 = none by rw [a4]; exact h4), Option.bind_some]
  dsimp only
  rw [gI_s s, Option.bind_some, a3, h3]
theorem Pm_fact {j : Nat} (hj : j < 6) (h1 : mS σ q = 16) (h2 : lo ≤ q ∧ q < hi) (h4 : mR σ q 1 = some (BIG + 110 + j)) : Pm lo hi q (fun E => E j) σ := by
  refine ⟨h1, h2, fun τ a hE => ?_⟩
  obtain ⟨a1, a2, a3, a4⟩ := a q h2.1 h2.2
  have s : mS τ q = 16 := by rw [a1]; exact h1
  have g : gR 16 1 (some q) τ = some (some (BIG + 110 + j)) := gR_s s (show mR τ q 1 = some (BIG + 110 + j) by rw [a4]; exact h4)
  unfold FX16_in
  rw [g, Option.bind_some]
  dsimp only
  rw [Option.bind_some, fc_rv39 hE.1, Option.bind_some, X4_of hE hj, Option.bind_some]
end
/-- a list in the making: its head at q0, of class c; the list l; n things in the array e; each means P -/
def LI (σ0 τ : Mm) (q0 l n e : Nat) (P : Nat → Nat → Nat → Nat → Mm → Prop) : Prop := AL l n e τ ∧ (mN σ0 ≤ q0 ∧ q0 < mN τ ∧ mN σ0 ≤ l ∧ q0 ≠ l ∧ q0 ≠ e) ∧ FA σ0 τ ∧ (e = BIG + 122 ∨ mN σ0 ≤ e) ∧ ∀ i, i < n → ∃ q lo hi, mR τ e i = some q ∧ l < lo ∧ q0 < lo ∧ hi ≤ mN τ ∧ (e < lo ∨ hi ≤ e) ∧ P i lo hi q τ
theorem LI_P {σ0 τ : Mm} {q0 l n e : Nat} {P Q : Nat → Nat → Nat → Nat → Mm → Prop} (h : LI σ0 τ q0 l n e P) (hP : ∀ i lo hi q, i < n → P i lo hi q τ → Q i lo hi q τ) : LI σ0 τ q0 l n e Q := by
  obtain ⟨h1, h2, h3, h4, h5⟩ := h
  refine ⟨h1, h2, h3, h4, fun i hi => ?_⟩
  obtain ⟨q, lo, hi', a1, a2, a3, a4, a5, a6⟩ := h5 i hi
  exact ⟨q, lo, hi', a1, a2, a3, a4, a5, hP i lo hi' q hi a6⟩
theorem AL_at {l n e : Nat} {σ τ : Mm} (hl : mS τ l = mS σ l ∧ mI τ l = mI σ l ∧ mR τ l = mR σ l) (he : e < mN σ → mS τ e = mS σ e ∧ mL τ e = mL σ e ∧ mR τ e = mR σ e) (hN : mN σ ≤ mN τ) (ho : ∀ q, q < mN σ → mS τ q = mS σ q) (h : AL l n e σ) : AL l n e τ := by
  obtain ⟨h1, h2, h3, h4, h5, h6, h7⟩ := h
  refine ⟨by rw [hl.1]; exact h1, by rw [hl.2.1]; exact h2, by rw [hl.2.2]; exact h3, h4, ?_, by omega, fun i hi => ?_⟩
  · rcases h5 with h5 | h5
    · exact Or.inl h5
    · obtain ⟨e1, e2, e3⟩ := he h5.1
      rw [e1, e2]; exact Or.inr ⟨by omega, h5.2⟩
  · obtain ⟨q, a1, a2, a3⟩ := h7 i hi
    have hen : e < mN σ := by
      rcases h5 with ⟨_, h5⟩ | h5
      · omega
      · exact h5.1
    exact ⟨q, by rw [(he hen).2.2]; exact a1, by omega, by rw [obj_e (ho q a2)]; exact a3⟩
/-- behind what is made new it is as it was -/
theorem LI_fa {σ0 τ τ1 : Mm} {q0 l n e : Nat} {P : Nat → Nat → Nat → Nat → Mm → Prop} (hP : ∀ i lo hi q σ τ, Ag lo hi σ τ → P i lo hi q σ → P i lo hi q τ) (h : LI σ0 τ q0 l n e P) (hF : FA τ τ1) : LI σ0 τ1 q0 l n e P := by
  obtain ⟨h1, h2, h3, h4, h5⟩ := h
  have hN := hF.1
  refine ⟨AL_at ?_ (fun he => ?_) hN (fun q hq => (hF.2.2.1 q (by omega)).1) h1, by omega, h3.trans hF, h4, fun i hi => ?_⟩
  · have := hF.2.2.1 l (by have := h1.2.2.2.2.2.1; omega)
    exact ⟨this.1, this.2.2.1, this.2.2.2⟩
  · have := hF.2.2.1 e (by omega)
    exact ⟨this.1, this.2.1, this.2.2.2⟩
  · obtain ⟨q, lo, hi', a1, a2, a3, a4, a5, a6⟩ := h5 i hi
    have hen : e < mN τ := by
      rcases h1.2.2.2.2.1 with ⟨_, h5⟩ | h5
      · omega
      · exact h5.1
    exact ⟨q, lo, hi', by rw [(hF.2.2.1 e (by omega)).2.2.2]; exact a1, a2, a3, by omega, a5, hP i lo hi' q τ τ1 (hF.ag a4) a6⟩
theorem J_add0 {l n e b : Nat} {σ : Mm} (h1 : mS σ l = 17) (h2 : mI σ l 2 = N n) (h3 : mR σ l 1 = some e) (hs0 : mS σ e = 102) (hn : n < mL σ e) (hm : mL σ e < 60000) (hb : obj σ b = true) : ∃ σ', FJ3_add l (some b) σ = some (.inl (N 1, σ'), 0, 0) ∧ mN σ' = mN σ := by
  have a1 : gI 17 0 (some l) σ = some (mI σ l 0) := gI_s h1
  have a2 : pI 17 0 (some l) (mI σ l 0 + N 1) σ = some (wA σ l (up1 (mI σ l) 0 (mI σ l 0 + N 1))) := pI_s h1
  obtain ⟨τ, ht⟩ : ∃ τ, τ = wA σ l (up1 (mI σ l) 0 (mI σ l 0 + N 1)) := ⟨_, rfl⟩
  rw [← ht] at a2
  have tS : mS τ = mS σ := by rw [ht]; rfl
  have tL : mL τ = mL σ := by rw [ht]; rfl
  have tR : mR τ = mR σ := by rw [ht]; rfl
  have tN : mN τ = mN σ := by rw [ht]; rfl
  have t2 : mI τ l 2 = N n := by rw [ht, mI_wA, if_pos rfl, up1_app, if_neg (by omega)]; exact h2
  have a3 : gR 17 1 (some l) τ = some (some e) := gR_s (by rw [tS]; exact h1) (by rw [tR]; exact h3)
  have a4 : gI 17 2 (some l) τ = some (N n) := by rw [gI_s (by rw [tS]; exact h1), t2]
  have a5 : ∀ {β : Type} {k : Option β}, ck 17 l τ k = k := ck_s (by rw [tS]; exact h1)
  have hl : mS τ l = 17 := by rw [tS]; exact h1
  have hs : mS τ e = 102 := by rw [tS]; exact hs0
  have run : FJ3_add_2 l (some b) (some e) (N n) τ = some (.inl (alE τ l e n b), 0, 0) := by
    unfold FJ3_add_2 jn
    dsimp only
    rw [aLo_s (Or.inl hs) rfl, Option.bind_some, if_neg (by rw [N_inj (by omega) (by rw [tL]; omega), tL]; omega), J_add_e (by rw [l1_, N_add]) hl hs (by rw [tL]; omega) (by rw [tL]; omega) ((obj_e (by rw [tS])).trans hb)]
    rfl
  refine ⟨alE τ l e n b, ?_, tN⟩
  unfold FJ3_add
  rw [a1, Option.bind_some, l1_, a2, Option.bind_some, a3, Option.bind_some, a4, Option.bind_some, a5, run]
  show pay 0 0 (rZd (N 1) (alE τ l e n b)) = _
  rw [rZd_1]; rfl
theorem LI_add {σ0 τ τ1 : Mm} {q0 l n e q lo hi : Nat} {P : Nat → Nat → Nat → Nat → Mm → Prop} {a b d : Int32} (hP : ∀ i lo hi q σ τ, Ag lo hi σ τ → P i lo hi q σ → P i lo hi q τ) (h0 : 76 ≤ mN σ0) (h : LI σ0 τ q0 l n e P) (hF : FA τ τ1) (hq : P n lo hi q τ1) (hr : mN τ ≤ lo ∧ hi ≤ mN τ1 ∧ q < mN τ1) (ho : obj τ1 q = true) (hN : mN τ1 < BIG) (hn : n < 1000) (hK : KS τ1) : ∃ τ2 e2 c z, FJ3_add l (some q) (rs τ1 a b d) = some (.inl (N 1, rs τ2 a b d), c, z) ∧ LI σ0 τ2 q0 l (n + 1) e2 P ∧ c ≤ 1 ∧ z ≤ 10 + 2 * n ∧ mN τ1 ≤ mN τ2 ∧ mN τ2 ≤ mN τ1 + 1 ∧ (∀ p, p < mN τ1 → mS τ2 p = mS τ1 p) ∧ (∀ p, p ≠ e2 → p ≠ l → mI τ2 p = mI τ1 p ∧ mR τ2 p = mR τ1 p) ∧ KS τ2 := by
  have hB : BIG = 1000000 := rfl
  have h' := LI_fa hP h hF
  obtain ⟨h1, h2, h3, h4, h5⟩ := h'
  have hNl := h1.2.2.2.2.2.1
  have hτ := hF.1
  have hN0 := h.2.2.1.1
  have hlτ : l < mN τ := h.1.2.2.2.2.2.1.2
  have hAr : AL l n e (rs τ1 a b d) := AL_at (σ := τ1) ⟨rfl, rs_q (by omega), rfl⟩ (fun _ => ⟨rfl, rfl, rfl⟩) (Nat.le_refl _) (fun _ _ => rfl) h1
  have hKr : KS (rs τ1 a b d) := KS_wA (by omega) hK
  obtain ⟨e2, ν, c, z, g1, g2, g3, g4, g5, g6, g7, g8⟩ := J_add hKr hAr (b := q) (by rw [obj_e (rfl : mS (rs τ1 a b d) q = mS τ1 q)]; exact ho) hr.2.2 hN (by omega)
  obtain ⟨f1, f2, f3, f4, f5⟩ := g7
  have nr : mN (rs τ1 a b d) = mN τ1 := rfl
  rw [nr] at f1 f2 f3 g8
  have he2 : mN σ0 ≤ e2 ∧ e2 < mN ν := by
    have h6 := g4.2.2.2.2.1
    rcases h6 with ⟨_, h6⟩ | h6
    · omega
    · refine ⟨?_, h6.1⟩
      rcases g8 with g8 | g8
      · rcases h4 with h4 | h4
        · have := h6.1; omega
        · omega
      · have := h3.1; omega
  have hFr : FA (rs σ0 a b d) ν := by
    have h6 := FA_rsx (a := a) (b := b) (d := d) h0 h3
    have n0 : mN (rs σ0 a b d) = mN σ0 := rfl
    refine ⟨by have := h3.1; show mN σ0 ≤ mN ν; omega, by omega, fun p hp => ?_, fun p hp hp2 => ?_⟩
    rotate_left 1
    · rw [n0] at hp
      by_cases hp3 : p = mN τ1
      · have h10 := g4.2.2.2.2.1
        rcases h10 with ⟨_, h10⟩ | h10
        · omega
        · rcases g8 with g8 | g8
          · exfalso
            have he1 : e < mN τ1 := by
              rcases hAr.2.2.2.2.1 with ⟨h11, _⟩ | h11
              · have := h10.1; omega
              · exact h11.1
            have hs1 : mS (rs τ1 a b d) e = 102 := by rw [← (f3 e (by omega)).1, ← g8]; exact h10.2.1
            have hl1 : n < mL (rs τ1 a b d) e := by rw [← (f3 e (by omega)).2, ← g8]; have := h10.2.2.1; omega
            have hl2 : mL (rs τ1 a b d) e < 60000 := by rw [← (f3 e (by omega)).2, ← g8]; exact h10.2.2.2.2
            obtain ⟨σ', y1, y2⟩ := J_add0 (b := q) hAr.1 hAr.2.1 hAr.2.2.1 hs1 hl1 hl2 (by rw [obj_e (rfl : mS (rs τ1 a b d) q = mS τ1 q)]; exact ho)
            rw [g1] at y1
            injection y1 with y1
            have y3 : ν = σ' := by
              have := congrArg Prod.fst y1
              injection this with this
              exact congrArg Prod.snd this
            rw [← y3] at y2
            have y2 : mN ν = mN τ1 := y2
            omega
          · rw [hp3, ← g8, h10.2.1]; decide
      · rw [(f3 p hp3).1]
        exact h3.2.2.2 p hp (by omega)
    rw [n0] at hp
    have h7 := h3.1
    obtain ⟨a1, a2, a3, a4⟩ := h6.2.2.1 p hp
    have b1 := f3 p (by omega)
    have b2 := f4 p (by omega) (by omega)
    exact ⟨b1.1.trans a1, b1.2.trans a2, b2.1.trans a3, b2.2.trans a4⟩
  obtain ⟨τ2, t1, t2, t3, t4, t5, t6, t7⟩ := FA_rs h0 hFr
  have hs2 : ∀ p, p < mN τ1 → mS τ2 p = mS τ1 p := fun p hp => by rw [t4]; exact (f3 p (by omega)).1
  have hi2 : ∀ p, p ≠ e2 → p ≠ l → mI τ2 p = mI τ1 p ∧ mR τ2 p = mR τ1 p := fun p hp1 hp2 => by
    have b2 := f4 p hp1 hp2
    refine ⟨?_, by rw [t6]; exact b2.2⟩
    by_cases h37 : p = 37
    · subst h37
      rw [(t2.2.2.1 37 (by omega)).2.2.1, (h3.2.2.1 37 (by omega)).2.2.1]
    · rw [t7 p h37, b2.1, rs_q h37]
  have ag : ∀ lo hi, l < lo → hi ≤ mN τ1 → (e2 < lo ∨ hi ≤ e2) → Ag lo hi τ1 τ2 := fun lo hi x1 x2 x3 p y1 y2 => by
    have b2 := hi2 p (by omega) (by omega)
    refine ⟨hs2 p (by omega), by rw [t5]; exact (f3 p (by omega)).2, b2.1, b2.2⟩
  refine ⟨τ2, e2, c, z, by rw [g1, t1], ⟨AL_at ⟨by rw [t4], t7 l (by omega), by rw [t6]⟩ (fun _ => ⟨by rw [t4], by rw [t5], by rw [t6]⟩) (by omega) (fun p _ => by rw [t4]) g4, ⟨h2.1, by omega, h2.2.2.1, h2.2.2.2.1, ?_⟩, t2, Or.inr he2.1, fun i hin1 => ?_⟩, g2, g3, by omega, by omega, hs2, hi2, t2.ks (by
      refine ⟨fun p hp => ?_, fun p k hp hk => ?_⟩
      · have := h3.2.2.1 p (by omega)
        rw [← this.1, ← this.2.1, ← this.2.2.1]; exact hK.1 p hp
      · have := h3.2.2.1 p (by omega)
        rw [← this.2.2.2]; exact hK.2 p k hp hk)⟩
  · rcases g8 with g8 | g8
    · rw [g8]; exact h2.2.2.2.2
    · have := h2.2.1; omega
  · by_cases hin : i = n
    · subst hin
      refine ⟨q, lo, hi, by rw [t6]; exact g6, by omega, by have := h.2.1.2.1; omega, by omega, ?_, hP i lo hi q τ1 τ2 (ag lo hi (by omega) hr.2.1 ?_) hq⟩
      · rcases g8 with g8 | g8
        · left
          have h6 := h1.2.2.2.2.1
          rcases h6 with ⟨h6, _⟩ | h6
          · have := he2.2; omega
          · have : e < mN τ := by
              rcases h.1.2.2.2.2.1 with ⟨h9, _⟩ | h9
              · have := h6.1; omega
              · exact h9.1
            omega
        · right; omega
      · rcases g8 with g8 | g8
        · left
          have h6 := h1.2.2.2.2.1
          rcases h6 with ⟨h6, _⟩ | h6
          · have := he2.2; omega
          · have : e < mN τ := by
              rcases h.1.2.2.2.2.1 with ⟨h9, _⟩ | h9
              · have := h6.1; omega
              · exact h9.1
            omega
        · right; omega
    · obtain ⟨q', lo', hi', a1, a2, a3, a4, a5, a6⟩ := h5 i (by omega)
      have a5' : e2 < lo' ∨ hi' ≤ e2 := by
        rcases g8 with g8 | g8
        · rw [g8]; exact a5
        · right; omega
      exact ⟨q', lo', hi', by rw [t6, g5 i (by omega)]; exact a1, a2, a3, by omega, a5', hP i lo' hi' q' τ1 τ2 (ag lo' hi' a2 a4 a5') a6⟩
