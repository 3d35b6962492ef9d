/-! THE PLAIN LAW, 64: rows of conditions -/
set_option maxRecDepth 100000
def rowV (all : Bool) (cs : Nat → Cn) (n : Nat) (E : Nat → Int32) : Bool := ((List.range n).all fun j => cs j E == all) == all
theorem rowV_s {all : Bool} {cs : Nat → Cn} {n : Nat} {E : Nat → Int32} : rowV all cs (n + 1) E = if all = true then rowV all cs n E && cs n E else rowV all cs n E || cs n E := by
  unfold rowV
  rw [List.range_succ, List.all_append]
  cases ((List.range n).all fun j => cs j E == all) <;> cases all <;> simp
theorem rowV_congr {all : Bool} {cs ds : Nat → Cn} {n : Nat} {E : Nat → Int32} (h : ∀ i, i < n → cs i = ds i) : rowV all cs n E = rowV all ds n E := by
  induction n with
  | zero => rfl
  | succ n ih => rw [rowV_s, rowV_s, ih fun i hi => h i (by omega), h n (by omega)]
theorem rowV_iff {all : Bool} {cs : Nat → Cn} {n : Nat} {E : Nat → Int32} : rowV all cs n E = if ∀ j, j < n → 0 ≤ j → cs j E = all then all else !all := by
  unfold rowV
  by_cases h : ∀ j, j < n → 0 ≤ j → cs j E = all
  · rw [if_pos h, List.all_eq_true.mpr (fun j hj => by rw [h j (List.mem_range.mp hj) (by omega)]; exact beq_self_eq_true _)]
    cases all <;> rfl
  · rw [if_neg h]
    have : ((List.range n).all fun j => cs j E == all) = false := by
      rw [Bool.eq_false_iff]
      intro h2
      rw [List.all_eq_true] at h2
      exact h fun j hj _ => eq_of_beq (h2 j (List.mem_range.mpr hj))
    rw [this]
    cases all <;> rfl
theorem rl_ag {σ0 τ μ : Mm} {q0 l n e : Nat} {P : Nat → Nat → Nat → Nat → Mm → Prop} (h : LI σ0 τ q0 l n e P) (ag : Ag (mN σ0) (mN τ) τ μ) : RL l n e μ ∧ ∀ i, i < n → mR μ e i = mR τ e i := by
  obtain ⟨h1, ⟨h2, h3, h4, h5, h6⟩, h7, h8, h9⟩ := h
  have hl : l < mN τ := h1.2.2.2.2.2.1.2
  have hrl := h1.rl
  have he : 0 < n → mN σ0 ≤ e ∧ e < mN τ := fun hn => by
    have h10 := h1.2.2.2.2.1
    rcases h10 with ⟨_, h10⟩ | h10
    · omega
    · refine ⟨?_, h10.1⟩
      rcases h8 with h8 | h8
      · have := h10.1; have := h7.2.1; omega
      · exact h8
  refine ⟨?_, fun i hi => ?_⟩
  · obtain ⟨a1, a2, a3, a4⟩ := ag l h4 hl
    refine ⟨by rw [a1]; exact hrl.1, by rw [a3]; exact hrl.2.1, by rw [a4]; exact hrl.2.2.1, hrl.2.2.2.1, fun hn => ?_⟩
    obtain ⟨b1, b2, b3, b4⟩ := ag e (he hn).1 (he hn).2
    rw [b1, b2]; exact hrl.2.2.2.2 hn
  · have aq := he (by omega)
    rw [(ag e aq.1 aq.2).2.2.2]
/-- what a row means -/
theorem R_val {σ0 τ : Mm} {q0 l n e D : Nat} {all : Bool} {cs : Nat → Cn} (h : LI σ0 τ q0 l n e fun i lo hi q τ => Cg D lo hi q (cs i) τ) (hs : mS τ q0 = 12) (hr : mR τ q0 1 = some l) (hi0 : mI τ q0 0 = bN all) : Cg (D + 1) (mN σ0) (mN τ) q0 (fun E => rowV all cs n E) τ := by
  have hB : BIG = 1000000 := rfl
  have h' := h
  obtain ⟨h1, ⟨h2, h3, h4, h5, h6⟩, h7, h8, h9⟩ := h
  refine ⟨Or.inl hs, ⟨h2, h3⟩, fun μ D' hD ag ev => ?_⟩
  obtain ⟨D', rfl⟩ : ∃ D'', D' = D'' + 1 := ⟨D' - 1, by omega⟩
  obtain ⟨hrμ, heμ⟩ := rl_ag h' ag
  have hn := hrμ.2.2.2.1
  have s12 : mS μ q0 = 12 := by rw [(ag q0 h2 h3).1]; exact hs
  have r12 : mR μ q0 1 = some l := by rw [(ag q0 h2 h3).2.2.2]; exact hr
  have i12 : mI μ q0 0 = bN all := by rw [(ag q0 h2 h3).2.2.1]; exact hi0
  have bb : ∀ x y : Bool, (bN x = bN y) = (x = y) := by decide
  have lp : ∀ (kx ky : Mm → Option (Int32 × Mm)) (j i m : Nat), i + j = n → j < m → RX12_holds_2 (Fholds D') q0 (some 39) m (N i) μ kx ky = if ∀ j, j < n → i ≤ j → cs j (CE μ) = all then kx μ else ky μ := fun kx ky j => by
    induction j with
    | zero =>
      intro i m hi hm
      obtain ⟨m, rfl⟩ : ∃ m', m = m' + 1 := ⟨m - 1, by omega⟩
      rw [RX12_holds_2, gR_s s12 r12, Option.bind_some, rv_s hrμ.1, Option.bind_some, J_size hrμ, Option.bind_some]
      dsimp only
      rw [if_pos (by rw [N_le (by omega) (by omega)]; omega), if_pos (fun j a b => by omega)]
    | succ j ih =>
      intro i m hi hm
      obtain ⟨m, rfl⟩ : ∃ m', m = m' + 1 := ⟨m - 1, by omega⟩
      obtain ⟨q, lo, hi', c1, c2, c3, c4, c5, c6⟩ := h9 i (by omega)
      have rq : mR μ e i = some q := (heμ i (by omega)).trans c1
      have g2 := c6.2.2 μ D' (by omega) (ag.sub (by omega) c4) ev
      have sq : mS μ q = mS τ q := (ag q (by have := c6.2.1; omega) (by have := c6.2.1; omega)).1
      have cq : rvC (some q) μ = some q := by
        simp only [rvC, Option.bind_some]
        rw [if_pos (by rw [sq]; exact c6.1)]
      rw [RX12_holds_2, gR_s s12 r12, Option.bind_some, rv_s hrμ.1, Option.bind_some, J_size hrμ, Option.bind_some]
      dsimp only
      rw [if_neg (by rw [N_le (by omega) (by omega)]; omega), gR_s s12 r12, Option.bind_some, rv_s hrμ.1, Option.bind_some, J_get hrμ (by omega), Option.bind_some]
      dsimp only
      rw [rq, cq, Option.bind_some]
      show ((Fholds D' q (some 39) μ).bind _) = _
      rw [g2, Option.bind_some]
      dsimp only
      rw [gI_s s12, Option.bind_some, i12]
      by_cases hc : cs i (CE μ) = all
      · rw [if_pos (by rw [hc]), l1_, N_add, ih (i + 1) m (by omega) (by omega)]
        by_cases h10 : ∀ j, j < n → i + 1 ≤ j → cs j (CE μ) = all
        · rw [if_pos h10, if_pos (fun j a b => by
            by_cases e1 : j = i
            · rw [e1]; exact hc
            · exact h10 j (by omega) (by omega))]
        · rw [if_neg h10, if_neg (fun h11 => h10 fun j a b => h11 j (by omega) (by omega))]
      · rw [if_neg (by rw [bb]; exact hc), if_neg (fun h11 => hc (h11 i (by omega) (by omega)))]
  show Fholds (D' + 1) q0 (some 39) μ = some (bN (rowV all cs n (CE μ)), μ)
  show (if mS μ q0 = 12 then RX12_holds (Fholds D') q0 (some 39) μ else _) = _
  rw [if_pos s12, rowV_iff]
  unfold RX12_holds
  rw [l0_, lp _ _ n 0 fu (by omega) (by unfold fu; omega)]
  by_cases h10 : ∀ j, j < n → 0 ≤ j → cs j (CE μ) = all
  · rw [if_pos h10, if_pos h10, gI_s s12, Option.bind_some, i12, rZ_b]
  · rw [if_neg h10, if_neg h10, gI_s s12, Option.bind_some, i12, l1_, rZ_0, rZ_1]
    cases all
    · exact if_pos rfl
    · exact if_neg (by decide)
/-- one loop for both -/
def lpA (F : Nat → Mm → DX (Option Nat × Mm)) (cq : Nat) (h0 : Nat) (y1 : Option Nat) : Nat → Mm → (Mm → DX (Option Nat × Mm)) → DX (Option Nat × Mm)
  | 0, _, _ => none
  | n+1, σ, kx =>
    (gR 12 1 y1 σ).bind fun x26 =>
    ck 1 h0 σ <|
    db (F h0 σ) fun x =>
    (rv 17 x26 x.2).bind fun q30 =>
    db (FJ3_add q30 x.1 x.2) fun y =>
    (gR 1 4 (some h0) y.2).bind fun x34 =>
    (rv 3 x34 y.2).bind fun q35 =>
    db (FX3_passesk01 q35 (some cq) y.2) fun z =>
    (if z.1 = 0 then kx z.2 else lpA F cq h0 y1 n z.2 kx)
theorem allOf_lp {Rf : Nat → Mm → DX (Option Nat × Mm)} {h0 : Nat} {y1 : Option Nat} : ∀ n σ kx, RX1_allOf_9 Rf h0 y1 n σ kx = lpA Rf (BIG + 2 * 12) h0 y1 n σ kx
  | 0, _, _ => rfl
  | n+1, σ, kx => by
    have ih := allOf_lp (Rf := Rf) (h0 := h0) (y1 := y1) n
    rw [RX1_allOf_9, lpA]
    simp only [ih]
theorem cond_lp {Rf : Nat → Mm → DX (Option Nat × Mm)} {h0 : Nat} {y1 : Option Nat} : ∀ n σ kx, RX1_cond_9 Rf h0 y1 n σ kx = lpA (RX1_allOf Rf) (BIG + 2 * 13) h0 y1 n σ kx
  | 0, _, _ => rfl
  | n+1, σ, kx => by
    have ih := cond_lp (Rf := Rf) (h0 := h0) (y1 := y1) n
    rw [RX1_cond_9, lpA]
    simp only [ih]
theorem LI_wA {σ0 τ : Mm} {q0 l n e : Nat} {P : Nat → Nat → Nat → Nat → Mm → Prop} {f : Nat → Int32} (hP : ∀ i lo hi q σ τ, Ag lo hi σ τ → P i lo hi q σ → P i lo hi q τ) (h : LI σ0 τ q0 l n e P) : LI σ0 (wA τ q0 f) q0 l n e P := by
  obtain ⟨h1, ⟨h2, h3, h4, h5, h6⟩, h7, h8, h9⟩ := h
  have e1 : mI (wA τ q0 f) l = mI τ l := if_neg (by omega)
  refine ⟨AL_at (σ := τ) ⟨rfl, e1, rfl⟩ (fun _ => ⟨rfl, rfl, rfl⟩) (Nat.le_refl _) (fun _ _ => rfl) h1, ⟨h2, h3, h4, h5, h6⟩, FA_wA h7 h2 h3, h8, fun i hi => ?_⟩
  obtain ⟨q, lo, hi', c1, c2, c3, c4, c5, c6⟩ := h9 i hi
  exact ⟨q, lo, hi', c1, c2, c3, c4, c5, hP i lo hi' q τ _ (fun p a b => ⟨rfl, rfl, if_neg (by omega), rfl⟩) c6⟩
section
variable {T : Nat → Nat} {e : Nat} {σ : Mm} {a b d x : Int32} {k dd : Nat}
theorem wd_sp (hk : T k = 32) : wd T e k = k := by
  unfold wd
  cases e - k with
  | zero => rfl
  | succ d => rw [wh, if_neg (by omega)]
theorem wd_sk : wd T e k - k ≤ wd T e (sk T e k) - sk T e k := by
  by_cases h : T k = 32
  · rw [wd_sp h]; omega
  · rw [sk_eq h]; exact Nat.le_refl _
theorem C_many_9 {σ0 : Mm} {q0 l D cq : Nat} {w : List Nat} {all : Bool} {op : Bool → Bool → Bool} {F : Nat → Mm → DX (Option Nat × Mm)} {Rs : Nat → PR Cn} {m1 S1 S2 M : Nat} (hM : 3000 ≤ M) (hT : TX T e) (h : RT T e σ0) (hK : KS σ0) (h0 : 76 ≤ mN σ0) (hm1 : m1 = 0 ∨ m1 = 1) (h5 : 5 ≤ S1) (h85 : 850 ≤ S2) (hop : ∀ x y, op x y = if all = true then x && y else x || y) (hw : 2 ≤ w.length) (hcq : BIG ≤ cq) (hkc : kS cq = 520) (hKW : ∀ τ, KS τ → KW cq w τ) (hb : ∀ k, k ≤ e → Bd e k (Rs k)) (hF : ∀ k τ b, k ≤ e → RT T e τ → KS τ → 76 ≤ mN τ → mN τ + 400 * (e + 1 - k) + M ≤ BIG → CP T e 60 3000 S1 S2 m1 (5 * m1) τ k dd (Cg D) (Rs k) (F 0 (rs τ (N k) b (N dd)))) (kx : Mm → DX (Option Nat × Mm)) : ∀ (j k n : Nat) (acc : Cn) (cs : Nat → Cn) (e' : Nat) (τ : Mm) (b : Int32) (m : Nat), k ≤ e → e < k + j → j ≤ m → n ≤ k → LI σ0 τ q0 l n e' (fun i lo hi q τ => Cg D lo hi q (cs i) τ) → (∀ E, rowV all cs n E = acc E) → mS τ q0 = 12 → mR τ q0 1 = some l → mI τ q0 0 = bN all → mN τ + 400 * (e + 1 - k) + M ≤ BIG → match pb (Rs k) (fun g k2 => manyL T e w op Rs j (fun E => op (acc E) (g E)) k2) with
    | .ok u => ∃ τ' b' c z v, lpA F cq 0 (some q0) m (rs τ (N k) b (N dd)) kx = pay c z (kx (rs τ' (N u.2) b' (N dd))) ∧ FA σ0 τ' ∧ Cg (D + 1) (mN σ0) (mN τ') q0 u.1 τ' ∧ c ≤ v ∧ mN τ' ≤ mN τ + v ∧ v + S1 ≤ 60 * (u.2 - k) + (m1 + 1) * (wd T e u.2 - u.2) + 5 ∧ z + S2 ≤ 3000 * (u.2 - k) + (5 * m1 + 5) * (wd T e u.2 - u.2) + 850
    | .error p => ∃ τ' a d' c z v, lpA F cq 0 (some q0) m (rs τ (N k) b (N dd)) kx = some (.inr (1, rs τ' a (N p) d'), c, z) ∧ FA σ0 τ' ∧ c ≤ v ∧ mN τ' ≤ mN τ + v ∧ v + S1 ≤ 60 * (e + 1 - k) + 5 ∧ z + S2 ≤ 3000 * (e + 1 - k) + 850 := by
  have hB : BIG = 1000000 := rfl
  have he := hT.1
  intro j
  induction j with
  | zero => intro k n acc fs e' τ b m hk hj; omega
  | succ j ih =>
    intro k n acc fs e' τ b m hk hj hm hnk hL hacc hs hr hi0 hN
    obtain ⟨m, rfl⟩ : ∃ m', m = m' + 1 := ⟨m - 1, by omega⟩
    have hFA := hL.2.2.1
    have hCτ := hFA.fc h0 h.1
    have hRτ := hFA.rt h0 h
    have hKτ := hFA.ks hK
    have hNτ := hFA.1
    have hl : mS τ l = 17 := hL.1.1
    have hp := hF k τ b hk hRτ hKτ (by omega) hN
    have hbk := hb k hk
    rw [lpA, gR_s (show mS (rs τ (N k) b (N dd)) q0 = 12 from hs) (show mR (rs τ (N k) b (N dd)) q0 1 = some l from hr), Option.bind_some, fc_ck0 (FC_rs hCτ)]
    revert hp hbk
    cases Rs k with
    | error p =>
      intro hp hbk
      obtain ⟨τ', a, d', c, z, v, p1, p2, p3, p4, p5, p6⟩ := hp
      refine ⟨τ', a, d', c, z, v, ?_, hFA.trans p2, p3, p4, by omega, by omega⟩
      rw [p1]; rfl
    | ok u =>
      intro hp hbk
      obtain ⟨g, k2⟩ := u
      have hbk : k < k2 ∧ k2 ≤ e := hbk
      obtain ⟨q, τ1, b1, c, z, v, p1, p2, p3, p4, p5, p6, p7⟩ := hp
      have p1 : F 0 (rs τ (N k) b (N dd)) = some (.inl (some q, rs τ1 (N k2) b1 (N dd)), c, z) := p1
      have p6 : v + S1 ≤ 60 * (k2 - k) + m1 * (wd T e k2 - k2) := p6
      have p7 : z + S2 ≤ 3000 * (k2 - k) + 5 * m1 * (wd T e k2 - k2) := p7
      have p3 : Cg D (mN τ) (mN τ1) q g τ1 := p3
      have hK1 := p2.ks hKτ
      have h1 := sk_le (T := T) hbk.2
      have h1' := sk_ge (T := T) (e := e) (k := k2)
      have hwk := wd_sk (T := T) (e := e) (k := k2)
      have hw1 := wd_ge (T := T) (e := e) (k := sk T e k2)
      have hw2 := wd_le (T := T) h1
      have hw3 := wd_ge (T := T) (e := e) (k := k2)
      have hw4 := wd_le (T := T) hbk.2
      have nb : mN τ1 + 400 * (e + 1 - k2) + M + S1 ≤ BIG + m1 * (wd T e k2 - k2) := by
        rcases hm1 with rfl | rfl <;> omega
      let gs : Nat → Cn := fun i => if i = n then g else fs i
      have gsn : gs n = g := if_pos rfl
      have gsi : ∀ i, i < n → gs i = fs i := fun i hi => if_neg (by omega)
      have hL' : LI σ0 τ q0 l n e' (fun i lo hi q τ => Cg D lo hi q (gs i) τ) := LI_P hL fun i lo hi q hi' hP => by rw [gsi i hi']; exact hP
      have ob : obj τ1 q = true := by
        have := p3.1
        unfold obj
        rcases this with o | o | o | o <;> rw [o] <;> decide
      have hN1 : mN τ1 + 2000 ≤ BIG := by rcases hm1 with rfl | rfl <;> omega
      obtain ⟨τ2, e2, c2, z2, a1, a2, a3, a4, a5, a6, a7, a8, a9⟩ := LI_add (a := N k2) (b := b1) (d := N dd) (P := fun i lo hi q τ => Cg D lo hi q (gs i) τ) (fun i lo hi q σ τ ag hP => hP.ag ag) h0 hL' p2 (lo := mN τ) (hi := mN τ1) (q := q) (by show Cg D _ _ _ (gs n) _; rw [gsn]; exact p3) ⟨Nat.le_refl _, Nat.le_refl _, p3.2.1.2⟩ ob (by omega) (by omega) hK1
      have hF2 := a2.2.2.1
      have hC2 := hF2.fc h0 h.1
      have hR2 := hF2.rt h0 h
      have hq0τ := hL.2.1.2.1
      have hq01 : q0 < mN τ1 := by have := p2.1; omega
      have hlτ : l < mN τ := hL.1.2.2.2.2.2.1.2
      have s1 : mS τ1 l = 17 := by rw [(p2.2.2.1 l (by omega)).1]; exact hl
      obtain ⟨τ3, c3, z3, f1, f2, f3, f4, f5⟩ := C_passes (b := b1) (d := N dd) hT hR2 (by have := hF2.1; omega) (by omega) hbk.2 hcq hkc hKW a9
      have hq02 : q0 < mN τ2 := by omega
      have hlm : l < mN τ2 := a2.1.2.2.2.2.2.1.2
      have s3 : mS τ3 q0 = 12 := by rw [(f2.2.2.1 q0 (by omega)).1, a7 q0 hq01, (p2.2.2.1 q0 (by omega)).1]; exact hs
      have r3 : mR τ3 q0 1 = some l := by rw [(f2.2.2.1 q0 (by omega)).2.2.2, (a8 q0 a2.2.1.2.2.2.2 a2.2.1.2.2.2.1).2, (p2.2.2.1 q0 (by omega)).2.2.2]; exact hr
      have i3 : mI τ3 q0 0 = bN all := by rw [(f2.2.2.1 q0 (by omega)).2.2.1, (a8 q0 a2.2.1.2.2.2.2 a2.2.1.2.2.2.1).1, (p2.2.2.1 q0 (by omega)).2.2.1]; exact hi0
      have hL3 := LI_fa (fun i lo hi q σ τ ag (hP : Cg D lo hi q (gs i) σ) => hP.ag ag) a2 f2
      have hF3 := hF2.trans f2
      have hC3 := hF3.fc h0 h.1
      have hacc2 : ∀ E, rowV all gs (n + 1) E = op (acc E) (g E) := fun E => by
        rw [rowV_s, gsn, rowV_congr gsi, hacc, hop]
      rw [p1, db_in]
      dsimp only
      rw [rv_s (show mS (rs τ1 (N k2) b1 (N dd)) l = 17 from s1), Option.bind_some, a1, db_in]
      dsimp only
      rw [fc_gR0_4 (FC_rs hC2), Option.bind_some, fc_rv37 (FC_rs hC2), Option.bind_some, f1, db_in]
      dsimp only
      show match (if isW T e (sk T e k2) w = true then pb (Rs (wd T e (sk T e k2))) fun g' k3 => manyL T e w op Rs j (fun E => op (op (acc E) (g E)) (g' E)) k3 else Except.ok ((fun E => op (acc E) (g E)), sk T e k2)) with
        | .ok u => _
        | .error p => _
      by_cases c43 : isW T e (sk T e k2) w = true
      · have hlen := isW_len c43
        rw [if_pos c43, if_pos c43, c43, if_neg (show ¬ (bN true : Int32) = 0 by decide)]
        have hbd := Bd_pb (j := wd T e (sk T e k2)) (Nat.le_refl _) (hb _ hw2) (f := fun g' k3 => manyL T e w op Rs j (fun E => op (op (acc E) (g E)) (g' E)) k3) fun v k' _ b => manyL_bd (by omega) hb j _ k' b
        have hi := ih (wd T e (sk T e k2)) (n + 1) (fun E => op (acc E) (g E)) gs e2 τ3 (N (sk T e k2)) m hw2 (by omega) (by omega) (by omega) hL3 hacc2 s3 r3 i3 (by rcases hm1 with rfl | rfl <;> omega)
        revert hi hbd
        cases pb (Rs (wd T e (sk T e k2))) (fun g' k3 => manyL T e w op Rs j (fun E => op (op (acc E) (g E)) (g' E)) k3) with
        | error p =>
          rintro hbd ⟨τ', a, d', c', z', w', i1, i2, i3, i4, i5, i6⟩
          refine ⟨τ', a, d', c + (c2 + (c3 + c')), z + (z2 + (z3 + z')), v + (1 + (c3 + w')), ?_, i2, by omega, by omega, ?_, ?_⟩
          · rw [i1]; rfl
          · rcases hm1 with rfl | rfl <;> omega
          · rcases hm1 with rfl | rfl <;> omega
        | ok u =>
          rintro hbd ⟨τ', b', c', z', w', i1, i2, i3, i4, i5, i6, i7⟩
          obtain ⟨g3, k3⟩ := u
          have i6 : w' + S1 ≤ 60 * (k3 - wd T e (sk T e k2)) + (m1 + 1) * (wd T e k3 - k3) + 5 := i6
          have i7 : z' + S2 ≤ 3000 * (k3 - wd T e (sk T e k2)) + (5 * m1 + 5) * (wd T e k3 - k3) + 850 := i7
          have hbd : wd T e (sk T e k2) < k3 ∧ k3 ≤ e := hbd
          refine ⟨τ', b', c + (c2 + (c3 + c')), z + (z2 + (z3 + z')), v + (1 + (c3 + w')), ?_, i2, i3, by omega, by omega, ?_, ?_⟩
          · rw [i1, pay_pay, pay_pay, pay_pay, Nat.add_assoc, Nat.add_assoc, Nat.add_assoc, Nat.add_assoc]
          · show v + (1 + (c3 + w')) + S1 ≤ 60 * (k3 - k) + (m1 + 1) * (wd T e k3 - k3) + 5
            rcases hm1 with rfl | rfl <;> omega
          · show z + (z2 + (z3 + z')) + S2 ≤ 3000 * (k3 - k) + (5 * m1 + 5) * (wd T e k3 - k3) + 850
            rcases hm1 with rfl | rfl <;> omega
      · have cF : isW T e (sk T e k2) w = false := by
          cases hh : isW T e (sk T e k2) w
          · rfl
          · exact absurd hh c43
        rw [if_neg c43, if_neg c43, cF, if_pos (show (bN false : Int32) = 0 from rfl)]
        have sv := R_val hL3 s3 r3 i3
        have e1 : (fun E => rowV all gs (n + 1) E) = fun E => op (acc E) (g E) := funext hacc2
        rw [e1] at sv
        refine ⟨τ3, N (sk T e k2), c + (c2 + c3), z + (z2 + z3), v + (1 + c3), ?_, hF3, sv, by omega, by omega, ?_, ?_⟩
        · rw [pay_pay, pay_pay, Nat.add_assoc, Nat.add_assoc]
        · show v + (1 + c3) + S1 ≤ 60 * (sk T e k2 - k) + (m1 + 1) * (wd T e (sk T e k2) - sk T e k2) + 5
          rcases hm1 with rfl | rfl <;> omega
        · show z + (z2 + z3) + S2 ≤ 3000 * (sk T e k2 - k) + (5 * m1 + 5) * (wd T e (sk T e k2) - sk T e k2) + 850
          rcases hm1 with rfl | rfl <;> omega
end
