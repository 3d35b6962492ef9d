/-! THE PLAIN LAW, 65: HungFaces reads conditions -/
set_option maxRecDepth 100000
theorem wd_dig {T : Nat → Nat} {e k : Nat} (h : ¬ (97 ≤ T k ∧ T k ≤ 122)) : wd T e k = k := by
  unfold wd
  cases e - k with
  | zero => rfl
  | succ d => rw [wh, if_neg h]
theorem partP_wd {T : Nat → Nat} {e k : Nat} (hk : k ≤ e) {u : Sm × Nat} (h : partP T e k = .ok u) : wd T e (sk T e k) ≤ u.2 := by
  have hb := partP_bd (T := T) hk
  rw [h] at hb
  have hb : k < u.2 ∧ u.2 ≤ e := hb
  unfold partP at h
  split at h
  · next hd =>
    rw [wd_dig (by omega)]
    unfold numP at h
    dsimp only at h
    have h3 := dg_ge (T := T) (e := e) (k := sk T e k)
    split at h
    · cases h
    · cases h; exact h3
  · revert h
    cases factP T e (sk T e k) with
    | none => intro h; cases h
    | some j => intro h; cases h; exact Nat.le_refl _
theorem sumP_wd {T : Nat → Nat} {e k : Nat} (hT : TX T e) (hk : k ≤ e) {u : Sm × Nat} (h : sumP T e k = .ok u) : wd T e (sk T e k) ≤ u.2 := by
  unfold sumP at h
  have hb := partP_bd (T := T) hk
  cases hp : partP T e k with
  | error p => rw [hp] at h; cases h
  | ok v =>
    rw [hp] at h hb
    have hb : k < v.2 ∧ v.2 ≤ e := hb
    have h1 := partP_wd hk hp
    have h2 := sumL_bd hT 401 v.1 v.2 hb.2
    have h : sumL T e 401 v.1 v.2 = .ok u := h
    rw [h] at h2
    have h2 : v.2 ≤ u.2 ∧ u.2 ≤ e := h2
    omega
/-! what a comparison, a tag, a not means -/
section
variable {lo hi q D : Nat} {σ : Mm}
theorem Cg_tag {b : Bool} (h1 : mS σ q = 14) (h2 : lo ≤ q ∧ q < hi) (h3 : mI σ q 0 = bN b) : Cg 1 lo hi q (fun E => E (if b = true then 6 else 7) == N 1) σ := by
  refine ⟨Or.inr (Or.inr (Or.inl h1)), h2, fun τ D' hD a ev => ?_⟩
  obtain ⟨D', rfl⟩ : ∃ D'', D' = D'' + 1 := ⟨D' - 1, by omega⟩
  obtain ⟨a1, a2, a3, a4⟩ := a q h2.1 h2.2
  have s : mS τ q = 14 := by rw [a1]; exact h1
  obtain ⟨hC, hK, ⟨b6, e6⟩, b7, e7⟩ := ev
  show (if mS τ q = 12 then _ else if mS τ q = 13 then _ else if mS τ q = 14 then RX14_holds (Fholds D') q (some 39) τ else _) = _
  rw [if_neg (by omega), if_neg (by omega), if_pos s]
  unfold RX14_holds
  rw [gI_s s, a3, h3, Option.bind_some]
  cases b
  · rw [if_pos (show (bN false : Int32) = 0 from rfl), fc_gI39 hC, Option.bind_some, e7, rZ_b]
    show some (bN b7, τ) = some (bN (mI τ 39 7 == N 1), τ)
    rw [e7, bN_beq]
  · rw [if_neg (show ¬ (bN true : Int32) = 0 by decide), fc_gI39 hC, Option.bind_some, e6, rZ_b]
    show some (bN b6, τ) = some (bN (mI τ 39 6 == N 1), τ)
    rw [e6, bN_beq]
theorem Cg_not {c : Cn} {p lo' hi' : Nat} (h1 : mS σ q = 13) (h2 : lo ≤ q ∧ q < hi) (h3 : mR σ q 0 = some p) (hc : Cg D lo' hi' p c σ) (h4 : lo ≤ lo' ∧ hi' ≤ hi) : Cg (D + 1) lo hi q (fun E => !c E) σ := by
  refine ⟨Or.inr (Or.inl h1), h2, fun τ D' hD a ev => ?_⟩
  obtain ⟨D', rfl⟩ : ∃ D'', D' = D'' + 1 := ⟨D' - 1, by omega⟩
  obtain ⟨a1, a2, a3, a4⟩ := a q h2.1 h2.2
  have s : mS τ q = 13 := by rw [a1]; exact h1
  have g := hc.2.2 τ D' (by omega) (a.sub h4.1 h4.2) ev
  show (if mS τ q = 12 then _ else if mS τ q = 13 then RX13_holds (Fholds D') q (some 39) τ else _) = _
  rw [if_neg (by omega), if_pos s]
  unfold RX13_holds
  rw [gR_s s (show mR τ q 0 = some p by rw [a4]; exact h3), Option.bind_some]
  show ((Fholds D' p (some 39) τ).bind _) = _
  rw [g, Option.bind_some]
  dsimp only
  cases c (CE τ)
  · exact (if_pos rfl).trans (rZ_1 _)
  · exact (if_neg (by decide)).trans (rZ_0 _)
theorem Cg_less {f g : Sm} {p r lo1 hi1 lo2 hi2 : Nat} (h1 : mS σ q = 18) (h2 : lo ≤ q ∧ q < hi) (h3 : mR σ q 0 = some p) (h4 : mR σ q 1 = some r) (hf : Sg lo1 hi1 p f σ) (hg : Sg lo2 hi2 r g σ) (h5 : lo ≤ lo1 ∧ hi1 ≤ hi) (h6 : lo ≤ lo2 ∧ hi2 ≤ hi) : Cg 1 lo hi q (fun E => decide (f E < g E)) σ := by
  refine ⟨Or.inr (Or.inr (Or.inr h1)), h2, fun τ D' hD a ev => ?_⟩
  obtain ⟨D', rfl⟩ : ∃ D'', D' = D'' + 1 := ⟨D' - 1, by omega⟩
  obtain ⟨a1, a2, a3, a4⟩ := a q h2.1 h2.2
  have s : mS τ q = 18 := by rw [a1]; exact h1
  have gf := hf.2.2 τ (a.sub h5.1 h5.2) ev
  have gg := hg.2.2 τ (a.sub h6.1 h6.2) ev
  have sp : mS τ p = 15 := by rw [(a p (by have := hf.2.1; omega) (by have := hf.2.1; omega)).1]; exact hf.1
  have sr : mS τ r = 15 := by rw [(a r (by have := hg.2.1; omega) (by have := hg.2.1; omega)).1]; exact hg.1
  show (if mS τ q = 12 then _ else if mS τ q = 13 then _ else if mS τ q = 14 then _ else if mS τ q = 18 then RX18_holds (Fholds D') q (some 39) τ else _) = _
  rw [if_neg (by omega), if_neg (by omega), if_neg (by omega), if_pos s]
  unfold RX18_holds
  rw [gR_s s (show mR τ q 0 = some p by rw [a4]; exact h3), Option.bind_some, rv_s sp, Option.bind_some, gf, Option.bind_some]
  dsimp only
  rw [gR_s s (show mR τ q 1 = some r by rw [a4]; exact h4), Option.bind_some, rv_s sr, Option.bind_some, gg, Option.bind_some]
  exact rZ_lt τ
end
section
variable {T : Nat → Nat} {e : Nat} {σ : Mm} {a b d x : Int32} {k dd D : Nat}
theorem C_rowH {all : Bool} {P : Nat → Nat → Nat → Nat → Mm → Prop} {x1 : Int32} (hx : x1 = bN all) (hP : ∀ i lo hi q σ τ, Ag lo hi σ τ → P i lo hi q σ → P i lo hi q τ) (h0 : 76 ≤ mN σ) (hN : mN σ + 2 ≤ BIG) : ∃ τ, (nO 12 (rs σ a b d)) = some (some (mN σ), rs (wN σ 12 0) a b d) ∧ rv 12 (some (mN σ)) (rs (wN σ 12 0) a b d) = some (mN σ) ∧ FX12_init (mN σ) x1 (rs (wN σ 12 0) a b d) = some (rs τ a b d) ∧ LI σ τ (mN σ) (mN σ + 1) 0 (BIG + 122) P ∧ mS τ (mN σ) = 12 ∧ mR τ (mN σ) 1 = some (mN σ + 1) ∧ mI τ (mN σ) 0 = bN all ∧ mN τ = mN σ + 2 := by
  have hB : BIG = 1000000 := rfl
  obtain ⟨μ, τ, g1, g2, g3, g4, g5, g6, g7, g8, g9, g10, g11⟩ := J_head (c := 12) (kf := 1) (a := a) (b := b) (d := d) (P := P) (by decide) h0 hN
  refine ⟨wA τ (mN σ) (up1 (mI τ (mN σ)) 0 x1), g1, g2, ?_, LI_wA hP g7, g8, g9, ?_, g10⟩
  · unfold FX12_init
    rw [g3, Option.bind_some]
    dsimp only
    rw [g4, Option.bind_some, g5, Option.bind_some, g6, Option.bind_some, pZ_s (show mS (rs τ a b d) (mN σ) = 12 from g8) (by rw [hx]; cases all; exact Or.inl rfl; exact Or.inr rfl), Option.bind_some, rs_q (by omega), rs_wA (by omega)]
  · rw [mI_wA, if_pos rfl, up1_app, if_pos rfl, hx]
theorem C_every {Rf : Nat → Mm → DX (Option Nat × Mm)} {Rs : Nat → PR Cn} (hT : TX T e) (h : RT T e σ) (hK : KS σ) (h0 : 76 ≤ mN σ) (hN : mN σ + 400 * (e + 1 - k) + 3100 ≤ BIG) (hb : ∀ k, k ≤ e → Bd e k (Rs k)) (hF : ∀ k τ b, k ≤ e → RT T e τ → KS τ → 76 ≤ mN τ → mN τ + 400 * (e + 1 - k) + 3000 ≤ BIG → CP T e 60 3000 25 2000 0 0 τ k dd (Cg D) (Rs k) (Rf 0 (rs τ (N k) b (N dd)))) (hk : k ≤ e) : CP T e 60 3000 15 1000 1 5 σ k dd (Cg (D + 1)) (everyP T e Rs k) (RX1_allOf Rf 0 (rs σ (N k) b (N dd))) := by
  have hB : BIG = 1000000 := rfl
  have he := hT.1
  obtain ⟨τ, g1, g2, g3, g4, g5, g6, g7, g8⟩ := C_rowH (a := N k) (b := b) (d := N dd) (all := true) (x1 := 1) rfl (P := fun i lo hi q τ => Cg D lo hi q ((fun _ _ => true : Nat → Cn) i) τ) (fun i lo hi q σ τ ag hP => hP.ag ag) h0 (by omega : mN σ + 2 ≤ BIG)
  have lp := C_many_9 (σ0 := σ) (q0 := mN σ) (l := mN σ + 1) (D := D) (cq := BIG + 2 * 12) (w := wAnd) (all := true) (op := and) (F := Rf) (Rs := Rs) (m1 := 0) (S1 := 25) (S2 := 2000) (dd := dd) (M := 3000) (by omega) hT h hK h0 (Or.inl rfl) (by omega) (by omega) (fun x y => rfl) (by decide) (by omega) (by decide) (fun τ h => kAnd h) hb hF (fun (σ' : Mm) => rt (some (mN σ), σ')) 401 k 0 (fun _ => true) (fun _ _ => true) (BIG + 122) τ b fu hk (by omega) (by unfold fu; omega) (by omega) g4 (fun _ => rfl) g5 g6 g7 (by omega)
  have e1 : pb (Rs k) (fun g k2 => manyL T e wAnd and Rs 401 (fun E => and ((fun _ => true : Cn) E) (g E)) k2) = everyP T e Rs k := by
    unfold everyP manyP
    cases Rs k with
    | error p => rw [pb_err, pb_err]
    | ok u =>
      rw [pb_ok, pb_ok]
      exact congrArg (fun f => manyL T e wAnd and Rs 401 f u.2) (funext fun E => rfl)
  rw [e1] at lp
  have hbd := everyP_bd (T := T) hb hk
  have run : RX1_allOf Rf 0 (rs σ (N k) b (N dd)) = pay 1 2 (pay 1 3 (lpA Rf (BIG + 2 * 12) 0 (some (mN σ)) fu (rs τ (N k) b (N dd)) fun σ' => rt (some (mN σ), σ'))) := by
    unfold RX1_allOf
    rw [g1, Option.bind_some]
    dsimp only
    rw [g2, Option.bind_some, g3, Option.bind_some, allOf_lp]
  rw [run]
  revert lp hbd
  cases everyP T e Rs k with
  | error p =>
    rintro ⟨τ', a, d', c', z', w', i1, i2, i3, i4, i5, i6⟩ hbd
    refine ⟨τ', a, d', 1 + (1 + c'), 2 + (3 + z'), w' + 2, ?_, i2, by omega, by omega, by omega, by omega⟩
    rw [i1]; rfl
  | ok u =>
    rintro ⟨τ', b', c', z', w', i1, i2, i3, i4, i5, i6, i7⟩ hbd
    obtain ⟨f, k2⟩ := u
    have i6 : w' + 25 ≤ 60 * (k2 - k) + (0 + 1) * (wd T e k2 - k2) + 5 := i6
    have i7 : z' + 2000 ≤ 3000 * (k2 - k) + (5 * 0 + 5) * (wd T e k2 - k2) + 850 := i7
    refine ⟨mN σ, τ', b', 1 + (1 + c'), 2 + (3 + z'), w' + 2, ?_, i2, i3, by omega, by omega, ?_, ?_⟩
    · rw [i1]; rfl
    · show w' + 2 + 15 ≤ 60 * (k2 - k) + 1 * (wd T e k2 - k2); omega
    · show 2 + (3 + z') + 1000 ≤ 3000 * (k2 - k) + 5 * (wd T e k2 - k2); omega
theorem C_cond {Rf : Nat → Mm → DX (Option Nat × Mm)} {Rs : Nat → PR Cn} (hT : TX T e) (h : RT T e σ) (hK : KS σ) (h0 : 76 ≤ mN σ) (hN : mN σ + 400 * (e + 1 - k) + 3300 ≤ BIG) (hb : ∀ k, k ≤ e → Bd e k (Rs k)) (hF : ∀ k τ b, k ≤ e → RT T e τ → KS τ → 76 ≤ mN τ → mN τ + 400 * (e + 1 - k) + 3000 ≤ BIG → CP T e 60 3000 25 2000 0 0 τ k dd (Cg D) (Rs k) (Rf 0 (rs τ (N k) b (N dd)))) (hk : k ≤ e) : CP T e 60 3000 5 100 2 10 σ k dd (Cg (D + 2)) (someP T e Rs k) (RX1_cond Rf 0 (rs σ (N k) b (N dd))) := by
  have hB : BIG = 1000000 := rfl
  have he := hT.1
  have hb2 : ∀ k, k ≤ e → Bd e k (everyP T e Rs k) := fun k hk => everyP_bd hb hk
  obtain ⟨τ, g1, g2, g3, g4, g5, g6, g7, g8⟩ := C_rowH (a := N k) (b := b) (d := N dd) (all := false) (x1 := 0) rfl (P := fun i lo hi q τ => Cg (D + 1) lo hi q ((fun _ _ => false : Nat → Cn) i) τ) (fun i lo hi q σ τ ag hP => hP.ag ag) h0 (by omega : mN σ + 2 ≤ BIG)
  have lp := C_many_9 (σ0 := σ) (q0 := mN σ) (l := mN σ + 1) (D := D + 1) (cq := BIG + 2 * 13) (w := wOr) (all := false) (op := or) (F := RX1_allOf Rf) (Rs := everyP T e Rs) (m1 := 1) (S1 := 15) (S2 := 1000) (dd := dd) (M := 3100) (by omega) hT h hK h0 (Or.inr rfl) (by omega) (by omega) (fun x y => rfl) (by decide) (by omega) (by decide) (fun τ h => kOr h) hb2 (fun k τ b h1 h2 h3 h4 h5 => C_every hT h2 h3 h4 (by omega) hb hF h1) (fun (σ' : Mm) => rt (some (mN σ), σ')) 401 k 0 (fun _ => false) (fun _ _ => false) (BIG + 122) τ b fu hk (by omega) (by unfold fu; omega) (by omega) g4 (fun _ => rfl) g5 g6 g7 (by omega)
  have e1 : pb (everyP T e Rs k) (fun g k2 => manyL T e wOr or (everyP T e Rs) 401 (fun E => or ((fun _ => false : Cn) E) (g E)) k2) = someP T e Rs k := by
    unfold someP manyP
    cases everyP T e Rs k with
    | error p => rw [pb_err, pb_err]
    | ok u =>
      rw [pb_ok, pb_ok]
      exact congrArg (fun f => manyL T e wOr or (everyP T e Rs) 401 f u.2) (funext fun E => rfl)
  rw [e1] at lp
  have run : RX1_cond Rf 0 (rs σ (N k) b (N dd)) = pay 1 2 (pay 1 3 (lpA (RX1_allOf Rf) (BIG + 2 * 13) 0 (some (mN σ)) fu (rs τ (N k) b (N dd)) fun σ' => rt (some (mN σ), σ'))) := by
    unfold RX1_cond
    rw [g1, Option.bind_some]
    dsimp only
    rw [g2, Option.bind_some, g3, Option.bind_some, cond_lp]
  rw [run]
  revert lp
  cases someP T e Rs k with
  | error p =>
    rintro ⟨τ', a, d', c', z', w', i1, i2, i3, i4, i5, i6⟩
    refine ⟨τ', a, d', 1 + (1 + c'), 2 + (3 + z'), w' + 2, ?_, i2, by omega, by omega, by omega, by omega⟩
    rw [i1]; rfl
  | ok u =>
    rintro ⟨τ', b', c', z', w', i1, i2, i3, i4, i5, i6, i7⟩
    obtain ⟨f, k2⟩ := u
    have i6 : w' + 15 ≤ 60 * (k2 - k) + (1 + 1) * (wd T e k2 - k2) + 5 := i6
    have i7 : z' + 1000 ≤ 3000 * (k2 - k) + (5 * 1 + 5) * (wd T e k2 - k2) + 850 := i7
    refine ⟨mN σ, τ', b', 1 + (1 + c'), 2 + (3 + z'), w' + 2, ?_, i2, i3, by omega, by omega, ?_, ?_⟩
    · rw [i1]; rfl
    · show w' + 2 + 5 ≤ 60 * (k2 - k) + 2 * (wd T e k2 - k2); omega
    · show 2 + (3 + z') + 100 ≤ 3000 * (k2 - k) + 10 * (wd T e k2 - k2); omega
theorem C_deeper (h0 : 76 ≤ mN σ) (hN : mN σ < BIG) (h : FC σ) (hd : dd ≤ 6) : (dd ≠ 6 → FX3_goesDeeper 37 (rs σ a b (N dd)) = rt (rs σ a b (N (dd + 1)))) ∧ (dd = 6 → ∃ τ, FX3_goesDeeper 37 (rs σ a b (N dd)) = some (.inr (1, rs τ a b (N dd)), 1, 6) ∧ FA σ τ ∧ mN τ = mN σ + 1) := by
  refine ⟨fun h6 => ?_, fun h6 => ?_⟩
  · unfold FX3_goesDeeper
    rw [c_g6 h, Option.bind_some, l6_, if_neg (by rw [N_inj (by omega) (by omega)]; exact h6), Option.bind_some, c_p6 h, Option.bind_some, l1_, N_add]
  · obtain ⟨τ, -, -, w3, w4, w5⟩ := C_wrongI (a := a) (b := b) (d := N dd) h0 hN h
    refine ⟨τ, ?_, w4, w5⟩
    unfold FX3_goesDeeper
    rw [c_g6 h, Option.bind_some, l6_, if_pos (by rw [h6]), c_ck h]
    exact w3
theorem C_up (h : FC σ) : FX3_comesUp 37 (rs σ a b (N (dd + 1))) = some (rs σ a b (N dd)) := by
  unfold FX3_comesUp
  rw [c_g6 h, Option.bind_some, c_p6 h, Option.bind_some, l1_, N_pred, dN_s]
end
