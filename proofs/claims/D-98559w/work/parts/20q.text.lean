/-! THE PLAIN LAW, 66: HungFaces reads an atom -/
set_option maxRecDepth 100000
section
variable {T : Nat → Nat} {e : Nat} {σ : Mm} {a b d x : Int32} {k dd : Nat}
/-- two sums, one less than the other -/
theorem C_two (hT : TX T e) {σ0 : Mm} {p1 lo1 hi1 : Nat} {f : Sm} (hf : Sg lo1 hi1 p1 f σ0) (hhi : hi1 ≤ mN σ0) (h : RT T e σ0) (hK : KS σ0) (h0 : 76 ≤ mN σ0) (hN : mN σ0 + 11 * (e + 1 - k) + 2100 ≤ BIG) (hk : k ≤ e) (sw : Bool) : match pb (sumP T e k) (fun g k4 => (Except.ok ((fun E => if sw = true then decide (g E < f E) else decide (f E < g E)), k4) : PR Cn)) with
    | .ok u => ∃ τ b' c z w, pay 1 2 ((nO 18 (rs σ0 (N k) b (N dd))).bind fun x => ck 1 0 x.2 <| db (FX1_sum 0 x.2) fun y => (rv 18 x.1 y.2).bind fun q => (FX18_init q (if sw = true then y.1 else some p1) (if sw = true then some p1 else y.1) y.2).bind fun σ56 => rt (x.1, σ56)) = some (.inl (some (mN σ0), rs τ (N u.2) b' (N dd)), c, z) ∧ FA σ0 τ ∧ (∀ lo, lo ≤ lo1 → lo ≤ mN σ0 → Cg 1 lo (mN τ) (mN σ0) u.1 τ) ∧ c ≤ w ∧ mN τ ≤ mN σ0 + w ∧ w ≤ 13 * (u.2 - k) + 1 ∧ z ≤ 870 * (u.2 - k) + 2
    | .error p => ∃ τ a d' c z w, pay 1 2 ((nO 18 (rs σ0 (N k) b (N dd))).bind fun x => ck 1 0 x.2 <| db (FX1_sum 0 x.2) fun y => (rv 18 x.1 y.2).bind fun q => (FX18_init q (if sw = true then y.1 else some p1) (if sw = true then some p1 else y.1) y.2).bind fun σ56 => rt (x.1, σ56)) = some (.inr (1, rs τ a (N p) d'), c, z) ∧ FA σ0 τ ∧ c ≤ w ∧ mN τ ≤ mN σ0 + w ∧ w ≤ 13 * (e + 1 - k) + 1 ∧ z ≤ 870 * (e + 1 - k) + 2 := by
  have hB : BIG = 1000000 := rfl
  have he := hT.1
  have hF : FA σ0 (wN σ0 18 0) := FA_wN (by omega)
  have n1 : mN (wN σ0 18 0) = mN σ0 + 1 := rfl
  have hC1 := hF.fc h0 h.1
  have hR1 := hF.rt h0 h
  have hK1 := hF.ks hK
  have s18 : mS (wN σ0 18 0) (mN σ0) = 18 := by rw [mS_wN, if_pos rfl]
  have hs := C_sum (σ := wN σ0 18 0) (k := k) (b := b) (dd := dd) hT hR1 hK1 (by omega) (by omega) hk
  rw [nO_s (show mN (rs σ0 (N k) b (N dd)) < BIG by rw [rs_mN]; omega), Option.bind_some, rs_mN, rs_wN h0]
  dsimp only
  rw [fc_ck0 (FC_rs hC1)]
  revert hs
  cases sumP T e k with
  | error p =>
    rintro ⟨τ, a, d', c, z, w, p1, p2, p3, p4, p5, p6⟩
    refine ⟨τ, a, d', 1 + c, 2 + z, w + 1, ?_, hF.trans p2, by omega, by omega, by omega, by omega⟩
    rw [p1]; rfl
  | ok u =>
    rintro ⟨q, τ, b1, c, z, w, p1', p2, p3, p4, p5, p6, p7⟩
    obtain ⟨g, k4⟩ := u
    have p1' : FX1_sum 0 (rs (wN σ0 18 0) (N k) b (N dd)) = some (.inl (some q, rs τ (N k4) b1 (N dd)), c, z) := p1'
    have p6 : w + 0 ≤ 13 * (k4 - k) + 0 * (wd T e k4 - k4) := p6
    have p7 : z + 0 ≤ 870 * (k4 - k) + 0 * (wd T e k4 - k4) := p7
    have p3 : Sg (mN σ0 + 1) (mN τ) q g τ := p3
    have hNτ : mN σ0 + 1 ≤ mN τ := p2.1
    have st : mS τ (mN σ0) = 18 := by rw [(p2.2.2.1 (mN σ0) (by omega)).1]; exact s18
    have hF2 := hF.trans p2
    have hf' : Sg lo1 hi1 p1 f τ := hf.ag (hF2.ag hhi)
    rw [p1', db_in]
    dsimp only
    rw [rv_s (show mS (rs τ (N k4) b1 (N dd)) (mN σ0) = 18 from st), Option.bind_some]
    unfold FX18_init
    rw [pR_s (show mS (rs τ (N k4) b1 (N dd)) (mN σ0) = 18 from st), Option.bind_some, rs_wR, pR_s (show mS (rs (wR τ (mN σ0) 0 _) (N k4) b1 (N dd)) (mN σ0) = 18 from st), Option.bind_some, Option.bind_some, rs_wR]
    refine ⟨_, b1, 1 + (c + 0), 2 + (z + 0), w + 1, rfl, FA_wR (FA_wR hF2 (Nat.le_refl _) (by omega)) (Nat.le_refl _) (by show mN σ0 < mN τ; omega), fun lo hl1 hl2 => ?_, by omega, by show mN τ ≤ _; omega, ?_, ?_⟩
    · have ag : ∀ v1 v2 lo hi, mN σ0 < lo ∨ hi ≤ mN σ0 → Ag lo hi τ (wR (wR τ (mN σ0) 0 v1) (mN σ0) 1 v2) := fun v1 v2 lo hi hh p h1 h2 => ⟨rfl, rfl, rfl, by
        funext j
        rw [mR_wR_n (Or.inl (by omega)), mR_wR_n (Or.inl (by omega))]⟩
      have r0 : ∀ v1 v2, mR (wR (wR τ (mN σ0) 0 v1) (mN σ0) 1 v2) (mN σ0) 0 = v1 := fun v1 v2 => by
        rw [mR_wR_n (Or.inr (by omega)), mR_wR, if_pos rfl, if_pos rfl]
      have r1 : ∀ v1 v2, mR (wR (wR τ (mN σ0) 0 v1) (mN σ0) 1 v2) (mN σ0) 1 = v2 := fun v1 v2 => by
        rw [mR_wR, if_pos rfl, if_pos rfl]
      have hq := p3.2.1
      have hq1 := hf.2.1
      cases sw
      · exact Cg_less (p := p1) (r := q) st ⟨hl2, by show mN σ0 < mN τ; omega⟩ (r0 _ _) (r1 _ _) (hf'.ag (ag _ _ _ _ (Or.inr hhi))) (p3.ag (ag _ _ _ _ (Or.inl (by omega)))) ⟨hl1, by show hi1 ≤ mN τ; omega⟩ ⟨by omega, Nat.le_refl _⟩
      · exact Cg_less (p := q) (r := p1) st ⟨hl2, by show mN σ0 < mN τ; omega⟩ (r0 _ _) (r1 _ _) (p3.ag (ag _ _ _ _ (Or.inl (by omega)))) (hf'.ag (ag _ _ _ _ (Or.inr hhi))) ⟨by omega, Nat.le_refl _⟩ ⟨hl1, by show hi1 ≤ mN τ; omega⟩
    · show w + 1 ≤ 13 * (k4 - k) + 1; omega
    · show 2 + (z + 0) ≤ 870 * (k4 - k) + 2; omega
theorem C_atom (hT : TX T e) : ∀ (D dd k : Nat) (σ : Mm) (b : Int32), dd ≤ 6 → 7 ≤ D + dd → k ≤ e → RT T e σ → KS σ → 76 ≤ mN σ → mN σ + 400 * (e + 1 - k) + 3000 ≤ BIG → CP T e 60 3000 25 2000 0 0 σ k dd (Cg (2 * D)) (atomP T e D dd k) (FX1_atom D 0 (rs σ (N k) b (N dd))) := by
  have hB : BIG = 1000000 := rfl
  have he := hT.1
  intro D
  induction D with
  | zero => intro dd k σ b h1 h2; omega
  | succ D ih =>
    intro dd k σ b hd hD hk h hK h0 hN
    have h1 := sk_le (T := T) hk
    have h1' := sk_ge (T := T) (e := e) (k := k)
    have hs := sk_at hT hk
    have hpl := plainP_bd hT h1
    have w1 := wd_ge (T := T) (e := e) (k := sk T e k)
    have w2 := wd_le (T := T) h1
    have w0 : ∀ b : Bool, (if b = true then wd T e (sk T e k) else sk T e k) ≤ e := fun b => by cases b; exact h1; exact w2
    show CP T e 60 3000 25 2000 0 0 σ k dd (Cg (2 * (D + 1))) (atomR T e (atomP T e D) dd k) (RX1_atom (FX1_atom D) 0 (rs σ (N k) b (N dd)))
    unfold atomR RX1_atom
    rw [fc_gR0_4 (FC_rs h.1), Option.bind_some, fc_rv37 (FC_rs h.1), Option.bind_some, l40_, C_sign hT h hk (by omega), Option.bind_some]
    dsimp only
    by_cases c40 : T (sk T e k) = 40
    · -- (
      have wn : ¬ isW T e (sk T e k) wNot = true := fun z => by
        have := (isW_iff.mp z).2 0 (by decide)
        rw [Nat.add_zero, c40] at this
        revert this; decide
      have h2 := hT.lt (k := sk T e k) (by omega)
      rw [if_neg wn, if_pos c40, if_pos c40, if_pos c40, if_neg (show ¬ (N 1 : Int32) = 0 by decide), fc_rv37 (FC_rs h.1), Option.bind_some]
      obtain ⟨d1, d2⟩ := C_deeper (a := N (sk T e k + 1)) (b := N (sk T e k)) h0 (by omega) h.1 hd
      by_cases h6 : dd = 6
      · obtain ⟨τ, x1, x2, x3⟩ := d2 h6
        rw [if_pos h6, x1]
        exact ⟨τ, _, _, 1, 6, 1, rfl, x2, by omega, by omega, by omega, by omega⟩
      · rw [if_neg h6, d1 h6, db_rt, fc_ck0 (FC_rs h.1)]
        clear d1 d2
        have hc := C_cond (D := 2 * D) (k := sk T e k + 1) (b := N (sk T e k)) (dd := dd + 1) (Rf := FX1_atom D) (Rs := atomP T e D (dd + 1)) hT h hK h0 (by omega) (fun k hk => atomP_bd hT D (dd + 1) k hk) (fun k τ b a1 a2 a3 a4 a5 => ih (dd + 1) k τ b (by omega) (by omega) a1 a2 a3 a4 a5) h2
        have hcb := someP_bd (T := T) (fun k hk => atomP_bd hT D (dd + 1) k hk) h2
        revert hc hcb
        cases someP T e (atomP T e D (dd + 1)) (sk T e k + 1) with
        | error p =>
          rintro ⟨τ, a, d', c, z, w, p1, p2, p3, p4, p5, p6⟩ hcb
          refine ⟨τ, a, d', c, z, w, ?_, p2, p3, p4, by omega, by omega⟩
          rw [p1]; rfl
        | ok u =>
          rintro ⟨q, τ, b1, c, z, w, p1, p2, p3, p4, p5, p6, p7⟩ hcb
          obtain ⟨g, k2⟩ := u
          have p1 : RX1_cond (FX1_atom D) 0 (rs σ (N (sk T e k + 1)) (N (sk T e k)) (N (dd + 1))) = some (.inl (some q, rs τ (N k2) b1 (N (dd + 1))), c, z) := p1
          have p6 : w + 5 ≤ 60 * (k2 - (sk T e k + 1)) + 2 * (wd T e k2 - k2) := p6
          have p7 : z + 100 ≤ 3000 * (k2 - (sk T e k + 1)) + 10 * (wd T e k2 - k2) := p7
          have hcb : sk T e k + 1 < k2 ∧ k2 ≤ e := hcb
          have hCτ := p2.fc h0 h.1
          have hRτ := p2.rt h0 h
          have h4 := sk_le (T := T) hcb.2
          have h4' := sk_ge (T := T) (e := e) (k := k2)
          have hww := wd_sk (T := T) (e := e) (k := k2)
          have hwe := wd_le (T := T) hcb.2
          have hwe2 := wd_le (T := T) h4
          rw [p1, db_in]
          dsimp only
          rw [fc_rv37 (FC_rs hCτ), Option.bind_some, C_up hCτ, Option.bind_some, fc_rv37 (FC_rs hCτ), Option.bind_some, l41_, C_sign hT hRτ hcb.2 (by omega), Option.bind_some]
          show CP T e 60 3000 25 2000 0 0 σ k dd (Cg (2 * (D + 1))) (closeP T e g k2) _
          unfold closeP
          dsimp only
          by_cases c41 : T (sk T e k2) = 41
          · have hw0 : wd T e (sk T e k2) = sk T e k2 := wd_dig (by omega)
            have h5 := hT.lt (k := sk T e k2) (by omega)
            rw [if_pos c41, if_pos c41, if_pos c41, if_neg (show ¬ (N 1 : Int32) = 0 by decide)]
            refine ⟨q, τ, N (sk T e k2), c, z, w, ?_, p2, ?_, p4, p5, ?_, ?_⟩
            · rw [pay_rt]
            · exact p3.up (by omega)
            · show w + 25 ≤ 60 * (sk T e k2 + 1 - k) + 0 * _; omega
            · show z + 2000 ≤ 3000 * (sk T e k2 + 1 - k) + 0 * _; omega
          · rw [if_neg c41, if_neg c41, if_neg c41, if_pos (show (N 0 : Int32) = 0 from rfl), fc_rv37 (FC_rs hCτ), Option.bind_some]
            obtain ⟨τ3, -, u2, -, u4, u5⟩ := C_wrongI (a := N (sk T e k2)) (b := N (sk T e k2)) (d := N dd) (σ := τ) (by have := p2.1; omega) (by omega) hCτ
            refine ⟨τ3, N (sk T e k2), N dd, c + 1, z + 6, w + 1, ?_, p2.trans u4, by omega, by omega, by omega, by omega⟩
            refine (congrArg (fun m => pay c z m) u2).trans ?_
            rfl
    · rw [if_neg c40, if_neg c40, if_neg c40, if_pos (show (N 0 : Int32) = 0 from rfl), fc_rv37 (FC_rs h.1), Option.bind_some]
      obtain ⟨τa, ca, za, a1, a2, a3, a4, a5⟩ := C_passes (b := N (sk T e k)) (d := N dd) (cq := BIG + 2 * 10) (w := wNot) hT h h0 (by omega) h1 (by omega) (by decide) (fun τ h => kNot h) hK
      rw [sk_eq hs] at a1 a4 a5
      have hCa := a2.fc h0 h.1
      have hRa := a2.rt h0 h
      have hKa := a2.ks hK
      rw [a1, db_in]
      dsimp only
      by_cases wn : isW T e (sk T e k) wNot = true
      · -- not
        have hlen := isW_len wn
        have hl3 : wNot.length = 3 := rfl
        rw [if_pos wn, if_pos wn, wn, if_neg (show ¬ (bN true : Int32) = 0 by decide), fc_rv37 (FC_rs hCa), Option.bind_some]
        obtain ⟨d1, d2⟩ := C_deeper (a := N (wd T e (sk T e k))) (b := N (sk T e k)) (σ := τa) (by omega) (by omega) hCa hd
        by_cases h6 : dd = 6
        · obtain ⟨τ, x1, x2, x3⟩ := d2 h6
          rw [if_pos h6, x1]
          exact ⟨τ, _, _, ca + 1, za + 6, ca + 1, rfl, a2.trans x2, by omega, by omega, by omega, by omega⟩
        · rw [if_neg h6, d1 h6, db_rt, fc_ck0 (FC_rs hCa)]
          clear d1 d2
          have hc := ih (dd + 1) (wd T e (sk T e k)) τa (N (sk T e k)) (by omega) (by omega) w2 hRa hKa (by omega) (by omega)
          revert hc
          have hcb := atomP_bd hT D (dd + 1) _ w2
          revert hcb
          cases atomP T e D (dd + 1) (wd T e (sk T e k)) with
          | error p =>
            rintro hcb ⟨τ, a, d', c, z, w, p1, p2, p3, p4, p5, p6⟩
            refine ⟨τ, a, d', ca + c, za + z, ca + w, ?_, a2.trans p2, by omega, by omega, by omega, by omega⟩
            rw [p1]; rfl
          | ok u =>
            rintro hcb ⟨q, τ, b1, c, z, w, p1, p2, p3, p4, p5, p6, p7⟩
            obtain ⟨g, k2⟩ := u
            have p1 : FX1_atom D 0 (rs τa (N (wd T e (sk T e k))) (N (sk T e k)) (N (dd + 1))) = some (.inl (some q, rs τ (N k2) b1 (N (dd + 1))), c, z) := p1
            have p6 : w + 25 ≤ 60 * (k2 - wd T e (sk T e k)) + 0 * (wd T e k2 - k2) := p6
            have p7 : z + 2000 ≤ 3000 * (k2 - wd T e (sk T e k)) + 0 * (wd T e k2 - k2) := p7
            have hcb : wd T e (sk T e k) < k2 ∧ k2 ≤ e := hcb
            have p3 : Cg (2 * D) (mN τa) (mN τ) q g τ := p3
            have hF2 := a2.trans p2
            have hCτ := hF2.fc h0 h.1
            have hNa := p2.1
            have s13 : mS (wN τ 13 0) (mN τ) = 13 := by rw [mS_wN, if_pos rfl]
            rw [p1, db_in]
            dsimp only
            rw [fc_rv37 (FC_rs hCτ), Option.bind_some, C_up hCτ, Option.bind_some, nO_s (show mN (rs τ _ _ _) < BIG by rw [rs_mN]; omega), Option.bind_some, rs_mN, rs_wN (by omega)]
            dsimp only
            rw [rv_s (show mS (rs (wN τ 13 0) _ _ _) (mN τ) = 13 from s13), Option.bind_some]
            unfold FX13_init
            rw [pR_s (show mS (rs (wN τ 13 0) _ _ _) (mN τ) = 13 from s13), Option.bind_some, Option.bind_some, rs_wR]
            have hF3 : FA τ (wN τ 13 0) := FA_wN (by omega)
            refine ⟨mN τ, wR (wN τ 13 0) (mN τ) 0 (some q), b1, ca + (c + (1 + 0)), za + (z + (1 + 0)), ca + (w + 1), rfl, hF2.trans (FA_wR hF3 (Nat.le_refl _) (by show mN τ < mN τ + 1; omega)), ?_, by omega, by show mN τ + 1 ≤ _; omega, ?_, ?_⟩
            · have ag : Ag (mN τa) (mN τ) τ (wR (wN τ 13 0) (mN τ) 0 (some q)) := fun p h1 h2 => by
                obtain ⟨y1, y2, y3, y4⟩ := hF3.2.2.1 p (by omega)
                refine ⟨y1, y2, y3, ?_⟩
                rw [← y4]; funext j
                exact mR_wR_n (Or.inl (by omega))
              have := Cg_not (D := 2 * D) (q := mN τ) (lo := mN σ) (hi := mN τ + 1) (p := q) (σ := wR (wN τ 13 0) (mN τ) 0 (some q)) s13 ⟨by omega, by omega⟩ (by rw [mR_wR, if_pos rfl, if_pos rfl]) (p3.ag ag) ⟨by omega, by omega⟩
              exact this.up (by omega)
            · show ca + (w + 1) + 25 ≤ 60 * (k2 - k) + 0 * _; omega
            · show za + (z + (1 + 0)) + 2000 ≤ 3000 * (k2 - k) + 0 * _; omega
      · have nF : isW T e (sk T e k) wNot = false := by
          cases hh : isW T e (sk T e k) wNot
          · rfl
          · exact absurd hh wn
        rw [if_neg wn, if_neg wn, nF, if_pos (show (bN false : Int32) = 0 from rfl), fc_rv37 (FC_rs hCa), Option.bind_some]
        obtain ⟨τo, co, zo, o1, o2, o3, o4, o5⟩ := C_passes (σ := τa) (b := N (sk T e k)) (d := N dd) (cq := BIG + 2 * 11) (w := wOwn) hT hRa (by omega) (by omega) h1 (by omega) (by decide) (fun τ h => kOwn h) hKa
        rw [sk_eq hs] at o1 o4 o5
        have hFo := a2.trans o2
        have hCo := hFo.fc h0 h.1
        have hRo := hFo.rt h0 h
        have hKo := hFo.ks hK
        rw [o1, db_in]
        dsimp only
        unfold plainP
        have tagR : ∀ (τ0 : Mm) (bb : Bool) (x1 : Int32) (b0 : Int32) (k2 : Nat), x1 = bN bb → FA σ τ0 → mN τ0 < BIG → (pay 1 1 ((nO 14 (rs τ0 (N k2) b0 (N dd))).bind fun x => (rv 14 x.1 x.2).bind fun q => (FX14_init q x1 x.2).bind fun σ75 => (rt (x.1, σ75) : DX (Option Nat × Mm)))) = some (.inl (some (mN τ0), rs (wA (wN τ0 14 0) (mN τ0) (up1 (mI (wN τ0 14 0) (mN τ0)) 0 x1)) (N k2) b0 (N dd)), 1, 1) ∧ FA σ (wA (wN τ0 14 0) (mN τ0) (up1 (mI (wN τ0 14 0) (mN τ0)) 0 x1)) ∧ Cg (2 * (D + 1)) (mN σ) (mN τ0 + 1) (mN τ0) (fun E => E (if bb = true then 6 else 7) == N 1) (wA (wN τ0 14 0) (mN τ0) (up1 (mI (wN τ0 14 0) (mN τ0)) 0 x1)) := fun τ0 bb x1 b0 k2 hx hF0 hN0 => by
          have hNN := hF0.1
          have s14 : mS (wN τ0 14 0) (mN τ0) = 14 := by rw [mS_wN, if_pos rfl]
          refine ⟨?_, hF0.trans (FA_wA (FA_wN hN0) (Nat.le_refl _) (by show mN τ0 < mN τ0 + 1; omega)), Cg.up (D := 1) (Cg_tag (b := bb) s14 ⟨hNN, by omega⟩ (by rw [mI_wA, if_pos rfl, up1_app, if_pos rfl, hx])) (by omega)⟩
          rw [nO_s (show mN (rs τ0 _ _ _) < BIG by rw [rs_mN]; omega), Option.bind_some, rs_mN, rs_wN (by omega)]
          dsimp only
          rw [rv_s (show mS (rs (wN τ0 14 0) _ _ _) (mN τ0) = 14 from s14), Option.bind_some]
          unfold FX14_init
          rw [pZ_s (show mS (rs (wN τ0 14 0) _ _ _) (mN τ0) = 14 from s14) (by rw [hx]; cases bb; exact Or.inl rfl; exact Or.inr rfl), Option.bind_some, Option.bind_some, rs_q (by omega), rs_wA (by omega)]
          rfl
        by_cases wo : isW T e (sk T e k) wOwn = true
        · have hlen := isW_len wo
          have hl3 : wOwn.length = 3 := rfl
          rw [if_pos wo, if_pos wo, wo, if_neg (show ¬ (bN true : Int32) = 0 by decide)]
          obtain ⟨t1, t2, t3⟩ := tagR τo true 1 (N (sk T e k)) (wd T e (sk T e k)) rfl hFo (by omega)
          refine ⟨mN τo, _, N (sk T e k), ca + (co + 1), za + (zo + 1), ca + (co + 1), ?_, t2, t3, Nat.le_refl _, by show mN τo + 1 ≤ _; omega, ?_, ?_⟩
          · refine (congrArg (fun m => pay ca za (pay co zo m)) t1).trans ?_
            rfl
          · show ca + (co + 1) + 25 ≤ 60 * (wd T e (sk T e k) - k) + 0 * _; omega
          · show za + (zo + 1) + 2000 ≤ 3000 * (wd T e (sk T e k) - k) + 0 * _; omega
        · have oF : isW T e (sk T e k) wOwn = false := by
            cases hh : isW T e (sk T e k) wOwn
            · rfl
            · exact absurd hh wo
          rw [if_neg wo, if_neg wo, oF, if_pos (show (bN false : Int32) = 0 from rfl), fc_rv37 (FC_rs hCo), Option.bind_some]
          obtain ⟨τw, cw, zw, v1, v2, v3, v4, v5⟩ := C_passes (σ := τo) (b := N (sk T e k)) (d := N dd) (cq := BIG + 2 * 2) (w := wWed) hT hRo (by omega) (by omega) h1 (by omega) (by decide) (fun τ h => kWed h) hKo
          rw [sk_eq hs] at v1 v4 v5
          have hFw := hFo.trans v2
          have hCw := hFw.fc h0 h.1
          have hRw := hFw.rt h0 h
          have hKw := hFw.ks hK
          rw [v1, db_in]
          dsimp only
          by_cases ww : isW T e (sk T e k) wWed = true
          · have hlen := isW_len ww
            have hl3 : wWed.length = 3 := rfl
            rw [if_pos ww, if_pos ww, ww, if_neg (show ¬ (bN true : Int32) = 0 by decide)]
            obtain ⟨t1, t2, t3⟩ := tagR τw false 0 (N (sk T e k)) (wd T e (sk T e k)) rfl hFw (by omega)
            refine ⟨mN τw, _, N (sk T e k), ca + (co + (cw + 1)), za + (zo + (zw + 1)), ca + (co + (cw + 1)), ?_, t2, t3, Nat.le_refl _, by show mN τw + 1 ≤ _; omega, ?_, ?_⟩
            · refine (congrArg (fun m => pay ca za (pay co zo (pay cw zw m))) t1).trans ?_
              rfl
            · show ca + (co + (cw + 1)) + 25 ≤ 60 * (wd T e (sk T e k) - k) + 0 * _; omega
            · show za + (zo + (zw + 1)) + 2000 ≤ 3000 * (wd T e (sk T e k) - k) + 0 * _; omega
          · have wF : isW T e (sk T e k) wWed = false := by
              cases hh : isW T e (sk T e k) wWed
              · rfl
              · exact absurd hh ww
            rw [if_neg ww, if_neg ww, wF, if_pos (show (bN false : Int32) = 0 from rfl), fc_ck0 (FC_rs hCw)]
            have hsum := C_sum (σ := τw) (k := sk T e k) (b := N (sk T e k)) (dd := dd) hT hRw hKw (by omega) (by omega) h1
            have hsb := sumP_bd hT h1
            have hswd := fun u => sumP_wd (T := T) (e := e) (k := sk T e k) (u := u) hT h1
            revert hsum hsb hswd
            cases sumP T e (sk T e k) with
            | error p =>
              rintro ⟨τ, a, d', c, z, w, p1, p2, p3, p4, p5, p6⟩ hsb -
              refine ⟨τ, a, d', ca + (co + (cw + c)), za + (zo + (zw + z)), ca + (co + (cw + w)), ?_, hFw.trans p2, by omega, by omega, by omega, by omega⟩
              rw [p1]; rfl
            | ok u =>
              rintro ⟨q, τ, b1, c, z, w, p1, p2, p3, p4, p5, p6, p7⟩ hsb hswd
              obtain ⟨f, k2⟩ := u
              have p1 : FX1_sum 0 (rs τw (N (sk T e k)) (N (sk T e k)) (N dd)) = some (.inl (some q, rs τ (N k2) b1 (N dd)), c, z) := p1
              have p6 : w + 0 ≤ 13 * (k2 - sk T e k) + 0 * (wd T e k2 - k2) := p6
              have p7 : z + 0 ≤ 870 * (k2 - sk T e k) + 0 * (wd T e k2 - k2) := p7
              have hsb : sk T e k < k2 ∧ k2 ≤ e := hsb
              have p3 : Sg (mN τw) (mN τ) q f τ := p3
              have hwd := hswd (f, k2) rfl
              rw [sk_eq hs] at hwd
              have hwd : wd T e (sk T e k) ≤ k2 := hwd
              have hF2 := hFw.trans p2
              have hCτ := hF2.fc h0 h.1
              have hRτ := hF2.rt h0 h
              have hKτ := hF2.ks hK
              have h4 := sk_le (T := T) hsb.2
              have h4' := sk_ge (T := T) (e := e) (k := k2)
              have hs4 := sk_at hT hsb.2
              have hNw := p2.1
              rw [p1, db_in]
              dsimp only
              rw [fc_rv37 (FC_rs hCτ), Option.bind_some, l60_, C_sign hT hRτ hsb.2 (by omega), Option.bind_some]
              show CP T e 60 3000 25 2000 0 0 σ k dd (Cg (2 * (D + 1))) (lessP T e f k2) _
              unfold lessP
              dsimp only
              by_cases c60 : T (sk T e k2) = 60
              · have h5 := hT.lt (k := sk T e k2) (by omega)
                rw [if_pos c60, if_pos c60, if_pos c60, if_neg (show ¬ (N 1 : Int32) = 0 by decide)]
                have h2 := C_two (σ0 := τ) (k := sk T e k2 + 1) (b := N (sk T e k2)) (dd := dd) hT p3 (Nat.le_refl _) hRτ hKτ (by omega) (by omega) h5 false
                have hsb2 := sumP_bd hT h5
                revert h2 hsb2
                cases sumP T e (sk T e k2 + 1) with
                | error p =>
                  rintro ⟨τ', a, d', c', z', w', y1, y2, y3, y4, y5, y6⟩ -
                  refine ⟨τ', a, d', ca + (co + (cw + (c + c'))), za + (zo + (zw + (z + z'))), ca + (co + (cw + (w + w'))), ?_, hF2.trans y2, by omega, by omega, by omega, by omega⟩
                  refine (congrArg (fun m => pay ca za (pay co zo (pay cw zw (pay c z m)))) y1).trans ?_
                  rfl
                | ok u =>
                  rintro ⟨τ', b', c', z', w', y1, y2, y3, y4, y5, y6, y7⟩ hsb2
                  obtain ⟨g, k4⟩ := u
                  have hsb2 : sk T e k2 + 1 < k4 ∧ k4 ≤ e := hsb2
                  have y6 : w' ≤ 13 * (k4 - (sk T e k2 + 1)) + 1 := y6
                  have y7 : z' ≤ 870 * (k4 - (sk T e k2 + 1)) + 2 := y7
                  refine ⟨mN τ, τ', b', ca + (co + (cw + (c + c'))), za + (zo + (zw + (z + z'))), ca + (co + (cw + (w + w'))), ?_, hF2.trans y2, (y3 (mN σ) (by omega) (by omega)).up (by omega), by omega, by omega, ?_, ?_⟩
                  · refine (congrArg (fun m => pay ca za (pay co zo (pay cw zw (pay c z m)))) y1).trans ?_
                    rfl
                  · show ca + (co + (cw + (w + w'))) + 25 ≤ 60 * (k4 - k) + 0 * _; omega
                  · show za + (zo + (zw + (z + z'))) + 2000 ≤ 3000 * (k4 - k) + 0 * _; omega
              · rw [if_neg c60, if_neg c60, if_neg c60, if_pos (show (N 0 : Int32) = 0 from rfl), fc_rv37 (FC_rs hCτ), Option.bind_some, l62_, C_sign hT hRτ h4 (by omega), Option.bind_some, sk_eq hs4]
                dsimp only
                by_cases c62 : T (sk T e k2) = 62
                · have h5 := hT.lt (k := sk T e k2) (by omega)
                  rw [if_pos c62, if_pos c62, if_pos c62, if_neg (show ¬ (N 1 : Int32) = 0 by decide)]
                  have h2 := C_two (σ0 := τ) (k := sk T e k2 + 1) (b := N (sk T e k2)) (dd := dd) hT p3 (Nat.le_refl _) hRτ hKτ (by omega) (by omega) h5 true
                  have hsb2 := sumP_bd hT h5
                  revert h2 hsb2
                  cases sumP T e (sk T e k2 + 1) with
                  | error p =>
                    rintro ⟨τ', a, d', c', z', w', y1, y2, y3, y4, y5, y6⟩ -
                    refine ⟨τ', a, d', ca + (co + (cw + (c + c'))), za + (zo + (zw + (z + z'))), ca + (co + (cw + (w + w'))), ?_, hF2.trans y2, by omega, by omega, by omega, by omega⟩
                    refine (congrArg (fun m => pay ca za (pay co zo (pay cw zw (pay c z m)))) y1).trans ?_
                    rfl
                  | ok u =>
                    rintro ⟨τ', b', c', z', w', y1, y2, y3, y4, y5, y6, y7⟩ hsb2
                    obtain ⟨g, k4⟩ := u
                    have hsb2 : sk T e k2 + 1 < k4 ∧ k4 ≤ e := hsb2
                    have y6 : w' ≤ 13 * (k4 - (sk T e k2 + 1)) + 1 := y6
                    have y7 : z' ≤ 870 * (k4 - (sk T e k2 + 1)) + 2 := y7
                    refine ⟨mN τ, τ', b', ca + (co + (cw + (c + c'))), za + (zo + (zw + (z + z'))), ca + (co + (cw + (w + w'))), ?_, hF2.trans y2, (y3 (mN σ) (by omega) (by omega)).up (by omega), by omega, by omega, ?_, ?_⟩
                    · refine (congrArg (fun m => pay ca za (pay co zo (pay cw zw (pay c z m)))) y1).trans ?_
                      rfl
                    · show ca + (co + (cw + (w + w'))) + 25 ≤ 60 * (k4 - k) + 0 * _; omega
                    · show za + (zo + (zw + (z + z'))) + 2000 ≤ 3000 * (k4 - k) + 0 * _; omega
                · rw [if_neg c62, if_neg c62, if_neg c62, if_pos (show (N 0 : Int32) = 0 from rfl), fc_rv37 (FC_rs hCτ), Option.bind_some]
                  obtain ⟨τ3, -, u2, -, u4, u5⟩ := C_wrongI (a := N (sk T e k2)) (b := N (sk T e k2)) (d := N dd) (σ := τ) (by omega) (by omega) hCτ
                  refine ⟨τ3, N (sk T e k2), N dd, ca + (co + (cw + (c + 1))), za + (zo + (zw + (z + 6))), ca + (co + (cw + (w + 1))), ?_, hF2.trans u4, by omega, by omega, by omega, by omega⟩
                  refine (congrArg (fun m => pay ca za (pay co zo (pay cw zw (pay c z m)))) u2).trans ?_
                  rfl
end
