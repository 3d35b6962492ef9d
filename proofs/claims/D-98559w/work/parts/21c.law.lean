/-! THE PLAIN LAW, 72: HungFaces takes a law -/
set_option maxRecDepth 100000
theorem C_begins {σ : Mm} {L : Nat} (h : FC σ) (hl : mI σ 37 1 = N L) : ∃ g, FX3_begins 37 σ = some (wA σ 37 g) ∧ g 1 = N 0 ∧ g 2 = N L ∧ g 3 = N 0 ∧ g 6 = N 0 ∧ g 5 = mI σ 37 5 := by
  refine ⟨up1 (up1 (up1 (up1 (mI σ 37) 2 (N L)) 1 (N 0)) 3 (N 0)) 6 (N 0), ?_, rfl, rfl, rfl, rfl, rfl⟩
  unfold FX3_begins
  rw [fc_gI37 h, Option.bind_some, hl, fc_pI37 h, Option.bind_some, l0_, fc_pI37 (FC_w h), Option.bind_some, fc_pI37 (FC_w (FC_w h)), Option.bind_some, fc_pI37 (FC_w (FC_w (FC_w h))), Option.bind_some]
  simp only [wA_wA]
  rfl
theorem J_clear2 {l n e : Nat} {σ : Mm} (h : AL l n e σ) (hn : n < 60000) : ∃ σ', FJ3_clear l σ = some σ' ∧ AL l 0 e σ' ∧ LF l e σ σ' ∧ mN σ' = mN σ ∧ mI σ' e = mI σ e ∧ (n = 0 → mR σ' e = mR σ e) := by
  obtain ⟨σ', g1, g2, g3, g4⟩ := J_clear h hn
  obtain ⟨h1, h2, h3, h4, h5, ⟨h6, h6'⟩, h7⟩ := h
  have q2 : ∀ x : Int32, mI (wA σ l (up1 (mI σ l) 0 x)) l 2 = N n := fun x => by rw [mI_wA, if_pos rfl, up1_app, if_neg (by omega)]; exact h2
  obtain ⟨σ2, f1, f2, f3, f4, f5, f6⟩ := J_clear_27 (e := e) (n := n) (fun σ => some σ) n 0 fu (wA (wA σ l (up1 (mI σ l) 0 (mI σ l 0 + N 1))) l (up1 (mI (wA σ l (up1 (mI σ l) 0 (mI σ l 0 + N 1))) l) 2 (N 0))) (fun hne => by
    obtain ⟨e1, e2, e3, e4, e5⟩ := h5.resolve_left (fun z => by omega)
    exact ⟨e2, e3, e5⟩) hn (by omega) (by unfold fu; omega)
  have run : FJ3_clear l σ = FJ3_clear_27 (some e) (N n) fu (N 0) (wA (wA σ l (up1 (mI σ l) 0 (mI σ l 0 + N 1))) l (up1 (mI (wA σ l (up1 (mI σ l) 0 (mI σ l 0 + N 1))) l) 2 (N 0))) (fun σ => some σ) := by
    unfold FJ3_clear
    rw [gI_s h1, Option.bind_some, l1_, pI_s h1, Option.bind_some, gR_s (show mS (wA σ l (up1 (mI σ l) 0 (mI σ l 0 + N 1))) l = 17 from h1) (show mR (wA σ l (up1 (mI σ l) 0 (mI σ l 0 + N 1))) l 1 = some e from h3), Option.bind_some, gI_s (show mS (wA σ l (up1 (mI σ l) 0 (mI σ l 0 + N 1))) l = 17 from h1), q2, Option.bind_some, l0_, pI_s (show mS (wA σ l (up1 (mI σ l) 0 (mI σ l 0 + N 1))) l = 17 from h1), Option.bind_some]
  have es : σ' = σ2 := by rw [run, f1] at g1; cases g1; rfl
  refine ⟨σ', g1, g2, g3, g4, ?_, fun h0 => ?_⟩
  · rw [es, f4, mI_wA, if_neg h6, mI_wA, if_neg h6]
  · subst h0
    have z : FJ3_clear_27 (some e) (N 0) (99999 + 1) (N 0) (wA (wA σ l (up1 (mI σ l) 0 (mI σ l 0 + N 1))) l (up1 (mI (wA σ l (up1 (mI σ l) 0 (mI σ l 0 + N 1))) l) 2 (N 0))) (fun σ => some σ) = some (wA (wA σ l (up1 (mI σ l) 0 (mI σ l 0 + N 1))) l (up1 (mI (wA σ l (up1 (mI σ l) 0 (mI σ l 0 + N 1))) l) 2 (N 0))) := by
      rw [FJ3_clear_27, if_pos (by decide)]
    have g1' : FJ3_clear_27 (some e) (N 0) (99999 + 1) (N 0) (wA (wA σ l (up1 (mI σ l) 0 (mI σ l 0 + N 1))) l (up1 (mI (wA σ l (up1 (mI σ l) 0 (mI σ l 0 + N 1))) l) 2 (N 0))) (fun σ => some σ) = some σ' := run.symm.trans g1
    rw [z] at g1'
    cases g1'
    rfl
theorem mI_o75 {σ : Mm} {v : Int32} {q : Nat} (h : q ≠ 75) : mI (o75 σ v) q = mI σ q := if_neg h
/-- what stands behind a text that HungFaces has read, the kept Worlds forgotten -/
def TF1 (σ σ1 : Mm) (e : Nat) : Prop := (mN σ ≤ mN σ1 ∧ mN σ1 ≤ BIG) ∧ (∀ p, p < mN σ ∨ BIG ≤ p → mS σ1 p = mS σ p ∧ mL σ1 p = mL σ p) ∧ (∀ p, p < mN σ ∨ BIG ≤ p → p ≠ 37 → p ≠ 40 → p ≠ 75 → mI σ1 p = mI σ p) ∧ (∀ p, p < mN σ ∨ BIG ≤ p → p ≠ 1 → (p ≠ e ∨ BIG ≤ p) → mR σ1 p = mR σ p) ∧ (∀ k, k ≠ 19 → mR σ1 1 k = mR σ 1 k) ∧ AL 40 0 e σ1 ∧ mI σ1 37 1 = N 0 ∧ mI σ1 37 5 = M1
theorem sL_w {σ : Mm} {v : Int32} (h : FC σ) : sL (some 75) 0 v σ = some (o75 σ v) := fc_wr75 h
theorem C_law_ok {np nh n L : Nat} {σ : Mm} {u : List (Bool × Option Cn) × Nat} (I : Inv np nh n L σ) (hN : mN σ + 200000 ≤ BIG) (hp : lawP (tT L σ) L = .ok u) : ∃ σ1 c z w e q, FX0_law (some 0) (some 75) σ = some (.inl (N 0, σ1), c, z) ∧ TF1 σ σ1 e ∧ mR σ 40 1 = some e ∧ (e = BIG + 122 ∨ 76 ≤ e) ∧ mR σ1 1 19 = some q ∧ LawG (mN σ) (mN σ1) q u.1 σ1 ∧ (∀ p, mN σ ≤ p → p < mN σ1 → mS σ1 p ≠ 2 ∧ mS σ1 p ≠ 100) ∧ mI σ1 75 0 = N u.1.length ∧ c ≤ w ∧ mN σ1 ≤ mN σ + w ∧ w ≤ 62 * (L + 1) + 10 ∧ z ≤ 3050 * (L + 1) + 50 := by
  have hB : BIG = 1000000 := rfl
  obtain ⟨⟨⟨hC, hM, hr, hw⟩, hK, ⟨hN0, hN1⟩, k6, k12, e, f, hX⟩, hl, ht, hi, hf, hb⟩ := I
  obtain ⟨hT, t38, t67⟩ := tT_ok ht
  have hL := ht.1
  obtain ⟨g, b0, b1, b2, b3, b4, b5⟩ := C_begins hC ht.2.1
  obtain ⟨β, hβ⟩ : ∃ β, β = wA σ 37 g := ⟨_, rfl⟩
  have iβ : mI β 37 = g := by rw [hβ]; rfl
  have jβ : ∀ p, p ≠ 37 → mI β p = mI σ p := fun p hp => by rw [hβ, mI_wA, if_neg hp]
  have hCβ : FC β := by rw [hβ]; exact FC_w hC
  have hKβ : KS β := by rw [hβ]; exact KS_wA (by omega) hK
  have nβ : mN β = mN σ := by rw [hβ]; rfl
  have sβ : mS β = mS σ := by rw [hβ]; rfl
  have lβ : mL β = mL σ := by rw [hβ]; rfl
  have rβ : mR β = mR σ := by rw [hβ]; rfl
  have hRβ : RT (tT L σ) L β := ⟨hCβ, by rw [iβ]; exact b2, by rw [jβ 38 (by omega)]; exact t38⟩
  have eβ : rs β (N 0) (mI β 37 4) (N 0) = β := by
    have := rs_self β
    rw [iβ, b3, b4] at this
    rw [iβ]; exact this
  have hc := C_lawText (σ := β) (b := mI β 37 4) hT hRβ hKβ (by omega) (by omega)
  rw [hp, eβ] at hc
  obtain ⟨q, τ, a', b', c, z, w, p1, p2, p3, p4, p5, p6, p7⟩ := hc
  have e40 : mR σ 40 1 = some e := hX.1.2.2.1
  have hCτ := p2.fc (by omega) hCβ
  -- the law is set, the fault is none
  obtain ⟨μ, hμ⟩ : ∃ μ, μ = wA (wR (rs τ a' b' (N 0)) 1 19 (some q)) 37 (up1 (mI (wR (rs τ a' b' (N 0)) 1 19 (some q)) 37) 5 M1) := ⟨_, rfl⟩
  have hF1 : FW 1 (rs τ a' b' (N 0)) := (FC_rs hCτ).w1
  have hCw : FC (wR (rs τ a' b' (N 0)) 1 19 (some q)) := FC_at2 (σ := τ) (fun q hq => ⟨rfl, rfl⟩) (fun q' k hq hk _ => mR_wR_n (Or.inr hk)) hCτ
  have hCμ : FC μ := by rw [hμ]; exact FC_w hCw
  have mS' : mS μ = mS τ := by rw [hμ]; rfl
  have mL' : mL μ = mL τ := by rw [hμ]; rfl
  have mN' : mN μ = mN τ := by rw [hμ]; rfl
  have mR' : ∀ p k, p ≠ 1 ∨ k ≠ 19 → mR μ p k = mR τ p k := fun p k hpk => by rw [hμ]; exact mR_wR_n hpk
  have mR1 : mR μ 1 19 = some q := by rw [hμ]; show mR (wR _ 1 19 (some q)) 1 19 = _; rw [mR_wR, if_pos rfl, if_pos rfl]
  have mI' : ∀ p, p ≠ 37 → mI μ p = mI τ p := fun p hp => by rw [hμ, mI_wA, if_neg hp, mI_wR, rs_q hp]
  have lowS : ∀ p, p < mN σ ∨ BIG ≤ p → mS τ p = mS σ p ∧ mL τ p = mL σ p ∧ (p ≠ 37 → mI τ p = mI σ p) ∧ mR τ p = mR σ p := fun p hp => by
    obtain ⟨x1, x2, x3, x4⟩ := p2.2.2.1 p (by omega)
    exact ⟨by rw [x1, sβ], by rw [x2, lβ], fun h => by rw [x3, jβ p h], by rw [x4, rβ]⟩
  have heN : e = BIG + 122 ∨ (76 ≤ e ∧ e < mN σ) := by
    rcases hX.1.2.2.2.2.1 with ⟨h1, _⟩ | h1
    · exact Or.inl h1
    · rcases hX.2.1 with h2 | h2
      · exact Or.inl h2
      · exact Or.inr ⟨h2, h1.1⟩
  have hAμ : AL 40 n e μ := by
    refine AL_at (σ := σ) ⟨?_, ?_, ?_⟩ (fun he => ⟨?_, ?_, ?_⟩) (by rw [mN']; have := p2.1; omega) (fun q hq => by rw [mS']; exact (lowS q (by omega)).1) hX.1
    · rw [mS']; exact (lowS 40 (by omega)).1
    · rw [mI' 40 (by omega)]; exact (lowS 40 (by omega)).2.2.1 (by omega)
    · rw [← (lowS 40 (by omega)).2.2.2]; funext k; exact mR' 40 k (by omega)
    · rw [mS']; exact (lowS e (by omega)).1
    · rw [mL']; exact (lowS e (by omega)).2.1
    · rw [← (lowS e (by omega)).2.2.2]; funext k; exact mR' e k (by rcases heN with h | h <;> omega)
  obtain ⟨ν, n1, n2, n3, n4, n5, n6⟩ := J_clear2 hAμ (by have := hX.2.2.1; omega)
  obtain ⟨f1, f2, f3, f4, f5⟩ := n3
  have n40 : mR ν 40 1 = some e := n2.2.2.1
  have he37 : e ≠ 37 ∧ e ≠ 1 ∧ e ≠ 0 ∧ e ≠ 40 := by rcases heN with h | h <;> omega
  have hCν : FC ν := FC_at (σ := μ) (fun q hq => f3 q (by rw [mN']; have := p2.1; omega)) (fun q k hq hk => by
    by_cases h1 : q = e
    · rcases heN with h | h <;> omega
    · by_cases h2 : q = 40
      · subst h2; exact f5 k (hk.resolve_left (fun z => z rfl))
      · rw [(f4 q h1 h2).2]) hCμ
  have nS : ∀ p, p < mN τ ∨ BIG ≤ p → mS ν p = mS τ p ∧ mL ν p = mL τ p := fun p hp => by
    have := p2.2.1
    have h1 := f3 p (by rw [mN']; omega)
    rw [h1.1, h1.2, mS', mL']; exact ⟨rfl, rfl⟩
  have agν : Ag (mN σ) (mN τ) τ ν := fun p h1 h2 => by
    have hpe : p ≠ e := by rcases heN with h | h <;> have := p2.2.1 <;> omega
    obtain ⟨y1, y2⟩ := f4 p hpe (by omega)
    refine ⟨(nS p (by omega)).1, (nS p (by omega)).2, by rw [y1, mI' p (by omega)], ?_⟩
    rw [y2]; funext k; exact mR' p k (by omega)
  have hLG : LawG (mN σ) (mN τ) q u.1 ν := by rw [nβ] at p3; exact p3.ag agν
  have r19 : mR ν 1 19 = some q := by rw [(f4 1 (Ne.symm he37.2.1) (by omega)).2]; exact mR1
  obtain ⟨⟨l, e9, rl1, rl2⟩, -⟩ := hLG.2.2 ν Ag.rf
  have i37 : mI τ 37 = g := by rw [(p2.2.2.1 37 (by omega)).2.2.1, iβ]
  have n37 : mI ν 37 = mI μ 37 := (f4 37 (Ne.symm he37.1) (by omega)).1
  refine ⟨o75 ν (N u.1.length), c, z, w, e, q, ?_, ⟨⟨?_, ?_⟩, fun p hp => ?_, fun p hp h37 h40 h75 => ?_, fun p hp h1 he => ?_, fun k hk => ?_, ?_, ?_, ?_⟩, e40, hX.2.1, r19, ?_, fun p h1 h2 => ?_, rfl, p4, ?_, by omega, by omega⟩
  · have run : FX1_law 0 σ = pay c z (rt (N u.1.length, ν)) := by
      unfold FX1_law jn
      dsimp only
      rw [fc_gR0_4 hC, Option.bind_some, fc_rv37 hC, Option.bind_some, b0, Option.bind_some, ← hβ, fc_gR0_0 hCβ, Option.bind_some, fc_ck0 hCβ, p1]
      show dt (pay c z (rt (some q, rs τ a' b' (N 0)))) _ _ = _
      rw [dt_pay, dt_rt]
      dsimp only
      rw [fw_pR hF1, Option.bind_some, fc_gR0_4 hCw, Option.bind_some, m1_, fc_pI37 hCw, Option.bind_some, ← hμ, fc_gR0_6 hCμ, Option.bind_some, fc_rv40 hCμ, Option.bind_some, n1, Option.bind_some, fc_gR0_0 hCν, Option.bind_some, fw_gL hCν.w1, Option.bind_some, r19, gR_s hLG.1 rl1, Option.bind_some, rv_s rl2.1, Option.bind_some, J_size rl2, Option.bind_some]
    unfold FX0_law
    rw [rv_s hC.2.2.2.2.1, Option.bind_some, run, dt_pay, dt_rt]
    dsimp only
    rw [sL_w hCν, Option.bind_some, l0_]
    rfl
  · show mN σ ≤ mN ν; have := p2.1; omega
  · show mN ν ≤ BIG; have := p2.2.1; omega
  · show mS ν p = _ ∧ mL ν p = _
    have := p2.1
    rw [(nS p (by omega)).1, (nS p (by omega)).2]
    exact ⟨(lowS p hp).1, (lowS p hp).2.1⟩
  · rw [mI_o75 h75]
    by_cases he : p = e
    · rw [he, n5, mI' e he37.1, (lowS e (by omega)).2.2.1 he37.1]
    · rw [(f4 p he h40).1, mI' p h37, (lowS p hp).2.2.1 h37]
  · show mR ν p = _
    by_cases h40 : p = 40
    · subst h40
      funext k
      by_cases hk : k = 1
      · rw [hk, n40, e40]
      · rw [f5 k hk, mR' 40 k (by omega), (lowS 40 hp).2.2.2]
    · rw [← (lowS p hp).2.2.2]
      by_cases hpe : p = e
      · have hbig : BIG ≤ e := by rw [← hpe]; exact he.resolve_left (fun z => z hpe)
        have hn0 : n = 0 := by
          rcases hX.1.2.2.2.2.1 with ⟨_, h1⟩ | h1
          · exact h1
          · have := h1.1; omega
        rw [hpe, n6 hn0]
        funext k; exact mR' e k (Or.inl he37.2.1)
      · rw [(f4 p hpe h40).2]
        funext k; exact mR' p k (Or.inl h1)
  · show mR ν 1 k = _
    rw [(f4 1 (Ne.symm he37.2.1) (by omega)).2, mR' 1 k (Or.inr hk), (lowS 1 (by omega)).2.2.2]
  · exact AL_at (σ := ν) ⟨rfl, mI_o75 (by omega), rfl⟩ (fun _ => ⟨rfl, rfl, rfl⟩) (Nat.le_refl _) (fun _ _ => rfl) n2
  · rw [mI_o75 (by omega), n37, hμ]
    show mI τ 37 1 = N 0
    rw [i37]; exact b1
  · rw [mI_o75 (by omega), n37, hμ]
    rfl
  · have : mN (o75 ν (N u.1.length)) = mN τ := by show mN ν = _; rw [n4, mN']
    rw [this]
    exact hLG.ag fun p h1 h2 => ⟨rfl, rfl, mI_o75 (by omega), rfl⟩
  · have h2 : p < mN ν := h2
    show mS ν p ≠ 2 ∧ mS ν p ≠ 100
    rw [(nS p (by omega)).1]
    exact p2.2.2.2 p (by omega) (by omega)
  · show mN ν ≤ _; omega
theorem C_law_er {np nh n L p : Nat} {σ : Mm} (I : Inv np nh n L σ) (hN : mN σ + 200000 ≤ BIG) (hp : lawP (tT L σ) L = .error p) : ∃ σ1 c z w, FX0_law (some 0) (some 75) σ = some (.inl (N 1, σ1), c, z) ∧ FA σ (wA σ1 37 (mI σ 37)) ∧ mI σ1 37 1 = N 0 ∧ mI σ1 37 5 = N p ∧ c ≤ w ∧ mN σ1 ≤ mN σ + w ∧ w ≤ 62 * (L + 1) + 10 ∧ z ≤ 3050 * (L + 1) + 50 := by
  have hB : BIG = 1000000 := rfl
  obtain ⟨⟨⟨hC, hM, hr, hw⟩, hK, ⟨hN0, hN1⟩, k6, k12, e, f, hX⟩, hl, ht, hi, hf, hb⟩ := I
  obtain ⟨hT, t38, t67⟩ := tT_ok ht
  have hL := ht.1
  obtain ⟨g, b0, b1, b2, b3, b4, b5⟩ := C_begins hC ht.2.1
  obtain ⟨β, hβ⟩ : ∃ β, β = wA σ 37 g := ⟨_, rfl⟩
  have iβ : mI β 37 = g := by rw [hβ]; rfl
  have jβ : ∀ p, p ≠ 37 → mI β p = mI σ p := fun p hp => by rw [hβ, mI_wA, if_neg hp]
  have hCβ : FC β := by rw [hβ]; exact FC_w hC
  have hKβ : KS β := by rw [hβ]; exact KS_wA (by omega) hK
  have nβ : mN β = mN σ := by rw [hβ]; rfl
  have hRβ : RT (tT L σ) L β := ⟨hCβ, by rw [iβ]; exact b2, by rw [jβ 38 (by omega)]; exact t38⟩
  have eβ : rs β (N 0) (mI β 37 4) (N 0) = β := by
    have := rs_self β
    rw [iβ, b3, b4] at this
    rw [iβ]; exact this
  have hc := C_lawText (σ := β) (b := mI β 37 4) hT hRβ hKβ (by omega) (by omega)
  rw [hp, eβ] at hc
  obtain ⟨τ, a', d', c, z, w, p1, p2, p4, p5, p6, p7⟩ := hc
  have hCτ := p2.fc (by omega) hCβ
  have i37 : mI τ 37 = g := by rw [(p2.2.2.1 37 (by omega)).2.2.1, iβ]
  refine ⟨wA (rs τ a' (N p) d') 37 (up1 (mI (rs τ a' (N p) d') 37) 5 (N p)), c + 1, z + 6, w + 1, ?_, ?_, ?_, rfl, by omega, ?_, by omega, by omega⟩
  · have run : FX1_law 0 σ = some (.inr (3, wA (rs τ a' (N p) d') 37 (up1 (mI (rs τ a' (N p) d') 37) 5 (N p))), c + 1, z + 6) := by
      unfold FX1_law jn
      dsimp only
      rw [fc_gR0_4 hC, Option.bind_some, fc_rv37 hC, Option.bind_some, b0, Option.bind_some, ← hβ, fc_gR0_0 hCβ, Option.bind_some, fc_ck0 hCβ, p1]
      show pay c z (if (1 : Nat) = 1 then _ else none) = _
      rw [if_pos rfl, fc_ck0 (FC_rs hCτ)]
      unfold FX1_fails
      rw [fc_gR0_4 (FC_rs hCτ), Option.bind_some, Option.bind_some, fc_gI37 (FC_rs hCτ), Option.bind_some, fc_pI37 (FC_rs hCτ), Option.bind_some, db_thw]
      rfl
    unfold FX0_law
    rw [rv_s hC.2.2.2.2.1, Option.bind_some, run]
    show pay (c + 1) (z + 6) (if (3 : Nat) = 3 then rt (1, _) else none) = _
    rw [if_pos rfl, l1_]
    rfl
  · rw [wA_wA]
    refine ⟨by have := p2.1; show mN σ ≤ mN τ; omega, p2.2.1, fun x hx => ?_, fun x h1 h2 => p2.2.2.2 x (by omega) h2⟩
    obtain ⟨y1, y2, y3, y4⟩ := p2.2.2.1 x (by omega)
    refine ⟨by rw [← show mS β = mS σ by rw [hβ]; rfl]; exact y1, by rw [← show mL β = mL σ by rw [hβ]; rfl]; exact y2, ?_, by rw [← show mR β = mR σ by rw [hβ]; rfl]; exact y4⟩
    rw [mI_wA]
    by_cases h37 : x = 37
    · rw [if_pos h37, h37]
    · rw [if_neg h37, rs_q h37, y3, jβ x h37]
  · show mI τ 37 1 = N 0
    rw [i37]; exact b1
  · show mN τ ≤ _; omega
