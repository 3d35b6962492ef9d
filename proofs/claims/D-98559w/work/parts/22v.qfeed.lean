/-! THE PLAIN LAW, 101: the tape is fed -/
set_option maxRecDepth 100000
section
variable {np nh n L : Nat} {σ τ υ : Mm}
theorem KR_gr (K : KR np nh n σ) (hN : mN σ ≤ mN τ ∧ mN τ + 13 ≤ BIG) (S : ∀ q, q ≠ mN σ → mS τ q = mS σ q ∧ mL τ q = mL σ q) (R : ∀ q, q ≠ mN σ → mR τ q = mR σ q) (hI : ∀ q, q ≠ mN σ → (1 ≤ q ∧ q < 13) ∨ q = 40 ∨ q = 63 ∨ q = 66 ∨ 76 ≤ q → mI τ q = mI σ q) (k6 : mI τ 62 6 = mI σ 62 6) : KR np nh n τ := by
  have hBG : BIG = 1000000 := rfl
  obtain ⟨⟨hC, hM, hr, hw⟩, hK, ⟨hN0, hN1⟩, h6, h12, e', f', hX⟩ := K
  have e63 := hI 63 (by omega) (by omega)
  have h66 := hI 66 (by omega) (by omega)
  have he' : e' ≠ mN σ := by
    rcases hX.1.2.2.2.2.1 with z | z
    · omega
    · have := z.1; omega
  refine ⟨⟨FC_at2 (fun q hq => S q (by omega)) (fun q k hq _ _ => by rw [R q (by omega)]) hC, FM_at (fun q hq => S q (by omega)) (R 62 (by omega)) hM, ?_, by rw [e63]; exact hw⟩, ⟨fun p hp => ?_, fun p k hp h3 => ?_⟩, ⟨by omega, hN.2⟩, k6.trans h6, ?_, e', f', ?_⟩
  · rw [e63]; exact RW_eq (fun k hk => hI (1 + k) (by omega) (by omega)) hr
  · rw [(S p (by omega)).1, (S p (by omega)).2, hI p (by omega) (by omega)]; exact hK.1 p hp
  · rw [R p (by omega)]; exact hK.2 p k hp h3
  · unfold rowM; rw [h66, e63]; exact h12
  · have er : rowM τ = rowM σ := by unfold rowM; rw [h66]
    rw [er, R 1 (by omega)]
    have he := hX.2.1
    refine KX_at ⟨(S 40 (by omega)).1, hI 40 (by omega) (by omega), R 40 (by omega)⟩ ⟨(S e' he').1, (S e' he').2, R e' he'⟩ hN.1 (fun i hi q q1 q2 => ?_) hX
    have h2 := (hX.2.2.2.1 i hi).2
    exact ⟨(S q (by omega)).1, (S q (by omega)).2, hI q (by omega) (by omega), R q (by omega)⟩
theorem q_feed (I : Inv np nh n L σ) (hN : mN σ + 200 ≤ BIG) (x : Nat → Int32) : Qj (FX1_feed 0 (x 0) (x 1) (x 2) (x 3) (x 4)) (FX8_feed 62 (x 0) (x 1) (x 2) (x 3) (x 4)) L σ := by
  have hBG : BIG = 1000000 := rfl
  obtain ⟨K, hLW, ⟨tp1, tp2, tp3, tp4⟩, hIM, hF, hB6⟩ := id I
  have hC := K.1.c; have h := K.1.m
  have hN0 := K.2.2.1.1
  obtain ⟨q, hq⟩ : ∃ q, q = mN σ := ⟨_, rfl⟩
  obtain ⟨σ1, hσ1⟩ : ∃ σ1, σ1 = wA (wN σ 100 5) q (up1 (up1 (up1 (up1 (up1 (fun _ => 0) 0 (x 0)) 1 (x 1)) 2 (x 2)) 3 (x 3)) 4 (x 4)) := ⟨_, rfl⟩
  have mk : ∀ K : Option Nat → Mm → Option (Int32 × Mm), ((nA 100 5 σ).bind fun y => (sI y.1 0 (x 0) y.2).bind fun σ24 => (sI y.1 1 (x 1) σ24).bind fun σ25 => (sI y.1 2 (x 2) σ25).bind fun σ26 => (sI y.1 3 (x 3) σ26).bind fun σ27 => (sI y.1 4 (x 4) σ27).bind fun σ28 => K y.1 σ28) = K (some q) σ1 := fun K => by
    have a0 : nA 100 5 σ = some (some q, wN σ 100 5) := by rw [hq]; exact nA_s (n := 5) (by omega) (by omega)
    have wr : ∀ f (a : Nat) (y : Int32), a < 5 → sI (some q) (N a) y (wA (wN σ 100 5) q f) = some (wA (wN σ 100 5) q (up1 f a y)) := fun f a y ha => by
      rw [sI_N (n := 5) (show mS (wA (wN σ 100 5) q f) q = 100 from by show mS (wN σ 100 5) q = 100; rw [mS_wN, if_pos hq]) (show mL (wA (wN σ 100 5) q f) q = 5 from by show mL (wN σ 100 5) q = 5; rw [mL_wN, if_pos hq]) ha (by decide), wA_wA, mI_wA, if_pos rfl]
    have w0 : wN σ 100 5 = wA (wN σ 100 5) q (fun _ => 0) := by
      have := wA_self (wN σ 100 5) q
      rw [mI_wN, if_pos hq] at this
      exact this.symm
    rw [a0, Option.bind_some]
    dsimp only
    rw [l0_, l1_, l2_, l3_, l4_, w0, wr _ 0 _ (by omega), Option.bind_some, wr _ 1 _ (by omega), Option.bind_some, wr _ 2 _ (by omega), Option.bind_some, wr _ 3 _ (by omega), Option.bind_some, wr _ 4 _ (by omega), Option.bind_some, hσ1]
  have S1 : ∀ p, p ≠ mN σ → mS σ1 p = mS σ p ∧ mL σ1 p = mL σ p := fun p hp => by
    rw [hσ1]
    show mS (wN σ 100 5) p = _ ∧ mL (wN σ 100 5) p = _
    rw [mS_wN, if_neg hp, mL_wN, if_neg hp]; exact ⟨rfl, rfl⟩
  have R1 : ∀ p, p ≠ mN σ → mR σ1 p = mR σ p := fun p hp => by
    rw [hσ1]
    show mR (wN σ 100 5) p = _
    rw [mR_wN, if_neg hp]
  have I1 : ∀ p, p ≠ mN σ → mI σ1 p = mI σ p := fun p hp => by
    rw [hσ1, mI_wA, if_neg (by rw [hq]; exact hp), mI_wN, if_neg hp]
  have N1 : mN σ1 = mN σ + 1 := by rw [hσ1]; rfl
  have sq : mS σ1 q = 100 := by rw [hσ1]; show mS (wN σ 100 5) q = 100; rw [mS_wN, if_pos hq]
  have lq : mL σ1 q = 5 := by rw [hσ1]; show mL (wN σ 100 5) q = 5; rw [mL_wN, if_pos hq]
  have xq : ∀ j, j < 5 → mI σ1 q j = x j := fun j hj => by
    rw [hσ1, mI_wA, if_pos rfl]
    match j, hj with
    | 0, _ => rfl
    | 1, _ => rfl
    | 2, _ => rfl
    | 3, _ => rfl
    | 4, _ => rfl
  have C1 : FC σ1 := FC_at2 (fun q hq => S1 q (by omega)) (fun q k hq _ _ => by rw [R1 q (by omega)]) hC
  have M1' : FM σ1 := FM_at (fun q hq => S1 q (by omega)) (R1 62 (by omega)) h
  have t1 : mI σ1 37 1 = N L := by rw [I1 37 (by omega)]; exact tp2
  have al : aL 100 (some q) σ1 = some (N 5) := aL_s sq lq
  by_cases hL : L + 20 ≤ 400
  · obtain ⟨τ, hτ⟩ : ∃ τ, τ = tn σ1 (L + 20) (gB (fun i => cb (tF x i)) L 20 (mI σ1 38)) := ⟨_, rfl⟩
    have Mτ : FM τ := by rw [hτ]; exact FM_w (FM_w M1')
    obtain ⟨σ2, hσ2⟩ : ∃ σ2, σ2 = mt (thr_ τ 0) (L + 20) (gB (fun i => N (tF x i)) L 20 (mI σ1 67)) := ⟨_, rfl⟩
    have iT : ∀ p, p ≠ 37 → p ≠ 38 → mI τ p = mI σ1 p := fun p p1 p2 => by
      rw [hτ]; unfold tn
      rw [mI_wA, if_neg p1, mI_wA, if_neg p2]
    have hI : ∀ p, p ≠ 37 → p ≠ 38 → p ≠ 62 → p ≠ 67 → p ≠ mN σ → mI σ2 p = mI σ p := fun p p1 p2 p3 p4 p5 => by
      rw [hσ2]; unfold mt thr_
      rw [mI_wA, if_neg p3, mI_wA, if_neg p4, mI_wA, if_neg p3, iT p p1 p2, I1 p p5]
    have h62 : ∀ k, k ≠ 0 → k ≠ 8 → mI σ2 62 k = mI σ 62 k := fun k k0 k8 => by
      rw [hσ2, ← I1 62 (by omega), ← iT 62 (by omega) (by omega)]
      show up1 (up1 (mI τ 62) 0 (N 0)) 8 (N (L + 20)) k = _
      rw [up1_app, if_neg k8, up1_app, if_neg k0]
    have e37 : mI σ2 37 = up1 (mI σ 37) 1 (N (L + 20)) := by
      rw [hσ2, hτ, ← I1 37 (by omega)]; rfl
    have e38 : mI σ2 38 = gB (fun i => cb (tF x i)) L 20 (mI σ 38) := by
      rw [hσ2, hτ, ← I1 38 (by omega)]; rfl
    have e67 : mI σ2 67 = gB (fun i => N (tF x i)) L 20 (mI σ 67) := by
      rw [hσ2, ← I1 67 (by omega)]; rfl
    have hS : ∀ p, p ≠ mN σ → mS σ2 p = mS σ p ∧ mL σ2 p = mL σ p := fun p hp => by
      rw [hσ2, hτ]; exact S1 p hp
    have hR : ∀ p, p ≠ mN σ → mR σ2 p = mR σ p := fun p hp => by
      rw [hσ2, hτ]; exact R1 p hp
    have hN2 : mN σ2 = mN σ + 1 := by rw [hσ2, hτ]; exact N1
    have fr : ∀ {v A}, LW v A σ → LW v A σ2 := fun hl => LW_fr (by omega) (fun p _ _ => hS p (by omega)) (fun p p1 p2 _ => ⟨hI p (by omega) (by omega) (by omega) (by omega) (by omega), hR p (by omega)⟩) (by rw [hR 40 (by omega)]) hl
    refine ⟨N (L + 20), τ, σ2, np, nh, n, L + 20, ?_, ?_, ⟨KR_gr K ⟨by omega, by omega⟩ hS hR (fun p hp hh => hI p (by omega) (by omega) (by omega) (by omega) hp) (h62 6 (by omega) (by omega)), ?_, ⟨hL, ?_, ?_, ?_⟩, ⟨?_, ?_⟩, ?_, B62_eq ⟨h62 15 (by omega) (by omega), h62 16 (by omega) (by omega), h62 17 (by omega) (by omega), h62 18 (by omega) (by omega)⟩ hB6⟩, by omega, by omega⟩
    · have ad := C_add_23 (σ := σ1) (x := x) (L := L) (g := mI σ1 38) (q := q) C1 hL (by omega) sq lq xq (fun (σ : Mm) => (gI 3 1 (some 37) σ).bind fun x31 => some (x31, σ)) 5 0 fu (by omega) (by unfold fu; omega)
      have z0 : tn σ1 (L + 4 * 0) (gB (fun i => cb (tF x i)) L (4 * 0) (mI σ1 38)) = σ1 := by
        rw [gB_0]
        unfold tn
        rw [wA_self, show L + 4 * 0 = L from rfl, ← t1]
        have : up1 (mI σ1 37) 1 (mI σ1 37 1) = mI σ1 37 := by
          funext k; rw [up1_app]; by_cases c : k = 1
          · rw [if_pos c, c]
          · rw [if_neg c]
        rw [this, wA_self]
      rw [z0] at ad
      have Cτ : FC τ := by rw [hτ]; exact FC_w (FC_w C1)
      have eτ : mI τ 37 1 = N (L + 20) := by rw [hτ]; rfl
      unfold FX1_feed
      rw [fc_gR0_4 hC, Option.bind_some]
      refine Eq.trans (mk fun y σ28 => (rv 3 (some 37) σ28).bind fun q29 => (FX3_add q29 y σ28).bind fun z => some (z.1, z.2)) ?_
      rw [fc_rv37 C1, Option.bind_some]
      unfold FX3_add
      rw [fc_gI37 C1, Option.bind_some, t1, l20_, N_add, l400_, if_pos (by rw [N_le (by omega) (by omega)]; exact hL), al, Option.bind_some, l0_, ad, ← hτ, fc_gI37 Cτ, Option.bind_some, Option.bind_some, eτ]
    · have fd := M_feed_23 (σ := thr_ τ 0) (x := x) (L := L) (g := mI σ1 67) (FM_t Mτ) hL (fun (σ : Mm) => (gI 8 8 (some 62) σ).bind fun x35 => some (x35, σ)) 20 0 fu (by omega) (by unfold fu; omega)
      have t8 : mI (thr_ τ 0) 62 8 = N L := by
        show mI τ 62 8 = _
        rw [iT 62 (by omega) (by omega), I1 62 (by omega)]; exact tp3
      have z0 : mt (thr_ τ 0) (L + 0) (gB (fun i => N (tF x i)) L 0 (mI σ1 67)) = thr_ τ 0 := by
        have e : mI σ1 67 = mI (thr_ τ 0) 67 := (iT 67 (by omega) (by omega)).symm
        rw [gB_0, e]
        unfold mt
        rw [wA_self, show L + 0 = L from rfl, ← t8]
        have : up1 (mI (thr_ τ 0) 62) 8 (mI (thr_ τ 0) 62 8) = mI (thr_ τ 0) 62 := by
          funext k; rw [up1_app]; by_cases c : k = 8
          · rw [if_pos c, c]
          · rw [if_neg c]
        rw [this, wA_self]
      rw [z0] at fd
      have M2 : FM σ2 := by rw [hσ2]; exact FM_w (FM_w (FM_t Mτ))
      have e8 : mI σ2 62 8 = N (L + 20) := by rw [hσ2]; rfl
      unfold FX8_feed
      rw [l0_, fm_pI Mτ, Option.bind_some, thr_w, fm_gI (FM_t Mτ), Option.bind_some, t8, l20_, N_add, l400_, if_pos (by rw [N_le (by omega) (by omega)]; exact hL), fd, ← hσ2, fm_gI M2, Option.bind_some, e8]
    · rw [hR 1 (by omega), hI 63 (by omega) (by omega) (by omega) (by omega) (by omega)]; exact fr hLW
    · rw [e37]; rfl
    · rw [hσ2]; rfl
    · intro k hk
      rw [e38, e67]
      unfold gB
      by_cases c : L ≤ k
      · exact ⟨tF x (k - L), (tF_ok x (k - L)).1, if_pos ⟨c, hk⟩, if_pos ⟨c, hk⟩⟩
      · obtain ⟨t, t1, t2, t3⟩ := tp4 k (by omega)
        exact ⟨t, t1, by rw [if_neg (by omega)]; exact t2, by rw [if_neg (by omega)]; exact t3⟩
    · rw [hI 0 (by omega) (by omega) (by omega) (by omega) (by omega), h62 3 (by omega) (by omega)]; exact hIM.1
    · rw [hI 0 (by omega) (by omega) (by omega) (by omega) (by omega), hI 64 (by omega) (by omega) (by omega) (by omega) (by omega), hR 25 (by omega)]
      rcases hIM.2 with z | ⟨z, mp, mh, z1, z2, z3⟩
      · exact Or.inl z
      · exact Or.inr ⟨z, mp, mh, z1, RW_eq (fun k hk => hI _ (by omega) (by omega) (by omega) (by omega) (by omega)) z2, fr z3⟩
    · rw [e37, h62 12 (by omega) (by omega)]; exact hF
  · obtain ⟨σ2, hσ2⟩ : ∃ σ2, σ2 = thr_ σ1 0 := ⟨_, rfl⟩
    have hI : ∀ p, p ≠ 62 → p ≠ mN σ → mI σ2 p = mI σ p := fun p p1 p2 => by
      rw [hσ2]; unfold thr_
      rw [mI_wA, if_neg p1, I1 p p2]
    have h62 : ∀ k, k ≠ 0 → mI σ2 62 k = mI σ 62 k := fun k k0 => by
      rw [hσ2, ← I1 62 (by omega)]
      show up1 (mI σ1 62) 0 (N 0) k = _
      rw [up1_app, if_neg k0]
    have hS : ∀ p, p ≠ mN σ → mS σ2 p = mS σ p ∧ mL σ2 p = mL σ p := fun p hp => by
      rw [hσ2]; exact S1 p hp
    have hR : ∀ p, p ≠ mN σ → mR σ2 p = mR σ p := fun p hp => by
      rw [hσ2]; exact R1 p hp
    have hN2 : mN σ2 = mN σ + 1 := by rw [hσ2]; exact N1
    have fr : ∀ {v A}, LW v A σ → LW v A σ2 := fun hl => LW_fr (by omega) (fun p _ _ => hS p (by omega)) (fun p p1 p2 _ => ⟨hI p (by omega) (by omega), hR p (by omega)⟩) (by rw [hR 40 (by omega)]) hl
    refine ⟨M1, σ1, σ2, np, nh, n, L, ?_, ?_, ⟨KR_gr K ⟨by omega, by omega⟩ hS hR (fun p hp hh => hI p (by omega) hp) (h62 6 (by omega)), ?_, ⟨tp1, ?_, (h62 8 (by omega)).trans tp3, ?_⟩, ⟨?_, ?_⟩, ?_, B62_eq ⟨h62 15 (by omega), h62 16 (by omega), h62 17 (by omega), h62 18 (by omega)⟩ hB6⟩, by omega, by omega⟩
    · unfold FX1_feed
      rw [fc_gR0_4 hC, Option.bind_some]
      refine Eq.trans (mk fun y σ28 => (rv 3 (some 37) σ28).bind fun q29 => (FX3_add q29 y σ28).bind fun z => some (z.1, z.2)) ?_
      rw [fc_rv37 C1, Option.bind_some]
      unfold FX3_add
      rw [fc_gI37 C1, Option.bind_some, t1, l20_, N_add, l400_, if_neg (by rw [N_le (by omega) (by omega)]; exact hL), Option.bind_some]
      rfl
    · have t8 : mI (thr_ σ1 0) 62 8 = N L := by
        show mI σ1 62 8 = _
        rw [I1 62 (by omega)]; exact tp3
      unfold FX8_feed
      rw [l0_, fm_pI M1', Option.bind_some, thr_w, fm_gI (FM_t M1'), Option.bind_some, t8, l20_, N_add, l400_, if_neg (by rw [N_le (by omega) (by omega)]; exact hL), hσ2]
      rfl
    · rw [hR 1 (by omega), hI 63 (by omega) (by omega)]; exact fr hLW
    · rw [hI 37 (by omega) (by omega)]; exact tp2
    · intro k hk
      rw [hI 38 (by omega) (by omega), hI 67 (by omega) (by omega)]; exact tp4 k hk
    · rw [hI 0 (by omega) (by omega), h62 3 (by omega)]; exact hIM.1
    · rw [hI 0 (by omega) (by omega), hI 64 (by omega) (by omega), hR 25 (by omega)]
      rcases hIM.2 with z | ⟨z, mp, mh, z1, z2, z3⟩
      · exact Or.inl z
      · exact Or.inr ⟨z, mp, mh, z1, RW_eq (fun k hk => hI _ (by omega) (by omega)) z2, fr z3⟩
    · rw [hI 37 (by omega) (by omega), h62 12 (by omega)]; exact hF
end
