/-! THE PLAIN LAW, 95: the image -/
set_option maxRecDepth 100000
theorem M_image_7 (kx : Mm → Option Mm) (k : Nat) : ∀ (i n : Nat) (σ : Mm), FM σ → i + k = 984 → k < n → FX8_image_7 62 n (N i) σ kx = kx (wA σ 64 (fl (mI σ 64) (mI σ 63) i 984)) := by
  induction k with
  | zero =>
    intro i n σ h hi hk
    obtain ⟨n, rfl⟩ : ∃ n', n = n' + 1 := ⟨n - 1, by omega⟩
    have : i = 984 := by omega
    subst this
    rw [FX8_image_7, fl_0, wA_self]
    exact if_pos (by decide)
  | succ k ih =>
    intro i n σ h hi hk
    obtain ⟨n, rfl⟩ : ∃ n', n = n' + 1 := ⟨n - 1, by omega⟩
    rw [FX8_image_7, l984_, if_neg (by rw [N_le (by omega) (by omega)]; omega), fm_gR2 h, Option.bind_some, fm_gR1 h, Option.bind_some, fm_rd63 h (by omega), Option.bind_some, fm_wr64 h (by omega), Option.bind_some, l1_, N_add, ih (i + 1) n (wA σ 64 (up1 (mI σ 64) i (mI σ 63 i))) h (by omega) (by omega), mI_wA, if_pos rfl, wA_wA]
    have e63 : mI (wA σ 64 (up1 (mI σ 64) i (mI σ 63 i))) 63 = mI σ 63 := rfl
    rw [e63, fl_s (f := mI σ 64) (g := mI σ 63) (a := i) (b := 984) (by omega)]
theorem M_back_16 (kx : Mm → Option (Int32 × Mm)) (k : Nat) : ∀ (i n : Nat) (σ : Mm), FM σ → i + k = 984 → k < n → FX8_back_16 62 n (N i) σ kx = kx (wA σ 63 (fl (mI σ 63) (mI σ 64) i 984)) := by
  induction k with
  | zero =>
    intro i n σ h hi hk
    obtain ⟨n, rfl⟩ : ∃ n', n = n' + 1 := ⟨n - 1, by omega⟩
    have : i = 984 := by omega
    subst this
    rw [FX8_back_16, fl_0, wA_self]
    exact if_pos (by decide)
  | succ k ih =>
    intro i n σ h hi hk
    obtain ⟨n, rfl⟩ : ∃ n', n = n' + 1 := ⟨n - 1, by omega⟩
    rw [FX8_back_16, l984_, if_neg (by rw [N_le (by omega) (by omega)]; omega), fm_gR1 h, Option.bind_some, fm_gR2 h, Option.bind_some, fm_rd64 h (by omega), Option.bind_some, fm_wr63 h (by omega), Option.bind_some, l1_, N_add, ih (i + 1) n (wA σ 63 (up1 (mI σ 63) i (mI σ 64 i))) h (by omega) (by omega), mI_wA, if_pos rfl, wA_wA]
    have e64 : mI (wA σ 63 (up1 (mI σ 63) i (mI σ 64 i))) 64 = mI σ 64 := rfl
    rw [e64, fl_s (f := mI σ 63) (g := mI σ 64) (a := i) (b := 984) (by omega)]
theorem LW_row2 {v : Option Nat} {A B : Nat → Int32} {σ : Mm} (h : ∀ j, j < 984 → B j = A j) (hl : LW v A σ) : LW v B σ := by
  rcases hl with ⟨h1, h2⟩ | ⟨q, lo, hi, T, e, ls, k, h1, h2, h3, h4, h5, h6, h7, h8⟩
  · exact Or.inl ⟨h1, by rw [h 1 (by omega)]; exact h2⟩
  · have he := h2.1
    exact Or.inr ⟨q, lo, hi, T, e, ls, k, h1, h2, h3, by rw [h 1 (by omega)]; exact h4, h5, by rw [h 2 (by omega)]; exact h6, fun k hk => by rw [h (584 + k) (by omega)]; exact h7 k hk, h8⟩
theorem LW_fr {v : Option Nat} {A : Nat → Int32} {σ τ : Mm} (hN : mN σ ≤ mN τ) (h : ∀ p, 76 ≤ p → p < mN σ → mS τ p = mS σ p ∧ mL τ p = mL σ p) (g : ∀ p, 76 ≤ p → p < mN σ → mR σ 40 1 ≠ some p → mI τ p = mI σ p ∧ mR τ p = mR σ p) (h40 : mR τ 40 1 = mR σ 40 1) (hl : LW v A σ) : LW v A τ := by
  rcases hl with h1 | ⟨q, lo, hi, T, e, ls, k, h1, h2, h3, h4, h5, h6, h7, h8, h9, h10, h11, h12⟩
  · exact Or.inl h1
  · have ag : Ag lo hi σ τ := fun p p1 p2 => by
      obtain ⟨a1, a2⟩ := h p (by omega) (by omega)
      obtain ⟨c1, c2⟩ := g p (by omega) (by omega) (h12 p p1 p2)
      exact ⟨a1, a2, c1, c2⟩
    exact Or.inr ⟨q, lo, hi, T, e, ls, k, h1, h2, h3, h4, h5, h6, h7, h8.ag ag, h9, by omega, fun p p1 p2 => by rw [(ag p p1 p2).1]; exact h11 p p1 p2, fun p p1 p2 => by rw [h40]; exact h12 p p1 p2⟩
section
variable {np nh n L : Nat} {σ τ υ : Mm}
theorem KR_fr (K : KR np nh n σ) (S : mS τ = mS σ) (Ln : mL τ = mL σ) (Nn : mN τ = mN σ) (R : ∀ q k, k ≠ 19 ∨ q = 1 ∨ q = 40 ∨ q = 62 ∨ 76 ≤ q → mR τ q k = mR σ q k) (hI : ∀ q, (1 ≤ q ∧ q < 13) ∨ q = 40 ∨ q = 63 ∨ q = 66 ∨ 76 ≤ q → mI τ q = mI σ q) (k6 : mI τ 62 6 = mI σ 62 6) : KR np nh n τ := by
  have hBG : BIG = 1000000 := rfl
  obtain ⟨⟨hC, hM, hr, hw⟩, hK, ⟨hN0, hN1⟩, h6, h12, e', f', hX⟩ := K
  have Rq : ∀ q, q = 1 ∨ q = 40 ∨ q = 62 ∨ 76 ≤ q → mR τ q = mR σ q := fun q hq => funext fun k => R q k (Or.inr hq)
  have e63 := hI 63 (by omega)
  have h66 := hI 66 (by omega)
  refine ⟨⟨FC_at2 (fun q _ => by rw [S, Ln]; exact ⟨rfl, rfl⟩) (fun q k _ hk _ => R q k (Or.inl hk)) hC, FM_at (fun q _ => by rw [S, Ln]; exact ⟨rfl, rfl⟩) (Rq 62 (by omega)) hM, ?_, by rw [e63]; exact hw⟩, ⟨fun p hp => ?_, fun p k hp h3 => ?_⟩, by rw [Nn]; exact ⟨hN0, hN1⟩, k6.trans h6, ?_, e', f', ?_⟩
  · rw [e63]; exact RW_eq (fun k hk => hI (1 + k) (by omega)) hr
  · rw [S, Ln, hI p (by omega)]; exact hK.1 p hp
  · rw [Rq p (by omega)]; exact hK.2 p k hp h3
  · unfold rowM; rw [h66, e63]; exact h12
  · have er : rowM τ = rowM σ := by unfold rowM; rw [h66]
    rw [er, R 1 19 (by omega)]
    have he := hX.2.1
    refine KX_at ⟨by rw [S], hI 40 (by omega), Rq 40 (by omega)⟩ ⟨by rw [S], by rw [Ln], Rq e' (by omega)⟩ (by rw [Nn]; exact Nat.le_refl _) (fun i hi q q1 q2 => ?_) hX
    have := (hX.2.2.2.1 i hi).2.1
    exact ⟨by rw [S], by rw [Ln], hI q (by omega), Rq q (by omega)⟩
theorem q_image (I : Inv np nh n L σ) : ∃ σ1 σ2, FX1_image 0 σ = some σ1 ∧ FX8_image 62 σ1 = some σ2 ∧ Inv np nh n L σ2 ∧ mN σ2 = mN σ := by
  have hBG : BIG = 1000000 := rfl
  obtain ⟨K, hLW, ⟨tp1, tp2, tp3, tp4⟩, hIM, hF, hB6⟩ := id I
  have hC := K.1.c; have h := K.1.m; have hr := K.1.r; have hw := K.1.w
  have hn0 := K.1.n0
  have hN0 := K.2.2.1.1
  have hr0 : RW 1 (mI σ 63) np (wA σ 0 (up1 (mI σ 0) 3 1)) := RW_eq (fun k hk => if_neg (by omega)) hr
  obtain ⟨w1, w2, w3⟩ := W_likens (b := 25) (c := 1) (by omega) hn0 (FC_w hC).2.2.1 (FC_w hC).1 hr0
  obtain ⟨σ1, hσ1⟩ : ∃ σ1, σ1 = lkM 25 1 (wA σ 0 (up1 (mI σ 0) 3 1)) := ⟨_, rfl⟩
  rw [← hσ1] at w1 w2 w3
  have hM1 : FM σ1 := w3.fm (by omega) h
  obtain ⟨o1, o2, o3, o4, o5, o6⟩ := w3
  have i0 : ∀ q, q ≠ 0 → q < 25 ∨ 37 ≤ q → mI σ1 q = mI σ q := fun q q0 q1 => (o6 q (by omega)).trans (if_neg q0)
  have i00 : mI σ1 0 = up1 (mI σ 0) 3 1 := (o6 0 (by omega)).trans rfl
  obtain ⟨σ2, hσ2⟩ : ∃ σ2, σ2 = wA (wA (thr_ σ1 0) 64 (fl (mI σ 64) (mI σ 63) 0 984)) 62 (up1 (up1 (mI σ 62) 0 (N 0)) 3 1) := ⟨_, rfl⟩
  have hS : mS σ2 = mS σ := by rw [hσ2]; exact o1
  have hL : mL σ2 = mL σ := by rw [hσ2]; exact o2
  have hR : mR σ2 = mR σ1 := by rw [hσ2]; rfl
  have hN : mN σ2 = mN σ := by rw [hσ2]; exact o5
  have hR2 : ∀ q k, q ≠ 25 ∨ k ≠ 19 → mR σ2 q k = mR σ q k := fun q k hq => by rw [hR]; exact o3 q k hq
  have hI : ∀ q, q ≠ 0 → q ≠ 62 → q ≠ 64 → q < 25 ∨ 37 ≤ q → mI σ2 q = mI σ q := fun q q0 q1 q2 q3 => by
    rw [hσ2]; unfold thr_
    rw [mI_wA, if_neg q1, mI_wA, if_neg q2, mI_wA, if_neg q1, i0 q q0 q3]
  have h62 : ∀ k, k ≠ 0 → k ≠ 3 → mI σ2 62 k = mI σ 62 k := fun k k0 k3 => by
    rw [hσ2]
    show up1 (up1 (mI σ 62) 0 (N 0)) 3 1 k = _
    rw [up1_app, if_neg k3, up1_app, if_neg k0]
  have h64 : mI σ2 64 = fl (mI σ 64) (mI σ 63) 0 984 := by rw [hσ2]; rfl
  have h64' : ∀ j, j < 984 → mI σ2 64 j = mI σ 63 j := fun j hj => by rw [h64]; exact if_pos ⟨Nat.zero_le _, hj⟩
  have K2 : KR np nh n σ2 := KR_fr K hS hL hN (fun q k hq => hR2 q k (by omega)) (fun q hq => hI q (by omega) (by omega) (by omega) (by omega)) (h62 6 (by omega) (by omega))
  have fr : ∀ {v A}, LW v A σ → LW v A σ2 := fun hl => LW_fr (by rw [hN]; exact Nat.le_refl _) (fun p _ _ => by rw [hS, hL]; exact ⟨rfl, rfl⟩) (fun p p1 _ _ => ⟨hI p (by omega) (by omega) (by omega) (by omega), funext fun k => hR2 p k (by omega)⟩) (hR2 40 1 (by omega)) hl
  have e19 : mR σ2 1 19 = mR σ 1 19 := hR2 1 19 (by omega)
  have e03 : mI σ2 0 3 = N 1 := by
    rw [hσ2]
    show mI σ1 0 3 = _
    rw [i00]; rfl
  refine ⟨σ1, σ2, ?_, ?_, ⟨K2, ?_, ⟨tp1, ?_, (h62 8 (by omega) (by omega)).trans tp3, ?_⟩, ⟨?_, Or.inr ⟨e03, np, nh, ?_, ?_, ?_⟩⟩, ?_, B62_eq ⟨h62 15 (by omega) (by omega), h62 16 (by omega) (by omega), h62 17 (by omega) (by omega), h62 18 (by omega) (by omega)⟩ hB6⟩, hN⟩
  · have c2 : FC (wA σ 0 (up1 (mI σ 0) 3 1)) := FC_w hC
    unfold FX1_image
    rw [fc_pZ0 hC (Or.inr rfl), Option.bind_some, fc_gR0_2 c2, Option.bind_some, fc_gR0_0 c2, Option.bind_some, fw_rv c2.2.2.1, Option.bind_some, w1, Option.bind_some]
  · have a63 : mI (thr_ σ1 0) 63 = mI σ 63 := i0 63 (by omega) (by omega)
    have a64 : mI (thr_ σ1 0) 64 = mI σ 64 := i0 64 (by omega) (by omega)
    have a62 : mI (wA (thr_ σ1 0) 64 (fl (mI σ 64) (mI σ 63) 0 984)) 62 = up1 (mI σ 62) 0 (N 0) := by
      rw [← i0 62 (by omega) (by omega)]; rfl
    unfold FX8_image
    rw [l0_, fm_pI hM1, Option.bind_some, thr_w, M_image_7 _ 984 0 fu _ (FM_t hM1) (by omega) (by unfold fu; omega), a63, a64, fm_pZ (FM_w (FM_t hM1)) (Or.inr rfl), Option.bind_some, a62, hσ2]
  · rw [e19, hI 63 (by omega) (by omega) (by omega) (by omega)]; exact fr hLW
  · rw [hI 37 (by omega) (by omega) (by omega) (by omega)]; exact tp2
  · rw [hI 38 (by omega) (by omega) (by omega) (by omega), hI 67 (by omega) (by omega) (by omega) (by omega)]; exact tp4
  · rw [e03, hσ2]; rfl
  · exact WF_row (A := mI σ 63) (fun j hj => h64' j (by omega)) hw
  · refine RW_row (A := mI σ 63) hn0 (fun j hj => h64' j (by omega)) (RW_eq (σ := σ1) (fun k hk => ?_) w2)
    rw [hσ2]; unfold thr_
    rw [mI_wA, if_neg (by omega), mI_wA, if_neg (by omega), mI_wA, if_neg (by omega)]
  · rw [hR, o4]
    show LW (mR σ 1 19) _ _
    exact LW_row2 (A := mI σ 63) h64' (fr hLW)
  · rw [hI 37 (by omega) (by omega) (by omega) (by omega), h62 12 (by omega) (by omega)]; exact hF
end
