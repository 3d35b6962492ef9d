/-! THE PLAIN LAW, 96: back to the image -/
set_option maxRecDepth 100000
theorem AL_fr {l n e : Nat} {σ τ : Mm} (S : mS τ = mS σ) (Ln : mL τ = mL σ) (Nn : mN τ = mN σ) (hI : mI τ l = mI σ l) (hR : mR τ l = mR σ l) (hE : mR τ e = mR σ e) (h : AL l n e σ) : AL l n e τ := by
  obtain ⟨h1, h2, h3, h4, h5, h6, h7⟩ := h
  refine ⟨by rw [S]; exact h1, by rw [hI]; exact h2, by rw [hR]; exact h3, h4, by rw [Nn, S, Ln]; exact h5, by rw [Nn]; exact h6, fun i hi => ?_⟩
  obtain ⟨q, q1, q2, q3⟩ := h7 i hi
  exact ⟨q, by rw [hE]; exact q1, by rw [Nn]; exact q2, (obj_e (by rw [S])).trans q3⟩
section
variable {np nh n L : Nat} {σ τ υ : Mm}
theorem q_back (I : Inv np nh n L σ) : Qj (FX1_back 0) (FX8_back 62) L σ := by
  have hBG : BIG = 1000000 := rfl
  obtain ⟨K, hLW, ⟨tp1, tp2, tp3, tp4⟩, ⟨im0, him⟩, hF, hB6⟩ := id I
  have hC := K.1.c; have h := K.1.m
  obtain ⟨-, hK, ⟨hN0, hN1⟩, h6, h12, e, f, hX⟩ := id K
  rcases him with im | ⟨im, np', nh', iw, ir, il⟩
  · refine ⟨N 0, σ, thr_ σ 0, np, nh, n, L, ?_, ?_, Inv_oth I (KR_kp thr_k K) (Oth_kp hN0 thr_k), by omega, by show mN σ ≤ _; omega⟩
    · unfold FX1_back
      rw [fc_gI0 hC, Option.bind_some, im, if_pos (show N 0 = 0 from rfl), l0_, rZ_0]
    · have e3 : mI (thr_ σ 0) 62 3 = N 0 := by
        show mI σ 62 3 = _
        rw [← im0]; exact im
      unfold FX8_back
      rw [l0_, fm_pI h, Option.bind_some, thr_w, fm_gI (FM_t h), Option.bind_some, e3, if_pos rfl, rZ_0]
  · have hn' := iw.1.2.1
    obtain ⟨w1, w2, w3⟩ := W_likens (b := 1) (c := 25) (by omega) hn' hC.1 hC.2.2.1 ir
    obtain ⟨σ1, hσ1⟩ : ∃ σ1, σ1 = lkM 1 25 σ := ⟨_, rfl⟩
    rw [← hσ1] at w1 w2 w3
    have hM1 : FM σ1 := w3.fm (by omega) h
    have hC1 : FC σ1 := w3.fc hC
    obtain ⟨o1, o2, o3, o4, o5, o6⟩ := w3
    have he76 := hX.2.1
    have hAL := hX.1
    have o3q : ∀ q, q ≠ 1 → mR σ1 q = mR σ q := fun q hq => funext fun k => o3 q k (Or.inl hq)
    obtain ⟨ρ, r1, r2, ⟨-, -, l3, l4, l5⟩, r5, r6, r7⟩ := J_clear2 (AL_fr (τ := σ1) o1 o2 o5 (o6 40 (by omega)) (o3q 40 (by omega)) (o3q e (by omega)) hAL) (by have := hX.2.2.1; omega)
    have hMρ : FM ρ := FM_at (fun q hq => l3 q (by omega)) (l4 62 (by omega) (by omega)).2 hM1
    have i63 : mI ρ 63 = mI σ 63 := ((l4 63 (by omega) (by omega)).1).trans (o6 63 (by omega))
    have i64 : mI ρ 64 = mI σ 64 := ((l4 64 (by omega) (by omega)).1).trans (o6 64 (by omega))
    have i62 : mI ρ 62 = mI σ 62 := ((l4 62 (by omega) (by omega)).1).trans (o6 62 (by omega))
    obtain ⟨B, hB⟩ : ∃ B, B = fl (mI σ 63) (mI σ 64) 0 984 := ⟨_, rfl⟩
    have B1 : ∀ j, j < 984 → B j = mI σ 64 j := fun j hj => by rw [hB]; exact if_pos ⟨Nat.zero_le _, hj⟩
    obtain ⟨σ2, hσ2⟩ : ∃ σ2, σ2 = wA (wA (thr_ ρ 0) 63 B) 62 (up1 (up1 (mI σ 62) 0 (N 0)) 6 (N 0)) := ⟨_, rfl⟩
    have hS : mS σ2 = mS ρ := by rw [hσ2]; rfl
    have hL : mL σ2 = mL ρ := by rw [hσ2]; rfl
    have hR : mR σ2 = mR ρ := by rw [hσ2]; rfl
    have hN : mN σ2 = mN σ := by rw [hσ2]; exact r5.trans o5
    have hI0 : ∀ q, q ≠ 62 → q ≠ 63 → mI σ2 q = mI ρ q := fun q q1 q2 => by
      rw [hσ2]; unfold thr_
      rw [mI_wA, if_neg q1, mI_wA, if_neg q2, mI_wA, if_neg q1]
    have hI : ∀ q, q ≠ 40 → q ≠ 62 → q ≠ 63 → q < 1 ∨ 13 ≤ q → mI σ2 q = mI σ q := fun q q2 q3 q4 q5 => by
      rw [hI0 q q3 q4]
      by_cases c : q = e
      · rw [c, r6, o6 e (by omega)]
      · rw [(l4 q c q2).1, o6 q (by omega)]
    have h62 : ∀ k, k ≠ 0 → k ≠ 6 → mI σ2 62 k = mI σ 62 k := fun k k0 k6 => by
      rw [hσ2]
      show up1 (up1 (mI σ 62) 0 (N 0)) 6 (N 0) k = _
      rw [up1_app, if_neg k6, up1_app, if_neg k0]
    have h63 : mI σ2 63 = B := by rw [hσ2]; rfl
    have sl : ∀ q, q ≠ mN σ → mS σ2 q = mS σ q ∧ mL σ2 q = mL σ q := fun q hq => by
      rw [hS, hL, ← o1, ← o2]; exact l3 q (by rw [o5]; exact hq)
    have R1 : ∀ q, q ≠ e → q ≠ 40 → q ≠ 1 → mR σ2 q = mR σ q := fun q q1 q2 q3 => by
      rw [hR, (l4 q q1 q2).2, o3q q q3]
    have R40 : mR σ2 40 1 = some e := by rw [hR]; exact r2.2.2.1
    have R40' : mR σ2 40 1 = mR σ 40 1 := by rw [R40]; exact hAL.2.2.1.symm
    have R19 : mR σ2 1 19 = mR σ 25 19 := by rw [hR, (l4 1 (by omega) (by omega)).2]; exact o4
    have fr : ∀ {v A}, LW v A σ → LW v A σ2 := fun hl => LW_fr (by rw [hN]; exact Nat.le_refl _) (fun p _ p2 => sl p (by omega)) (fun p p1 p2 p3 => ⟨hI p (by omega) (by omega) (by omega) (by omega), R1 p (fun z => p3 (by rw [z]; exact hAL.2.2.1)) (by omega) (by omega)⟩) R40' hl
    have e03 : mI σ2 0 3 = N 1 := by rw [hI 0 (by omega) (by omega) (by omega) (by omega)]; exact im
    have e25 : mR σ2 25 = mR σ 25 := R1 25 (by omega) (by omega) (by omega)
    have e64 : mI σ2 64 = mI σ 64 := hI 64 (by omega) (by omega) (by omega) (by omega)
    refine ⟨N 1, ρ, σ2, np', nh', 0, L, ?_, ?_, ⟨⟨⟨?_, ?_, ?_, ?_⟩, ⟨?_, ?_⟩, ?_, ?_, ?_, e, f, ?_⟩, ?_, ⟨tp1, ?_, (h62 8 (by omega) (by omega)).trans tp3, ?_⟩, ⟨?_, Or.inr ⟨e03, np', nh', ?_, ?_, ?_⟩⟩, ?_, B62_eq ⟨h62 15 (by omega) (by omega), h62 16 (by omega) (by omega), h62 17 (by omega) (by omega), h62 18 (by omega) (by omega)⟩ hB6⟩, by omega, by rw [hN]; omega⟩
    · unfold FX1_back
      rw [fc_gI0 hC, Option.bind_some, im, if_neg (show ¬ N 1 = 0 by decide), fc_gR0_0 hC, Option.bind_some, fc_gR0_2 hC, Option.bind_some, fw_rv hC.1, Option.bind_some, w1, Option.bind_some]
      dsimp only
      rw [fc_gR0_6 hC1, Option.bind_some, fc_rv40 hC1, Option.bind_some, r1, Option.bind_some, l1_, rZ_1]
    · have e3 : mI (thr_ ρ 0) 62 3 = N 1 := by
        show mI ρ 62 3 = _
        rw [i62, ← im0]; exact im
      have a63 : mI (thr_ ρ 0) 63 = mI σ 63 := i63
      have a64 : mI (thr_ ρ 0) 64 = mI σ 64 := i64
      have a62 : mI (wA (thr_ ρ 0) 63 (fl (mI σ 63) (mI σ 64) 0 984)) 62 = up1 (mI σ 62) 0 (N 0) := by
        rw [← i62]; rfl
      unfold FX8_back
      rw [l0_, fm_pI hMρ, Option.bind_some, thr_w, fm_gI (FM_t hMρ), Option.bind_some, e3, if_neg (show ¬ N 1 = N 0 by decide), M_back_16 _ 984 0 fu _ (FM_t hMρ) (by omega) (by unfold fu; omega), a63, a64, fm_pI (FM_w (FM_t hMρ)), Option.bind_some, a62, l1_, rZ_1, hσ2, hB]
    · refine FC_at2 (fun q hq => sl q (by omega)) (fun q k hq hk h4 => ?_) hC
      by_cases c : q = 40
      · subst c
        rw [hR, l5 k (h4.resolve_left (fun z => z rfl))]
        exact o3 40 k (by omega)
      · by_cases c1 : q = 1
        · subst c1; rw [hR, (l4 1 (by omega) (by omega)).2]; exact o3 1 k (Or.inr hk)
        · rw [R1 q (by omega) c c1]
    · exact FM_at (fun q hq => sl q (by omega)) (R1 62 (by omega) (by omega) (by omega)) h
    · rw [h63]
      exact RW_row hn' (fun j hj => B1 j (by omega)) (RW_eq (σ := σ1) (fun k hk => by rw [hI0 _ (by omega) (by omega), (l4 _ (by omega) (by omega)).1]) w2)
    · rw [h63]; exact WF_row (fun j hj => B1 j (by omega)) iw
    · intro p hp
      rw [(sl p (by omega)).1, (sl p (by omega)).2, hI p (by omega) (by omega) (by omega) (by omega)]
      exact hK.1 p hp
    · intro p k hp h3
      by_cases c : p = e
      · have hn0 : n = 0 := by
          rcases hAL.2.2.2.2.1 with ⟨_, z⟩ | z
          · exact z
          · have := z.1; omega
        rw [hR, c, r7 hn0, o3q e (by omega)]
        exact hK.2 e k (by omega) (by omega)
      · rw [R1 p c (by omega) (by omega)]; exact hK.2 p k hp h3
    · rw [hN]; exact ⟨hN0, hN1⟩
    · rw [hσ2]; rfl
    · intro i hi; omega
    · refine ⟨AL_fr (σ := ρ) hS hL (by rw [hN, r5, o5]) (hI0 40 (by omega) (by omega)) (by rw [hR]) (by rw [hR]) r2, he76, by omega, fun i hi => by omega, fun i j hi => by omega⟩
    · rw [R19, h63]; exact LW_row2 B1 (fr il)
    · rw [hI 37 (by omega) (by omega) (by omega) (by omega)]; exact tp2
    · rw [hI 38 (by omega) (by omega) (by omega) (by omega), hI 67 (by omega) (by omega) (by omega) (by omega)]; exact tp4
    · rw [e03, h62 3 (by omega) (by omega), ← im0]; exact im.symm
    · rw [e64]; exact iw
    · rw [e64]; exact RW_eq (fun k hk => hI _ (by omega) (by omega) (by omega) (by omega)) ir
    · rw [e64, e25]; exact fr il
    · rw [hI 37 (by omega) (by omega) (by omega) (by omega), h62 12 (by omega) (by omega)]; exact hF
end
