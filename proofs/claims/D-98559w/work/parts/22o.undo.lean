/-! THE PLAIN LAW, 94: undo -/
set_option maxRecDepth 100000
theorem M_undo_26 {m : Nat} (hm : m < 12) (kx : Mm → Option (Int32 × Mm)) (k : Nat) : ∀ (i n : Nat) (σ : Mm), FM σ → mI σ 62 6 = N m → i + k = 584 → k < n → FX8_undo_26 62 n (N i) σ kx = kx (wA σ 63 (fl (mI σ 63) (fun j => mI σ 66 (584 * m + j)) i 584)) := by
  induction k with
  | zero =>
    intro i n σ h h6 hi hk
    obtain ⟨n, rfl⟩ : ∃ n', n = n' + 1 := ⟨n - 1, by omega⟩
    have : i = 584 := by omega
    subst this
    rw [FX8_undo_26, fl_0, wA_self]
    exact if_pos (by decide)
  | succ k ih =>
    intro i n σ h h6 hi hk
    obtain ⟨n, rfl⟩ : ∃ n', n = n' + 1 := ⟨n - 1, by omega⟩
    rw [FX8_undo_26, l584_, if_neg (by rw [N_le (by omega) (by omega)]; omega), fm_gR1 h, Option.bind_some, fm_gR5 h, Option.bind_some, fm_gI h, Option.bind_some, h6, N_mul, N_add, fm_rd66 h (by omega), Option.bind_some, fm_wr63 h (by omega), Option.bind_some, l1_, N_add, ih (i + 1) n (wA σ 63 (up1 (mI σ 63) i (mI σ 66 (584 * m + i)))) h h6 (by omega) (by omega), mI_wA, if_pos rfl, wA_wA]
    have e66 : mI (wA σ 63 (up1 (mI σ 63) i (mI σ 66 (584 * m + i)))) 66 = mI σ 66 := rfl
    rw [e66, fl_s (f := mI σ 63) (g := fun j => mI σ 66 (584 * m + j)) (a := i) (b := 584) (by omega)]
section
variable {np nh n L : Nat} {σ τ υ : Mm}
theorem q_undo (K : KR np nh n σ) : QB (FX1_undo 0) (FX8_undo 62) σ := by
  have hBG : BIG = 1000000 := rfl
  have hC := K.1.c; have h := K.1.m
  obtain ⟨⟨-, -, hr, hw⟩, hK, ⟨hN0, hN1⟩, h6, h12, e, f, hX⟩ := id K
  have hAL := hX.1
  have g6 := fc_gR0_6 hC
  have rv40 := fc_rv40 hC
  have gI40 : gI 17 2 (some 40) σ = some (N n) := by rw [fc_gI40 hC, hAL.2.1]
  by_cases h0 : n = 0
  · subst h0
    refine QB_qn K ⟨N 0, σ, thr_ σ 0, ?_, ?_, thr_k⟩
    · unfold FX1_undo FJ3_isEmpty
      rw [g6, Option.bind_some, rv40, Option.bind_some, gI40, Option.bind_some, if_pos (show N 0 = 0 from rfl), l1_, rZ_1, Option.bind_some]
      dsimp only
      rw [if_neg (show ¬ N 1 = 0 by decide), l0_, rZ_0]
    · unfold FX8_undo
      rw [l0_, fm_pI h, Option.bind_some, thr_w, fm_gI (FM_t h), Option.bind_some, thr_6, h6, if_pos rfl, rZ_0]
  · obtain ⟨m, rfl⟩ : ∃ m, n = m + 1 := ⟨n - 1, by omega⟩
    have hm : m < 12 := by have := hX.2.2.1; omega
    obtain ⟨ρ, r1, r2, r3, ⟨-, -, l3, l4, l5⟩, r5⟩ := J_remove hAL (show m < m + 1 by omega)
    have r2 : AL 40 m e ρ := r2
    have he : e < mN σ ∧ 76 ≤ e := by
      rcases hX.2.1 with z | z
      · rcases hAL.2.2.2.2.1 with ⟨_, z2⟩ | z2
        · omega
        · have := z2.1; omega
      · rcases hAL.2.2.2.2.1 with ⟨_, z2⟩ | z2
        · omega
        · exact ⟨z2.1, z⟩
    obtain ⟨d1, d2, d3, d4, d5, d6, np', nh', d7, d8⟩ := hX.2.2.2.1 m (by omega)
    have hn' := d7.1.2.1
    have hCρ : FC ρ := FC_at2 (fun q hq => l3 q (by omega)) (fun q k hq _ hk => by
      by_cases c : q = 40
      · subst c; exact l5 k (hk.resolve_left (fun z => z rfl))
      · rw [(l4 q (by omega) c).2]) hC
    have hMρ : FM ρ := FM_at (fun q hq => l3 q (by omega)) (l4 62 (by omega) (by omega)).2 h
    have hWρ : FW (f m) ρ := FW_at (fun q _ h2 => l3 q (by omega)) (l4 (f m) (by omega) (by omega)).2 d5
    have hrρ : RW (f m) (rowM σ m) np' ρ := RW_eq (fun k hk => (l4 _ (by omega) (by omega)).1) d8
    have hvρ : mR ρ (f m) 19 = mR σ 1 19 := by rw [(l4 (f m) (by omega) (by omega)).2]; exact d6
    obtain ⟨w1, w2, w3⟩ := W_likens (b := 1) (c := f m) (by omega) hn' hCρ.1 hWρ hrρ
    rw [hvρ] at w3
    obtain ⟨σ1, hσ1⟩ : ∃ σ1, σ1 = lkM 1 (f m) ρ := ⟨_, rfl⟩
    rw [← hσ1] at w1 w2 w3
    have hM1 : FM σ1 := w3.fm (by omega) hMρ
    have hC1 : FC σ1 := w3.fc hCρ
    obtain ⟨o1, o2, o3, o4, o5, o6⟩ := w3
    have i63 : mI σ1 63 = mI σ 63 := (o6 63 (by omega)).trans (l4 63 (by omega) (by omega)).1
    have i66 : mI σ1 66 = mI σ 66 := (o6 66 (by omega)).trans (l4 66 (by omega) (by omega)).1
    have i62 : mI σ1 62 = mI σ 62 := (o6 62 (by omega)).trans (l4 62 (by omega) (by omega)).1
    obtain ⟨B, hB⟩ : ∃ B, B = fl (mI σ 63) (fun j => mI σ 66 (584 * m + j)) 0 584 := ⟨_, rfl⟩
    have B1 : ∀ j, j < 584 → B j = rowM σ m j := fun j hj => by rw [hB]; exact if_pos ⟨Nat.zero_le _, hj⟩
    have B2 : ∀ j, 584 ≤ j → B j = mI σ 63 j := fun j hj => by rw [hB]; exact if_neg (by omega)
    have B3 : ∀ j, j = 1 ∨ j = 2 ∨ 584 ≤ j → B j = mI σ 63 j := fun j hj => by
      rcases hj with rfl | rfl | hj
      · rw [B1 1 (by omega)]; exact (h12 m (by omega)).1
      · rw [B1 2 (by omega)]; exact (h12 m (by omega)).2
      · exact B2 j hj
    obtain ⟨σ2, hσ2⟩ : ∃ σ2, σ2 = wA (wA (thr_ σ1 0) 62 (up1 (mI (thr_ σ1 0) 62) 6 (N m))) 63 B := ⟨_, rfl⟩
    have hS : mS σ2 = mS σ1 := by rw [hσ2]; rfl
    have hL : mL σ2 = mL σ1 := by rw [hσ2]; rfl
    have hR : mR σ2 = mR σ1 := by rw [hσ2]; rfl
    have hN : mN σ2 = mN σ := by rw [hσ2]; exact o5.trans r5
    have hI0 : ∀ q, q ≠ 62 → q ≠ 63 → mI σ2 q = mI σ1 q := fun q q1 q2 => by
      rw [hσ2]; unfold thr_
      rw [mI_wA, if_neg q2, mI_wA, if_neg q1, mI_wA, if_neg q1]
    have hI : ∀ q, q ≠ e → q ≠ 40 → q ≠ 62 → q ≠ 63 → q < 1 ∨ 13 ≤ q → mI σ2 q = mI σ q := fun q q1 q2 q3 q4 q5 => by
      rw [hI0 q q3 q4, o6 q (by omega), (l4 q q1 q2).1]
    have h62 : ∀ k, k ≠ 0 → k ≠ 6 → mI σ2 62 k = mI σ 62 k := fun k k0 k6 => by
      rw [hσ2, ← i62]
      show up1 (up1 (mI σ1 62) 0 (N 0)) 6 (N m) k = _
      rw [up1_app, if_neg k6, up1_app, if_neg k0]
    have h63 : mI σ2 63 = B := by rw [hσ2]; rfl
    have sl : ∀ q, q ≠ mN σ → mS σ2 q = mS σ q ∧ mL σ2 q = mL σ q := fun q hq => by
      rw [hS, hL, o1, o2]; exact l3 q hq
    have R1 : ∀ q, q ≠ e → q ≠ 40 → q ≠ 1 → mR σ2 q = mR σ q := fun q q1 q2 q3 => by
      rw [hR, ← (l4 q q1 q2).2]
      exact funext fun k => o3 q k (Or.inl q3)
    have R2 : ∀ j, j < m → mR σ2 e j = mR σ e j := fun j hj => by
      rw [hR, o3 e j (by omega), r3 j (by omega), if_pos hj]
    have R19 : mR σ2 1 19 = mR σ 1 19 := by rw [hR]; exact o4
    have R40 : mR σ2 40 1 = some e := by rw [hR, o3 40 1 (by omega)]; exact r2.2.2.1
    have R40' : mR σ2 40 1 = mR σ 40 1 := by rw [R40]; exact hAL.2.2.1.symm
    have rows : rowM σ2 = rowM σ := by unfold rowM; rw [hI 66 (by omega) (by omega) (by omega) (by omega) (by omega)]
    refine ⟨N 1, σ1, σ2, np', nh', m, ?_, ?_, ⟨⟨?_, ?_, ?_, ?_⟩, ⟨?_, ?_⟩, ?_, ?_, ?_, e, f, ?_⟩, ?_⟩
    · unfold FX1_undo FJ3_isEmpty FJ3_size
      have nz : ¬ N (m + 1) = 0 := fun z => by have := (N_inj (a := m + 1) (b := 0) (by omega) (by omega)).mp z; omega
      have rvf : rv 2 (some (f m)) ρ = some (f m) := fw_rv hWρ
      rw [g6, Option.bind_some, rv40, Option.bind_some, gI40, Option.bind_some, if_neg nz, l0_, rZ_0, Option.bind_some]
      dsimp only
      rw [if_pos rfl, fc_gR0_0 hC, Option.bind_some, g6, Option.bind_some, Option.bind_some, rv40, Option.bind_some, gI40, Option.bind_some, Option.bind_some]
      dsimp only
      rw [rv40, Option.bind_some, show N (m + 1) - 1 = N m from N_sub (show 1 ≤ m + 1 by omega), r1, Option.bind_some]
      dsimp only
      rw [d1, rvf, Option.bind_some, fw_rv hCρ.1, Option.bind_some, w1, Option.bind_some]
      dsimp only
      rw [l1_, rZ_1]
    · have hc : mI (thr_ σ1 0) 62 6 = N (m + 1) := by
        show mI σ1 62 6 = _
        rw [i62]; exact h6
      have hf : FM (wA (thr_ σ1 0) 62 (up1 (mI (thr_ σ1 0) 62) 6 (N m))) := FM_w (FM_t hM1)
      have nz : ¬ N (m + 1) = N 0 := fun z => by have := (N_inj (a := m + 1) (b := 0) (by omega) (by omega)).mp z; omega
      unfold FX8_undo
      rw [l0_, fm_pI hM1, Option.bind_some, thr_w, fm_gI (FM_t hM1), Option.bind_some, hc, if_neg nz, Option.bind_some, show N (m + 1) - 1 = N m from N_sub (show 1 ≤ m + 1 by omega), fm_pI (FM_t hM1), Option.bind_some, M_undo_26 hm _ 584 0 fu _ hf rfl (by omega) (by unfold fu; omega), l1_, rZ_1, hσ2, hB]
      have a63 : mI (wA (thr_ σ1 0) 62 (up1 (mI (thr_ σ1 0) 62) 6 (N m))) 63 = mI σ 63 := i63
      have a66 : mI (wA (thr_ σ1 0) 62 (up1 (mI (thr_ σ1 0) 62) 6 (N m))) 66 = mI σ 66 := i66
      rw [a63, a66]
    · exact FC_eq hS hL hR hC1
    · exact FM_eq hS hL hR hM1
    · rw [h63]
      refine RW_row hn' B1 (RW_eq (σ := σ1) (fun k hk => hI0 _ (by omega) (by omega)) w2)
    · rw [h63]; exact WF_row B1 d7
    · intro p hp
      rw [(sl p (by omega)).1, (sl p (by omega)).2, hI p (by omega) (by omega) (by omega) (by omega) (by omega)]
      exact hK.1 p hp
    · intro p k hp h3
      rw [R1 p (by omega) (by omega) (by omega)]; exact hK.2 p k hp h3
    · rw [hN]; exact ⟨hN0, hN1⟩
    · rw [hσ2]; rfl
    · intro i hi
      rw [rows, h63, B3 1 (by omega), B3 2 (by omega)]; exact h12 i (by omega)
    · rw [rows, R19]
      refine ⟨⟨?_, ?_, R40, by omega, Or.inr ⟨by rw [hN]; exact he.1, ?_, ?_, ?_, ?_⟩, ⟨by omega, by rw [hN]; omega⟩, fun i hi => ?_⟩, hX.2.1, by omega, fun i hi => ?_, fun i j hi hj hij => hX.2.2.2.2 i j (by omega) (by omega) hij⟩
      · rw [(sl 40 (by omega)).1]; exact hAL.1
      · rw [hI0 40 (by omega) (by omega), o6 40 (by omega)]; exact r2.2.1
      · obtain ⟨_, e2, e3, e4, e5⟩ := hAL.2.2.2.2.1.resolve_left (fun z => by omega)
        rw [(sl e (by omega)).1]; exact e2
      · obtain ⟨_, e2, e3, e4, e5⟩ := hAL.2.2.2.2.1.resolve_left (fun z => by omega)
        rw [(sl e (by omega)).2]; omega
      · obtain ⟨_, e2, e3, e4, e5⟩ := hAL.2.2.2.2.1.resolve_left (fun z => by omega)
        rw [(sl e (by omega)).2]; omega
      · obtain ⟨_, e2, e3, e4, e5⟩ := hAL.2.2.2.2.1.resolve_left (fun z => by omega)
        rw [(sl e (by omega)).2]; omega
      · obtain ⟨q, q1, q2, q3⟩ := hAL.2.2.2.2.2.2 i (by omega)
        exact ⟨q, by rw [R2 i hi]; exact q1, by rw [hN]; exact q2, (obj_e (sl q (by omega)).1).trans q3⟩
      · obtain ⟨c1, c2, c3, c4, c5, c6, mp, mh, c7, c8⟩ := hX.2.2.2.1 i (by omega)
        exact ⟨by rw [R2 i hi]; exact c1, c2, by rw [hN]; exact c3, c4, FW_at (fun q _ h2 => sl q (by omega)) (R1 (f i) (by omega) (by omega) (by omega)) c5, by rw [R1 (f i) (by omega) (by omega) (by omega)]; exact c6, mp, mh, c7, RW_eq (fun k hk => hI _ (by omega) (by omega) (by omega) (by omega) (by omega)) c8⟩
    · refine ⟨by rw [hN]; omega, fun q hq => sl q (by omega), fun q hq => ⟨hI q (by omega) (by omega) (by omega) (by omega) (by omega), R1 q (by omega) (by omega) (by omega)⟩, ⟨?_, ?_, h62 3 (by omega) (by omega), h62 8 (by omega) (by omega), h62 12 (by omega) (by omega), ?_, fun hb => B62_eq ⟨h62 15 (by omega) (by omega), h62 16 (by omega) (by omega), h62 17 (by omega) (by omega), h62 18 (by omega) (by omega)⟩ hb⟩, R19, fun q q1 q2 _ _ q5 => ?_, Or.inl R40', fun j hj => by rw [h63]; exact B3 j hj⟩
      · rw [hI 37 (by omega) (by omega) (by omega) (by omega) (by omega)]
      · rw [hI 37 (by omega) (by omega) (by omega) (by omega) (by omega)]
      · rw [hI 0 (by omega) (by omega) (by omega) (by omega) (by omega)]
      · have : q ≠ e := fun z => q5 (by rw [z]; exact hAL.2.2.1)
        exact ⟨hI q this (by omega) (by omega) (by omega) (by omega), R1 q this (by omega) (by omega)⟩
end
