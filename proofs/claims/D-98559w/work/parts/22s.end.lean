/-! THE PLAIN LAW, 98: count 4, the tape's end -/
set_option maxRecDepth 100000
section
variable {np nh n L : Nat} {σ τ υ : Mm}
theorem q_count4 (I : Inv np nh n L σ) : QN (FX1_count 0 (N 4)) (FX8_count 62 (N 4)) σ := by
  obtain ⟨K, hLW, -⟩ := id I
  have hC := K.1.c; have h := K.1.m
  refine ⟨mI σ 63 1, σ, thr_ σ 0, ?_, ?_, thr_k⟩
  · unfold FX1_count
    rw [fc_gR0_0 hC, Option.bind_some, if_neg (show ¬ N 4 = 0 by decide), if_neg (show ¬ N 4 = 1 by decide), if_neg (show ¬ N 4 = 2 by decide), if_neg (show ¬ N 4 = 3 by decide), if_pos (show N 4 = 4 from rfl), fw_gL hC.1, Option.bind_some]
    rcases hLW with ⟨l1, l2⟩ | ⟨q, lo, hi, T, e, ls, k, l1, l2, l3, l4, l5, l6, l7, l8, l9⟩
    · rw [l1, l2]
      rfl
    · obtain ⟨s10, hq, hl⟩ := l8
      obtain ⟨⟨l, e', r0, rl⟩, -⟩ := hl σ (fun p _ _ => ⟨rfl, rfl, rfl, rfl⟩)
      rw [l1]
      dsimp only
      rw [Option.bind_some, gR_s s10 r0, Option.bind_some, rv_s rl.1, Option.bind_some, J_size rl, Option.bind_some, l4]
  · unfold FX8_count
    rw [l0_, fm_pI h, Option.bind_some, thr_w, if_neg (show ¬ N 4 = N 0 by decide), if_neg (show ¬ N 4 = 1 by decide), if_neg (show ¬ N 4 = 2 by decide), if_neg (show ¬ N 4 = 3 by decide), if_pos (show N 4 = 4 from rfl), fm_gR1 (FM_t h), Option.bind_some, l1_, fm_rd63 (FM_t h) (by omega), Option.bind_some, thr_63]
/-- the tape is cut -/
theorem q_end (I : Inv np nh n L σ) (x : Int32) : Qj (FX1_end 0 x) (FX8_end 62 x) L σ := by
  obtain ⟨K, hLW, ⟨tp1, tp2, tp3, tp4⟩, hIM, hF, hB6⟩ := id I
  have hC := K.1.c; have h := K.1.m
  have hN0 := K.2.2.1.1
  have t8 : mI (thr_ σ 0) 62 8 = N L := tp3
  rcases N_in x (L + 1) (by omega) with ⟨a, ha, rfl⟩ | hx
  · obtain ⟨σ1, hσ1⟩ : ∃ σ1, σ1 = wA σ 37 (up1 (mI σ 37) 1 (N a)) := ⟨_, rfl⟩
    have h' : FM σ1 := by rw [hσ1]; exact FM_w h
    have i37 : ∀ k, k ≠ 1 → mI σ1 37 k = mI σ 37 k := fun k hk => by
      rw [hσ1]
      show up1 (mI σ 37) 1 (N a) k = _
      rw [up1_app, if_neg hk]
    have iq : ∀ q, q ≠ 37 → mI σ1 q = mI σ q := fun q hq => by rw [hσ1]; exact if_neg hq
    obtain ⟨σ2, hσ2⟩ : ∃ σ2, σ2 = wA (thr_ σ1 0) 62 (up1 (mI (thr_ σ1 0) 62) 8 (N a)) := ⟨_, rfl⟩
    have hI : ∀ q, q ≠ 37 → q ≠ 62 → mI σ2 q = mI σ q := fun q q1 q2 => by
      rw [hσ2]; unfold thr_
      rw [mI_wA, if_neg q2, mI_wA, if_neg q2, iq q q1]
    have h62 : ∀ k, k ≠ 0 → k ≠ 8 → mI σ2 62 k = mI σ 62 k := fun k k0 k8 => by
      rw [hσ2, ← iq 62 (by omega)]
      show up1 (up1 (mI σ1 62) 0 (N 0)) 8 (N a) k = _
      rw [up1_app, if_neg k8, up1_app, if_neg k0]
    have h37 : ∀ k, mI σ2 37 k = mI σ1 37 k := fun k => by rw [hσ2]; rfl
    have hS : mS σ2 = mS σ := by rw [hσ2, hσ1]; rfl
    have hL : mL σ2 = mL σ := by rw [hσ2, hσ1]; rfl
    have hR : mR σ2 = mR σ := by rw [hσ2, hσ1]; rfl
    have hN : mN σ2 = mN σ := by rw [hσ2, hσ1]; rfl
    have fr : ∀ {v A}, LW v A σ → LW v A σ2 := fun hl => LW_fr (by rw [hN]; exact Nat.le_refl _) (fun p _ _ => by rw [hS, hL]; exact ⟨rfl, rfl⟩) (fun p p1 _ _ => ⟨hI p (by omega) (by omega), by rw [hR]⟩) (by rw [hR]) hl
    refine ⟨N 1, σ1, σ2, np, nh, n, a, ?_, ?_, ⟨KR_fr K hS hL hN (fun q k _ => by rw [hR]) (fun q hq => hI q (by omega) (by omega)) (h62 6 (by omega) (by omega)), ?_, ⟨by omega, ?_, ?_, ?_⟩, ⟨?_, ?_⟩, ?_, B62_eq ⟨h62 15 (by omega) (by omega), h62 16 (by omega) (by omega), h62 17 (by omega) (by omega), h62 18 (by omega) (by omega)⟩ hB6⟩, by omega, by rw [hN]; omega⟩
    · unfold FX1_end FX3_cut
      rw [fc_gR0_4 hC, Option.bind_some, fc_rv37 hC, Option.bind_some, l0_, if_neg (by rw [N_lt (by omega) (by omega)]; omega), fc_gI37 hC, Option.bind_some, tp2, if_pos (by rw [N_le (by omega) (by omega)]; omega), fc_pI37 hC, Option.bind_some, l1_, rZ_1, Option.bind_some, ← hσ1]
      exact rZ_1 _
    · have t8' : mI (thr_ σ1 0) 62 8 = N L := by
        show mI σ1 62 8 = _
        rw [iq 62 (by omega)]; exact tp3
      unfold FX8_end
      rw [l0_, fm_pI h', Option.bind_some, thr_w, fm_gI (FM_t h'), Option.bind_some, t8', M_isIn_in (by omega) (by omega) (by omega), Option.bind_some]
      dsimp only
      rw [if_neg (show ¬ N 1 = N 0 by decide), fm_pI (FM_t h'), Option.bind_some, l1_, rZ_1, hσ2]
    · rw [hR, hI 63 (by omega) (by omega)]; exact fr hLW
    · rw [h37, hσ1]; rfl
    · rw [hσ2]; rfl
    · intro k hk
      rw [hI 38 (by omega) (by omega), hI 67 (by omega) (by omega)]; exact tp4 k (by omega)
    · rw [hI 0 (by omega) (by omega), h62 3 (by omega) (by omega)]; exact hIM.1
    · rw [hI 0 (by omega) (by omega), hI 64 (by omega) (by omega), hR]
      rcases hIM.2 with z | ⟨z, mp, mh, z1, z2, z3⟩
      · exact Or.inl z
      · exact Or.inr ⟨z, mp, mh, z1, RW_eq (fun k hk => hI _ (by omega) (by omega)) z2, fr z3⟩
    · rw [h37, i37 5 (by omega), h62 12 (by omega) (by omega)]; exact hF
  · refine ⟨N 0, σ, thr_ σ 0, np, nh, n, L, ?_, ?_, Inv_oth I (KR_kp thr_k K) (Oth_kp hN0 thr_k), by omega, by show mN σ ≤ _; omega⟩
    · unfold FX1_end FX3_cut
      rw [fc_gR0_4 hC, Option.bind_some, fc_rv37 hC, Option.bind_some, l0_]
      by_cases c : x < N 0
      · rw [if_pos c, rZ_0, Option.bind_some]
        exact rZ_0 _
      · have hx2 := hx.resolve_left c
        rw [if_neg c, fc_gI37 hC, Option.bind_some, tp2, if_neg (fun z => by
          rw [Int32.le_iff_toInt_le, N_int (by omega)] at hx2 z; omega), rZ_0, Option.bind_some]
        exact rZ_0 _
    · unfold FX8_end
      rw [l0_, fm_pI h, Option.bind_some, thr_w, fm_gI (FM_t h), Option.bind_some, t8, M_isIn_out (hx.imp id fun hx => by
        rw [Int32.le_iff_toInt_le, N_int (by omega)] at hx
        rw [Int32.lt_iff_toInt_lt, N_int (by omega)]; omega), Option.bind_some]
      dsimp only
      rw [if_pos rfl, rZ_0]
end
