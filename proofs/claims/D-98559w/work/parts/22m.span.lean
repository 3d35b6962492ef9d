/-! THE PLAIN LAW, 92: trial and span -/
set_option maxRecDepth 100000
theorem l30q : (30 : Int32) = N 30 := rfl
section
variable {np nh n L : Nat} {σ τ υ : Mm} {A Z : Nat → Int32} {v : Option Nat} {ls : List (Bool × Option Cn)}
/-- the model puts its row aside -/
theorem puts_ok {x : Int32} (I : Inv np nh n L σ) (hl : LWs (mR σ 1 19) (mI σ 63) ls σ) (h : OT (mR σ 1 19) σ τ) : ∃ f, FX8_putsAside 62 (thr_ (o75 τ x) 0) = some (wA (thr_ (o75 τ x) 0) 65 f) ∧ HS np nh (mR σ 1 19) ls (mI σ 63) (wA (thr_ (o75 τ x) 0) 65 f) ∧ ∀ j, j < 584 → f j = mI σ 63 j := by
  have hBG : BIG = 1000000 := rfl
  obtain ⟨K, -, -, -, -, hB6⟩ := id I
  have hM : FM τ := FM_at (fun q _ => by rw [h.1, h.2.1]; exact ⟨rfl, rfl⟩) (funext fun k => h.2.2.2.1 62 k (by omega)) K.1.m
  have hK := h.ks K.2.1
  have e63 : mI (thr_ (o75 τ x) 0) 63 = mI σ 63 := h.2.2.2.2.2 63 (by omega) (by omega)
  have e62 : mI τ 62 = mI σ 62 := h.2.2.2.2.2 62 (by omega) (by omega)
  have e : ∀ k, k ≠ 0 → mI (wA (thr_ (o75 τ x) 0) 65 (fl (mI (thr_ (o75 τ x) 0) 65) (mI (thr_ (o75 τ x) 0) 63) 0 584)) 62 k = mI σ 62 k := fun k k0 => by
    rw [← e62]
    show up1 (mI τ 62) 0 (N 0) k = _
    rw [up1_app, if_neg k0]
  refine ⟨_, M_puts (FM_t (FM_o hM)), ⟨FM_w (FM_t (FM_o hM)), KS_wA (by omega) (KS_wA (by omega) (KS_wA (by omega) hK)), e63, K.1.w, LWs.at (σ := τ) (fun _ _ => rfl) (fun q hq => ⟨rfl, rfl, ?_, rfl⟩) (h.lws hl), B62_eq ⟨e 15 (by omega), e 16 (by omega), e 17 (by omega), e 18 (by omega)⟩ hB6⟩, fun j hj => ?_⟩
  · unfold thr_ o75
    rw [mI_wA, if_neg (by omega), mI_wA, if_neg (by omega), mI_wA, if_neg (by omega)]
  · unfold fl
    rw [if_pos ⟨Nat.zero_le _, hj⟩, e63]
theorem OT.rf (h : mR σ 50 19 = v) : OT v σ σ := ⟨rfl, rfl, rfl, fun _ _ _ => rfl, h, fun _ _ _ => rfl⟩
theorem T_likens0 (I : Inv np nh n L σ) (hl : LWs (mR σ 1 19) (mI σ 63) ls σ) : ∃ υ, FX2_likens 50 (some 1) σ = some (some 50, υ) ∧ CS 50 np nh (mR σ 1 19) ls (mI σ 63) υ ∧ OT (mR σ 1 19) σ υ := by
  obtain ⟨K, -⟩ := id I
  have hC := K.1.c
  obtain ⟨w1, w2, w3⟩ := W_likens (b := 50) (c := 1) (by omega) K.1.n0 hC.2.2.2.1 hC.1 K.1.r
  have o := OL.ot w3
  exact ⟨_, w1, ⟨Or.inr rfl, o.fc K.1.c, o.ks K.2.1, (o.fc K.1.c).2.2.2.1, w2, K.1.w, o.2.2.2.2.1, o.lws hl⟩, o⟩
theorem q_trial (I : Inv np nh n L σ) (x : Int32) : QA (FX0_trial (some 0) x (some 75)) (FX8_trial 62 x) σ := by
  obtain ⟨K, hLW, hTP, hIM, hF, hB6⟩ := id I
  have hC := K.1.c; have h := K.1.m
  have out : x < N 0 ∨ N 30 < x → QA (FX0_trial (some 0) x (some 75)) (FX8_trial 62 x) σ := fun hx => by
    refine QA_qw K (QW_th (k := 1) (σ1 := σ) (σ2 := thr_ σ 1) (b := N 0) (c := 1) (z := 6) (by omega) ?_ (by omega) (by omega) ?_ rfl Kp.rf thr_k)
    · unfold FX0_trial FX1_trial
      rw [fc_rv0 hC, Option.bind_some, l0_, l30q, C_in_out hx, Option.bind_some]
      dsimp only
      rw [C_dem_0, db_thw, dt_thw, if_pos rfl]
      rfl
    · unfold FX8_trial jn
      rw [l0_, l30q, M_isIn_out hx, Option.bind_some]
      dsimp only
      rw [if_pos (show N 0 = N 0 from rfl), l1_, fm_pI h, Option.bind_some, thr_w, fm_gI (FM_t h), Option.bind_some, thr_0, if_neg (by decide)]
  rcases N_in x 31 (by omega) with ⟨a, ha, rfl⟩ | hx
  · obtain ⟨ls, hl⟩ := hLW.lws
    obtain ⟨σ1, t1, t2, t3⟩ := T_likens0 I hl
    obtain ⟨w, w1, w2, w3⟩ := tries_ok ls (m := a) (by omega) K.1.w
    obtain ⟨τ, u1, u2⟩ := w2 _ σ1 t2
    have ot := t3.oh u2
    obtain ⟨f, f1, f2, f3⟩ := puts_ok (x := N w) I hl ot
    obtain ⟨υ, y1, y2, y3⟩ := w3 _ _ (mI σ 63) f2 K.1.w (fun _ _ => rfl) f3
    obtain ⟨g1, g2⟩ := back_ok I ot y3 y2.2.2.1 y2.2.2.2.2.2
    have hCτ := ot.fc hC
    have hMτ : FM (o75 τ (N w)) := f2.1
    have e0 : mI υ 62 0 = N 0 := (y3.2.2.2.2.2 0 (by omega)).trans rfl
    have e75 : mI υ 75 0 = N w := by rw [y3.2.2.2.2.1 75 (by omega) (by omega) (by omega)]; rfl
    refine ⟨N 0, o75 τ (N w), N w, υ, 0, 0, np, nh, n, ?_, by omega, by omega, ?_, e0, fun _ => e75, g1, g2⟩
    · unfold FX0_trial FX1_trial
      rw [fc_rv0 hC, Option.bind_some, l0_, l30q, C_in_in (by omega) (by omega) (by omega), Option.bind_some]
      dsimp only
      have sl : sL (some 75) (N 0) (N w) τ = some (o75 τ (N w)) := sL_w hCτ
      rw [C_dem_1, db_rt, fc_gR0_10 hC, Option.bind_some, fc_gR0_0 hC, Option.bind_some, fw_rv hC.2.2.2.1, Option.bind_some, t1, Option.bind_some]
      dsimp only
      rw [fc_ck0 t2.2.1, u1, Option.bind_some]
      dsimp only
      rw [dt_rt, sl, Option.bind_some]
      rfl
    · unfold FX8_trial jn
      rw [l0_, l30q, M_isIn_in (by omega) (by omega) (by omega), Option.bind_some]
      dsimp only
      rw [if_neg (show ¬ N 1 = N 0 by decide), fm_pI hMτ, Option.bind_some, thr_w, fm_gI (FM_t hMτ), Option.bind_some, thr_0, if_pos (by decide), fm_ck (FM_t hMτ), f1, Option.bind_some, fm_ck f2.1, y1, Option.bind_some]
  · exact out (hx.imp id fun hx => by
      rw [Int32.le_iff_toInt_le, N_int (by omega)] at hx
      rw [Int32.lt_iff_toInt_lt, N_int (by omega)]; omega)
end
