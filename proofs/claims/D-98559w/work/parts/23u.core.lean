/-! THE PLAIN LAW, 124: core and gains, asked of both -/
set_option maxRecDepth 100000
section
variable {np nh : Nat} {σ : Mm}
/-- what both compute -/
def IG (σ : Mm) (np : Nat) (G : Nat → Int32) : Prop :=
  (∃ τ, FX5_run 41 σ = some (some 41, τ) ∧ TK σ τ ∧ ∀ v, v < np → mI τ 42 v = G v) ∧
  ∀ τ, FM τ → mI τ 63 = mI σ 63 → ∃ g, FX8_trades 62 τ = some (wA τ 72 g) ∧ ∀ v, v < np → g v = G v
theorem IG_ok (K : Co np nh σ) : ∃ G, IG σ np G := by
  have hC := K.c; have hn0 := K.n0
  obtain ⟨D, hD⟩ := wishes_of K
  obtain ⟨s, s1, s2, s3⟩ := aWears_bits (mI σ 63) hn0
  have hw : hWS (mI σ 63) np s := fun j hj ht => by
    rw [s3 j, Bool.and_eq_true] at ht
    rcases (K.w.2.1 j hj).1 with h2 | ⟨f, h2, h3⟩
    · rw [h2] at ht; simp at ht
    · exact ⟨f, h2, h3⟩
  have hs2 := p1024 hn0 s1
  refine ⟨ttc (mI σ 63) D np 1024 s (fun _ => M1), ?_, fun τ h e63 => ?_⟩
  · have ef : FJ0_fill (some 42) M1 σ = some (wA σ 42 (fl (mI σ 42) (fun _ => M1) 0 10)) := J_fill hC.2.2.2.2.2.2.2.2.2.2.2.2.1.1 hC.2.2.2.2.2.2.2.2.2.2.2.2.1.2 (by omega)
    obtain ⟨τ0, ht0⟩ : ∃ τ0, τ0 = wA σ 42 (fl (mI σ 42) (fun _ => M1) 0 10) := ⟨_, rfl⟩
    have hT0 : TK σ τ0 := by rw [ht0]; exact TK.rf.w (by omega)
    have hC0 := (hT0.co K).c
    have e42 : mI τ0 42 = fl (mI σ 42) (fun _ => M1) 0 10 := by rw [ht0, mI_wA, if_pos rfl]
    obtain ⟨τ1, a1, a2, a3, a4⟩ := C_run_15 K (fun (σ : Mm) => FX5_run_67 41 fu σ (fun (σ : Mm) => some ((some 41), σ))) np 0 fu (wA τ0 41 (up1 (mI τ0 41) 2 (N 0))) (by omega) (by unfold fu; omega) (hT0.w (by omega))
    rw [mI_wA, if_pos rfl, up1_app, if_pos rfl, s2] at a3
    rw [mI_wA, if_neg (by omega), e42] at a4
    obtain ⟨τ2, b1, b2, b3⟩ := C_run_67 K hD (fun (σ : Mm) => some ((some 41), σ)) 1024 fu s τ1 hs2 (by unfold fu; omega) s1 hw a2 a3
    refine ⟨τ2, ?_, b2, fun v hv => ?_⟩
    · unfold FX5_run
      rw [fc_gR41_0 hC, Option.bind_some, m1_, ef, Option.bind_some, ← ht0, l0_, fc_pI41 hC0, Option.bind_some, a1]
      exact b1
    · rw [b3 v hv, a4]
      refine ttc_congr _ _ _ _ (fun u hu => ?_) v hv
      exact if_pos (show 0 ≤ u ∧ u < 10 by omega)
  · obtain ⟨g1, a1, a2, -⟩ := M_trades_4 h e63 K.n hn0 (fun (x31 : Int32) (σ : Mm) => FX8_trades_47 62 fu x31 σ (fun (σ : Mm) => some σ)) np 0 fu (N 0) (mI τ 72) (by omega) (by unfold fu; omega)
    obtain ⟨g2, b1, b2⟩ := M_trades_47 h e63 K.n hn0 hD (fun (σ : Mm) => some σ) 1024 fu s g1 hs2 (by unfold fu; omega) s1 hw
    refine ⟨g2, ?_, fun v hv => ?_⟩
    · rw [wA_self] at a1
      unfold FX8_trades
      rw [l0_, a1, s2]
      exact b1
    · rw [b2 v hv]
      exact ttc_congr _ _ _ _ (fun u hu => a2 u (by omega) hu) v hv
theorem q_core (K : Co np nh σ) (x : Int32) : QW (FX0_core (some 0) x (some 75)) (FX8_core 62 x) σ := by
  have hC := K.c; have h := K.m; have hn0 := K.n0
  rcases N_in x np (by omega) with ⟨p, hp, rfl⟩ | hx
  · obtain ⟨G, ⟨τ, t1, t2, t3⟩, g2⟩ := IG_ok K
    obtain ⟨w, hw⟩ : ∃ w, w = G p := ⟨_, rfl⟩
    have K' := t2.co K
    have h' : FM (thr_ (o75 τ w) 0) := FM_t (FM_o K'.m)
    have e63 : mI τ 63 = mI σ 63 := t2.e (by omega)
    obtain ⟨g, m1, m2⟩ := g2 (thr_ (o75 τ w) 0) h' e63
    refine QW_ok (σ1 := τ) (σ2 := wA (thr_ (o75 τ w) 0) 72 g) (v := w) (c := 0) (z := 0) ?_ (by omega) (by omega) ?_ rfl rfl t2.kp (thr_k.trans (Kp_wA (by omega)))
    · unfold FX0_core FX1_core
      rw [fc_rv0 hC, Option.bind_some, fc_ck0 hC, C_person_in K hp, db_rt, fc_gR0_7 hC, Option.bind_some, fc_rv41 hC, Option.bind_some, t1, Option.bind_some]
      try dsimp only
      rw [fc_gR41_0 K'.c, Option.bind_some, fc_rd42 K'.c (by omega), Option.bind_some, dt_rt, t3 p hp, ← hw]
      try dsimp only
      rw [l0_, show sL (some 75) (N 0) w τ = some (o75 τ w) from sL_w K'.c, Option.bind_some]
      rfl
    · have h2 : FM (wA (thr_ (o75 τ w) 0) 72 g) := FM_w h'
      unfold FX8_core jn
      rw [fm_ck (FM_o K'.m), M_isPerson_in (FM_o K'.m) (show mI (o75 τ w) 63 3 = N np from K'.n) hn0 hp, Option.bind_some]
      try dsimp only
      rw [if_neg (show ¬ N 1 = 0 by decide), l0_, fm_pI (FM_o K'.m), Option.bind_some, thr_w, fm_gI h', Option.bind_some, thr_0, if_pos (by decide), fm_ck h', m1, Option.bind_some, fm_gR23 h2, Option.bind_some, fm_rd72 h2 (by omega), Option.bind_some, mI_wA, if_pos rfl, m2 p hp, hw]
  · refine QW_th (k := 1) (σ1 := σ) (σ2 := thr_ σ 1) (b := N 0) (c := 1) (z := 6) (by omega) ?_ (by omega) (by omega) ?_ rfl Kp.rf thr_k
    · unfold FX0_core FX1_core
      rw [fc_rv0 hC, Option.bind_some, fc_ck0 hC, C_person_out K hx, db_thw, dt_thw, if_pos rfl]
      rfl
    · unfold FX8_core jn
      rw [fm_ck h, M_isPerson_out h K.n hn0 hx, Option.bind_some]
      try dsimp only
      rw [if_pos (show N 0 = 0 from rfl), l1_, fm_pI h, Option.bind_some, thr_w, fm_gI (FM_t h), Option.bind_some, thr_0, if_neg (by decide)]
      rfl
def gnS (A G : Nat → Int32) (v : Nat) (a : Int32) : Int32 := a + (if G v = PA A v 2 then N 0 else N 1)
theorem C_gains_12 {A G : Nat → Int32} (K : Co np nh σ) (hA : mI σ 63 = A) (hG : ∀ v, v < np → mI σ 42 v = G v) (Kx : Int32 → Mm → Option (Int32 × Mm)) : ∀ (k v n : Nat) (a : Int32), v + k = np → k < n → FX1_gains_12 0 n a (N v) σ Kx = Kx (fd (gnS A G) v k a) σ := by
  have hC := K.c; have hr := K.r; have hn0 := K.n0
  intro k
  induction k with
  | zero =>
    intro v n a hv hn
    obtain ⟨n, rfl⟩ : ∃ m, n = m + 1 := ⟨n - 1, by omega⟩
    rw [FX1_gains_12, fc_gR0_0 hC, Option.bind_some, fw_gI hC.1, Option.bind_some, rw1 hr, K.n, if_pos (by rw [N_le (by omega) (by omega)]; omega), fd]
  | succ k ih =>
    intro v n a hv hn
    obtain ⟨n, rfl⟩ : ∃ m, n = m + 1 := ⟨n - 1, by omega⟩
    have ih' := ih (v + 1) n (gnS A G v a) (by omega) (by omega)
    rw [FX1_gains_12, fc_gR0_0 hC, Option.bind_some, fw_gI hC.1, Option.bind_some, rw1 hr, K.n, if_neg (by rw [N_le (by omega) (by omega)]; omega), fc_gR0_7 hC, Option.bind_some, fc_gR41_0 hC, Option.bind_some, fc_rd42 hC (by omega), Option.bind_some, Option.bind_some, fw_gR10 hC.1, Option.bind_some, fw_rd3 hC.1 (by omega), Option.bind_some, rwW hr (by omega), hG v (by omega), hA, l1_, N_add, fd, ← ih']
    unfold jn gnS
    try dsimp only
    by_cases c : G v = PA A v 2
    · rw [if_pos c, if_pos c]; rfl
    · rw [if_neg c, if_neg c]
theorem M_gains_13 {A G : Nat → Int32} (h : FM σ) (hA : mI σ 63 = A) (hnn : A 3 = N np) (hn0 : np ≤ 10) (hG : ∀ v, v < np → mI σ 72 v = G v) (Kx : Int32 → Mm → Option (Int32 × Mm)) : ∀ (k v n : Nat) (a : Int32), v + k = np → k < n → FX8_gains_13 62 n a (N v) σ Kx = Kx (fd (gnS A G) v k a) σ := by
  intro k
  induction k with
  | zero =>
    intro v n a hv hn
    obtain ⟨n, rfl⟩ : ∃ m, n = m + 1 := ⟨n - 1, by omega⟩
    rw [FX8_gains_13, fm_gR1 h, Option.bind_some, l3_, fm_rd63 h (by omega), Option.bind_some, hA, hnn, if_pos (by rw [N_le (by omega) (by omega)]; omega), fd]
  | succ k ih =>
    intro v n a hv hn
    obtain ⟨n, rfl⟩ : ∃ m, n = m + 1 := ⟨n - 1, by omega⟩
    have ih' := ih (v + 1) n (gnS A G v a) (by omega) (by omega)
    rw [FX8_gains_13, fm_gR1 h, Option.bind_some, l3_, fm_rd63 h (by omega), Option.bind_some, hA, hnn, if_neg (by rw [N_le (by omega) (by omega)]; omega), fm_gR23 h, Option.bind_some, fm_rd72 h (by omega), Option.bind_some, fm_ck h, l2_, M_of h (by omega) (by omega), Option.bind_some, hG v (by omega), hA, l1_, N_add, fd, ← ih']
    unfold jn gnS
    try dsimp only
    by_cases c : G v = PA A v 2
    · rw [if_pos c, if_pos c]; rfl
    · rw [if_neg c, if_neg c]
theorem q_gains (K : Co np nh σ) : QN (FX1_gains 0) (FX8_gains 62) σ := by
  have hC := K.c; have hn0 := K.n0
  obtain ⟨G, ⟨τ, t1, t2, t3⟩, g2⟩ := IG_ok K
  have K' := t2.co K
  have h' : FM (thr_ τ 0) := FM_t K'.m
  have e63 : mI τ 63 = mI σ 63 := t2.e (by omega)
  obtain ⟨g, m1, m2⟩ := g2 (thr_ τ 0) h' e63
  refine ⟨fd (gnS (mI σ 63) G) 0 np (N 0), τ, wA (thr_ τ 0) 72 g, ?_, ?_, t2.kp.trans (thr_k.trans (Kp_wA (by omega)))⟩
  · unfold FX1_gains
    rw [fc_gR0_7 hC, Option.bind_some, fc_rv41 hC, Option.bind_some, t1, Option.bind_some]
    try dsimp only
    rw [l0_, C_gains_12 K' e63 t3 _ np 0 fu (N 0) (by omega) (by unfold fu; omega)]
  · have h2 : FM (wA (thr_ τ 0) 72 g) := FM_w h'
    unfold FX8_gains
    rw [l0_, fm_pI K'.m, Option.bind_some, thr_w, fm_ck h', m1, Option.bind_some, M_gains_13 (A := mI σ 63) (G := G) h2 e63 K.n hn0 (fun v hv => by rw [mI_wA, if_pos rfl]; exact m2 v hv) _ np 0 fu (N 0) (by omega) (by unfold fu; omega)]
end
