/-! THE PLAIN LAW, 89: hours, asked of both -/
set_option maxRecDepth 100000
theorem l50q : (50 : Int32) = N 50 := rfl
theorem Oth.kp {σ τ υ : Mm} (h0 : 76 ≤ mN σ) (h : Oth σ τ) (k : Kp τ υ) : Oth σ υ := by
  obtain ⟨⟨n1, n2⟩, h2, h3, ⟨p1, p2, p3, p4, p5, p6, p7⟩, h5, h6, h7, h8⟩ := h
  obtain ⟨⟨m1, m2⟩, g2, g3, ⟨r1, r2, r3, r4, r5, r6, r7⟩, g5, g6, g7, g8⟩ := Oth_kp (by omega) k
  obtain ⟨a, b, c, d, e, -⟩ := k
  exact ⟨by rw [d]; exact ⟨n1, n2⟩, fun q hq => by rw [a, b]; exact h2 q hq, fun q hq => by rw [e q (by unfold KPl; omega), c]; exact h3 q hq, ⟨r1.trans p1, r2.trans p2, r3.trans p3, r4.trans p4, r5.trans p5, r6.trans p6, fun z => r7 (p7 z)⟩, g5.trans h5, fun q q1 q2 q3 q4 q5 => by rw [e q (by unfold KPl; omega), c]; exact h6 q q1 q2 q3 q4 q5, by rw [c]; exact h7, fun j hj => (g8 j hj).trans (h8 j hj)⟩
section
variable {np nh n L : Nat} {σ : Mm}
/-- the remembering, and what is true behind it on both sides -/
theorem rem_both (I : Inv np nh n L σ) (hN : mN σ + 26 ≤ BIG) : ∃ σ1 c z ls, FX1_remembers 0 σ = some (.inl σ1, c, z) ∧ c ≤ 13 ∧ z ≤ 642 ∧ CS 1 np nh (mR σ 1 19) ls (mI σ 63) σ1 ∧ mI σ1 63 = mI σ 63 ∧ mI σ1 62 = mI σ 62 ∧ (∀ τ x, OH 1 σ1 τ → KS τ → HS np nh (mR σ 1 19) ls (mI σ 63) (mRem (thr_ (o75 τ x) 0) n)) ∧ ∀ τ x B υ, OH 1 σ1 τ → RW 1 B np τ → WF B np nh → R0 (mI σ 63) B → OM (mRem (thr_ (o75 τ x) 0) n) υ → mI υ 63 = B → B62 υ → KR np nh (if n = 12 then 12 else n + 1) υ ∧ Oth σ υ := by
  have hBG : BIG = 1000000 := rfl
  obtain ⟨K, hLW, hTP, hIM, hF, hB6⟩ := I
  have hN0 := K.2.2.1.1
  have hA := K.1.w
  obtain ⟨σ1, c, z, e', f', t1, t2, t3, t4, t5, t6, t7, t8, t9, t10, t11, t12⟩ := C_rem_ok K rfl
  have hv : mR σ1 1 19 = mR σ 1 19 := by rw [(t5.2.2.1 1 (by omega) (by omega)).2]
  -- the law's lines
  obtain ⟨-, oth1⟩ := act_ok (x := 0) K t4 t5 OW.rf t8 hA (fun _ _ => rfl) (by omega)
  have hl1 := (LW_oth oth1 hLW).lws
  obtain ⟨ls, hl1⟩ := hl1
  have hl2 : LWs (mR σ 1 19) (mI σ 63) ls σ1 := LWs.at (σ := wA (mRem (thr_ (o75 σ1 0) 0) n) 63 (mI σ 63)) (τ := σ1) (fun _ _ => rfl) (fun q hq => ⟨rfl, rfl, by
    unfold mRem thr_ o75
    rw [mI_wA, if_neg (by omega), mI_wA, if_neg (by omega), mI_wA, if_neg (by omega), mI_wA, if_neg (by omega), mI_wA, if_neg (by omega)], rfl⟩) hl1
  have eT : ∀ τ x q, q ≠ 62 → q ≠ 66 → q ≠ 75 → mI (mRem (thr_ (o75 τ x) 0) n) q = mI τ q := fun τ x q q2 q3 q4 => by
    unfold mRem thr_ o75
    rw [mI_wA, if_neg q2, mI_wA, if_neg q3, mI_wA, if_neg q2, mI_wA, if_neg q4]
  refine ⟨σ1, c, z, ls, t1, t2, t3, ⟨Or.inl rfl, t6, t7, t6.1, t8, hA, hv, hl2⟩, t10, t11, fun τ x oh hKτ => ?_, fun τ x B υ oh hr hB h0 om h63 hb => ?_⟩
  · obtain ⟨o1, o2, o3, o4, o5⟩ := oh
    refine ⟨FM_mRem (FM_t (FM_o (FM_eq o1 o2 o3 t9))), KS_wA (by omega) (KS_wA (by omega) (KS_wA (by omega) (KS_wA (by omega) hKτ))), ?_, hA, LWs.at (σ := σ1) (fun _ _ => rfl) (fun q hq => ?_) hl2, ?_⟩
    · rw [eT _ _ _ (by omega) (by omega) (by omega), o5 63 (by omega) (by omega), t10]
    · exact ⟨show mS τ q = _ by rw [o1], show mL τ q = _ by rw [o2], by rw [eT _ _ _ (by omega) (by omega) (by omega), o5 q (by omega) (by omega)], show mR τ q = _ by rw [o3]⟩
    · have e : ∀ k, k ≠ 0 → k ≠ 6 → mI (mRem (thr_ (o75 τ x) 0) n) 62 k = mI σ 62 k := fun k k0 k6 => by
        rw [← t11, ← o5 62 (by omega) (by omega)]
        show up1 (up1 (mI τ 62) 0 (N 0)) 6 _ k = _
        rw [up1_app, if_neg k6, up1_app, if_neg k0]
      exact B62_eq ⟨e 15 (by omega) (by omega), e 16 (by omega) (by omega), e 17 (by omega) (by omega), e 18 (by omega) (by omega)⟩ hB6
  · obtain ⟨o1, o2, o3, o4, o5⟩ := oh
    have ow : OW 1 σ1 (wA τ 39 (mI σ1 39)) := ⟨o1, o2, o3, o4, fun q hq => by
      by_cases c39 : q = 39
      · subst c39; rfl
      · exact (if_neg c39).trans (o5 q c39 hq)⟩
    have hr' : RW 1 B np (wA τ 39 (mI σ1 39)) := RW_eq (fun k hk => if_neg (by omega)) hr
    have hm : mN (wA τ 39 (mI σ1 39)) + 13 ≤ BIG := by
      show mN τ + 13 ≤ BIG
      rw [o4]; omega
    obtain ⟨g1, g2⟩ := act_ok (x := x) K t4 t5 ow hr' hB h0 hm
    obtain ⟨p1, p2, p3, p4, p5, p6⟩ := om
    have e37 : mI υ 37 = mI (wA (mRem (thr_ (o75 (wA τ 39 (mI σ1 39)) x) 0) n) 63 B) 37 := by
      rw [p5 37 (by omega) (by omega) (by omega), eT _ _ _ (by omega) (by omega) (by omega), mI_wA, if_neg (by omega), eT _ _ _ (by omega) (by omega) (by omega), mI_wA, if_neg (by omega)]
    have kp : Kp (wA (mRem (thr_ (o75 (wA τ 39 (mI σ1 39)) x) 0) n) 63 B) υ := by
      refine ⟨p1, p2, p3, p4, fun q hq => ?_, by rw [e37]; exact ⟨rfl, rfl⟩, p6 3 (by omega), p6 6 (by omega), p6 8 (by omega), p6 12 (by omega), fun _ => hb⟩
      unfold KPl at hq
      by_cases c63 : q = 63
      · subst c63; rw [h63]; rfl
      · rw [p5 q (by omega) c63 (by omega), mI_wA, if_neg c63]
        by_cases c66 : q = 66
        · subst c66; rfl
        · rw [eT _ _ _ (by omega) c66 (by omega), eT _ _ _ (by omega) c66 (by omega), mI_wA, if_neg (by omega)]
    exact ⟨KR_kp kp g1, g2.kp hN0 kp⟩
theorem q_hours (I : Inv np nh n L σ) (hN : mN σ + 26 ≤ BIG) (x : Int32) : QA (FX0_hours (some 0) x (some 75)) (FX8_hours 62 x) σ := by
  have hBG : BIG = 1000000 := rfl
  obtain ⟨K, hLW, hTP, hIM, hF, hB6⟩ := id I
  have hC := K.1.c; have h := K.1.m
  have out : x < N 1 ∨ N 50 < x → QA (FX0_hours (some 0) x (some 75)) (FX8_hours 62 x) σ := fun hx => by
    refine QA_qw K (QW_th (k := 1) (σ1 := σ) (σ2 := thr_ σ 1) (b := N 0) (c := 1) (z := 6) (by omega) ?_ (by omega) (by omega) ?_ rfl Kp.rf thr_k)
    · unfold FX0_hours FX1_hours
      rw [fc_rv0 hC, Option.bind_some, l1_, l50q, C_in_out hx, Option.bind_some]
      dsimp only
      rw [C_dem_0, db_thw, dt_thw, if_pos rfl]
      rfl
    · unfold FX8_hours jn
      rw [l1_, l50q, M_isIn_out hx, Option.bind_some]
      dsimp only
      rw [if_pos (show N 0 = 0 from rfl), fm_pI h, Option.bind_some, thr_w, fm_gI (FM_t h), Option.bind_some, thr_0, l0_, if_neg (by decide)]
  rcases N_in x 51 (by omega) with ⟨a, ha, rfl⟩ | hx
  · by_cases h1 : 1 ≤ a
    · obtain ⟨σ1, c, z, ls, t1, t2, t3, t4, t5, t6, t7, t8⟩ := rem_both I hN
      obtain ⟨B, t, b1, b2, b3, b4, b5⟩ := hours_ok ls (m := a) (by omega) a _ K.1.w (Nat.le_refl a)
      obtain ⟨τ, u1, u2, u3⟩ := b4 _ σ1 fu 0 (fun (x31 : Int32) (σ : Mm) => rt (x31, σ)) (by unfold fu; omega) (by omega) t4
      obtain ⟨-, -, hKτ, -, hrτ, -⟩ := id u2
      have hs := t7 τ (N t) u3 hKτ
      obtain ⟨υ, w1, w2, w3⟩ := b5 _ _ fu 0 (fun (x25 : Int32) (σ : Mm) => some (x25, σ)) (by unfold fu; omega) (by omega) hs
      obtain ⟨g1, g2⟩ := t8 τ (N t) B υ u3 hrτ b1 b2 w3 w2.2.2.1 w2.2.2.2.2.2
      rw [Nat.zero_add, Nat.sub_self] at u1 w1
      have e0 : mI υ 62 0 = N 0 := (w3.2.2.2.2.2 0 (by omega)).trans rfl
      have e75 : mI υ 75 0 = N t := by rw [w3.2.2.2.2.1 75 (by omega) (by omega) (by omega)]; rfl
      refine ⟨N 0, o75 τ (N t), N t, υ, c, z, np, nh, _, ?_, by omega, by omega, ?_, e0, fun _ => e75, g1, g2⟩
      · have hCτ := u2.2.1
        unfold FX0_hours FX1_hours
        rw [fc_rv0 hC, Option.bind_some, l1_, l50q, C_in_in (by omega) (by omega) (by omega), Option.bind_some]
        dsimp only
        rw [C_dem_1, db_rt, fc_ck0 hC, t1, db_in, l0_, u1, dt_pay, dt_rt]
        have sl : sL (some 75) (N 0) (N t) τ = some (o75 τ (N t)) := sL_w hCτ
        rw [sl, Option.bind_some]
        rfl
      · have hMτ : FM (o75 τ (N t)) := hs.1
        have hn12 : n ≤ 12 := by obtain ⟨_, _, _, _, _, _, _, hX⟩ := K; exact hX.2.2.1
        have h6 : mI (thr_ (o75 τ (N t)) 0) 62 6 = N n := by
          show mI τ 62 6 = N n
          rw [u3.2.2.2.2 62 (by omega) (by omega), t6]; exact K.2.2.2.1
        unfold FX8_hours jn
        rw [l1_, l50q, M_isIn_in (by omega) (by omega) (by omega), Option.bind_some]
        dsimp only
        rw [if_neg (show ¬ N 1 = 0 by decide), l0_, fm_pI hMτ, Option.bind_some, thr_w, fm_gI (FM_t hMτ), Option.bind_some, thr_0, if_pos (by decide), fm_ck (FM_t hMτ), M_rem_ (FM_t hMτ) h6 hn12, Option.bind_some, fm_ck hs.1]
        unfold FX8_goes
        rw [l0_, w1, Option.bind_some]
    · exact out (Or.inl (by rw [N_lt (by omega) (by omega)]; omega))
  · exact out (hx.imp (fun hx => by rw [Int32.lt_iff_toInt_lt, N_int (by omega)] at hx ⊢; omega) fun hx => by
      rw [Int32.le_iff_toInt_le, N_int (by omega)] at hx
      rw [Int32.lt_iff_toInt_lt, N_int (by omega)]; omega)
end
