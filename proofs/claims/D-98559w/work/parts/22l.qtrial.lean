/-! THE PLAIN LAW, 91: trial and span, asked of both -/
set_option maxRecDepth 100000
/-- only the World at 50 and the Scene differ, and the World's law is v -/
def OT (v : Option Nat) (σ τ : Mm) : Prop := mS τ = mS σ ∧ mL τ = mL σ ∧ mN τ = mN σ ∧ (∀ q k, q ≠ 50 ∨ k ≠ 19 → mR τ q k = mR σ q k) ∧ mR τ 50 19 = v ∧ ∀ q, q ≠ 39 → q < 50 ∨ 62 ≤ q → mI τ q = mI σ q
section
variable {np nh n L : Nat} {σ τ υ : Mm} {A Z : Nat → Int32} {v : Option Nat} {ls : List (Bool × Option Cn)}
theorem OT.oh (h : OT v σ τ) (g : OH 50 τ υ) : OT v σ υ := by
  obtain ⟨a, b, c, d, e, f⟩ := h
  obtain ⟨a', b', c', d', f'⟩ := g
  exact ⟨a'.trans a, b'.trans b, d'.trans c, fun q k hq => by rw [c']; exact d q k hq, by rw [c']; exact e, fun q h1 h2 => (f' q h1 (by omega)).trans (f q h1 h2)⟩
theorem OL.ot (h : OL 50 v σ τ) : OT v σ τ := by
  obtain ⟨a, b, c, d, e, f⟩ := h
  exact ⟨a, b, e, c, d, fun q _ h2 => f q (by omega)⟩
theorem OT.ol (h : OT v σ τ) (g : OL 50 v τ υ) : OT v σ υ := by
  obtain ⟨a, b, c, d, e, f⟩ := h
  obtain ⟨a', b', c', d', e', f'⟩ := g
  exact ⟨a'.trans a, b'.trans b, e'.trans c, fun q k hq => (c' q k hq).trans (d q k hq), d', fun q h1 h2 => (f' q (by omega)).trans (f q h1 h2)⟩
theorem OT.fc (h : OT v σ τ) (hC : FC σ) : FC τ := FC_at2 (fun q _ => by rw [h.1, h.2.1]; exact ⟨rfl, rfl⟩) (fun q k _ hk _ => h.2.2.2.1 q k (Or.inr hk)) hC
theorem OT.ks (h : OT v σ τ) (hK : KS σ) : KS τ := by
  have hB : BIG = 1000000 := rfl
  obtain ⟨a, b, c, d, e, f⟩ := h
  refine ⟨fun p hp => ?_, fun p k hp h3 => ?_⟩
  · rw [a, b, f p (by omega) (by omega)]; exact hK.1 p hp
  · rw [d p k (by omega)]; exact hK.2 p k hp h3
theorem OT.lws (h : OT v σ τ) (hl : LWs v A ls σ) : LWs v A ls τ := LWs.at (σ := σ) (fun _ _ => rfl) (fun q hq => ⟨by rw [h.1], by rw [h.2.1], h.2.2.2.2.2 q (by omega) (by omega), funext fun k => h.2.2.2.1 q k (by omega)⟩) hl
/-- the World is likened again -/
theorem T_likens (I : Inv np nh n L σ) (hl : LWs (mR σ 1 19) (mI σ 63) ls σ) (h : OT (mR σ 1 19) σ τ) : ∃ υ, FX2_likens 50 (some 1) τ = some (some 50, υ) ∧ CS 50 np nh (mR σ 1 19) ls (mI σ 63) υ ∧ OT (mR σ 1 19) σ υ := by
  obtain ⟨K, -⟩ := id I
  have hC := h.fc K.1.c
  have hr : RW 1 (mI σ 63) np τ := RW_eq (fun k hk => h.2.2.2.2.2 (1 + k) (by omega) (by omega)) K.1.r
  obtain ⟨w1, w2, w3⟩ := W_likens (b := 50) (c := 1) (by omega) K.1.n0 hC.2.2.2.1 hC.1 hr
  have hv : mR τ 1 19 = mR σ 1 19 := h.2.2.2.1 1 19 (by omega)
  rw [hv] at w3
  have o := h.ol w3
  exact ⟨_, w1, ⟨Or.inr rfl, o.fc K.1.c, o.ks K.2.1, (o.fc K.1.c).2.2.2.1, w2, K.1.w, o.2.2.2.2.1, o.lws hl⟩, o⟩
/-- the trial is over -/
theorem back_ok {x : Int32} {f : Nat → Int32} (I : Inv np nh n L σ) (h : OT (mR σ 1 19) σ τ) (om : OM (wA (thr_ (o75 τ x) 0) 65 f) υ) (h63 : mI υ 63 = mI σ 63) (hb : B62 υ) : KR np nh n υ ∧ Oth σ υ := by
  have hBG : BIG = 1000000 := rfl
  obtain ⟨K, -⟩ := id I
  have hN0 := K.2.2.1.1
  obtain ⟨a, b, c, d, e, g⟩ := h
  obtain ⟨p1, p2, p3, p4, p5, p6⟩ := om
  have hI : ∀ q, q ≠ 62 → q ≠ 68 → q ≠ 65 → q ≠ 75 → q ≠ 39 → q < 50 ∨ 62 ≤ q → mI υ q = mI σ q := fun q q1 q2 q3 q4 q5 q6 => by
    by_cases c63 : q = 63
    · rw [c63]; exact h63
    · rw [p5 q q1 c63 q2]
      unfold thr_ o75
      rw [mI_wA, if_neg q3, mI_wA, if_neg q1, mI_wA, if_neg q4, g q q5 q6]
  have h62 : mI (wA (thr_ (o75 τ x) 0) 65 f) 62 = up1 (mI σ 62) 0 (N 0) := by
    rw [← g 62 (by omega) (by omega)]; rfl
  have k62 : ∀ k, k = 3 ∨ k = 6 ∨ k = 8 ∨ k = 12 → mI υ 62 k = mI σ 62 k := fun k hk => by
    rw [p6 k (by omega), h62, up1_app, if_neg (by omega)]
  have S : mS υ = mS σ := p1.trans a
  have Ln : mL υ = mL σ := p2.trans b
  have R : ∀ q k, q ≠ 50 ∨ k ≠ 19 → mR υ q k = mR σ q k := fun q k hq => (congrFun (congrFun p3 q) k).trans (d q k hq)
  have Rq : ∀ q, q ≠ 50 → mR υ q = mR σ q := fun q hq => funext fun k => R q k (Or.inl hq)
  have Nn : mN υ = mN σ := p4.trans c
  have e63 : mI υ 63 = mI σ 63 := h63
  obtain ⟨⟨hC, hM, hr, hw⟩, hK, ⟨-, hN1⟩, h6, h12, e', f', hX⟩ := K
  have h66 : mI υ 66 = mI σ 66 := hI 66 (by omega) (by omega) (by omega) (by omega) (by omega) (by omega)
  refine ⟨⟨⟨FC_at2 (fun q _ => by rw [S, Ln]; exact ⟨rfl, rfl⟩) (fun q k _ hk _ => R q k (Or.inr hk)) hC, FM_at (fun q _ => by rw [S, Ln]; exact ⟨rfl, rfl⟩) (Rq 62 (by omega)) hM, ?_, by rw [e63]; exact hw⟩, ⟨fun p hp => ?_, fun p k hp h3 => ?_⟩, by rw [Nn]; exact ⟨hN0, hN1⟩, (k62 6 (by omega)).trans h6, ?_, e', f', ?_⟩, ⟨by rw [Nn]; omega, by rw [Nn]; omega⟩, fun q _ => by rw [S, Ln]; exact ⟨rfl, rfl⟩, fun q hq => ⟨hI q (by omega) (by omega) (by omega) (by omega) (by omega) (by omega), Rq q (by omega)⟩, ⟨?_, ?_, k62 3 (by omega), k62 8 (by omega), k62 12 (by omega), ?_, fun _ => hb⟩, R 1 19 (by omega), fun q q1 _ _ _ _ => ⟨hI q (by omega) (by omega) (by omega) (by omega) (by omega) (by omega), Rq q (by omega)⟩, Or.inl (R 40 1 (by omega)), fun j _ => by rw [e63]⟩
  · rw [e63]; exact RW_eq (fun k hk => hI (1 + k) (by omega) (by omega) (by omega) (by omega) (by omega) (by omega)) hr
  · rw [S, Ln, hI p (by omega) (by omega) (by omega) (by omega) (by omega) (by omega)]; exact hK.1 p hp
  · rw [R p k (by omega)]; exact hK.2 p k hp h3
  · unfold rowM; rw [h66, e63]; exact h12
  · have er : rowM υ = rowM σ := by unfold rowM; rw [h66]
    rw [er, R 1 19 (by omega)]
    have he := hX.2.1
    refine KX_at ⟨by rw [S], hI 40 (by omega) (by omega) (by omega) (by omega) (by omega) (by omega), Rq 40 (by omega)⟩ ⟨by rw [S], by rw [Ln], Rq e' (by omega)⟩ (by rw [Nn]; exact Nat.le_refl _) (fun i hi q q1 q2 => ?_) hX
    have := (hX.2.2.2.1 i hi).2.1
    exact ⟨by rw [S], by rw [Ln], hI q (by omega) (by omega) (by omega) (by omega) (by omega) (by omega), Rq q (by omega)⟩
  · rw [hI 37 (by omega) (by omega) (by omega) (by omega) (by omega) (by omega)]
  · rw [hI 37 (by omega) (by omega) (by omega) (by omega) (by omega) (by omega)]
  · rw [hI 0 (by omega) (by omega) (by omega) (by omega) (by omega) (by omega)]
end
