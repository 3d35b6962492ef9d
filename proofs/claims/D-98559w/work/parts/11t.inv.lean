/-! THE PLAIN LAW, 31: what is true ahead of each call, and behind an act -/
set_option maxRecDepth 100000
theorem RW_row {b np : Nat} {A B : Nat → Int32} {σ : Mm} (hn : np ≤ 10) (h : ∀ j, j < 584 → B j = A j) (hr : RW b A np σ) : RW b B np σ := by
  obtain ⟨h1, h2, h3, h4, h5, h6⟩ := hr
  have hp : ∀ p w, p < 10 → w < 6 → PA B p w = PA A p w := fun p w hp hw => h _ (by omega)
  refine ⟨?_, fun q hq => ?_, fun j hj => ?_, fun j hj => ?_, fun j hj => ?_, ?_⟩
  · rw [h 0 (by omega), h 3 (by omega), h 4 (by omega), h 5 (by omega), h 6 (by omega), h 7 (by omega), h 8 (by omega), h 9 (by omega)]; exact h1
  · rw [hp q 0 hq (by omega), hp q 1 hq (by omega), hp q 2 hq (by omega), hp q 3 hq (by omega), hp q 4 hq (by omega), hp q 5 hq (by omega)]; exact h2 q hq
  · rw [h _ (by omega)]; exact h3 j hj
  · have : HA B j = HA A j := h _ (by omega)
    rw [this]; exact h4 j hj
  · rw [h _ (by omega)]; exact h5 j hj
  · exact WS_A (fun j h1 h2 => h j (by omega)) hn h6
theorem WF_row {np nh : Nat} {A B : Nat → Int32} (h : ∀ j, j < 584 → B j = A j) (hA : WF A np nh) : WF B np nh := by
  have hn := hA.1.2.1
  have hp : ∀ p w, p < np → w < 6 → PA B p w = PA A p w := fun p w hp hw => h _ (by omega)
  refine WF_of hA (h 3 (by omega)) (h 4 (by omega)) ?_ (fun q hq => ?_) (fun q hq => hp q 2 hq (by omega)) fun k hk => h _ (by omega)
  · rw [h 8 (by omega)]; exact hA.1.2.2.2.2.2
  · rw [hp q 3 hq (by omega), hp q 4 hq (by omega), hp q 0 hq (by omega), hp q 1 hq (by omega), hp q 5 hq (by omega)]; exact WF_P hA hq
theorem KX_rows {σ : Mm} {n e : Nat} {R S : Nat → Nat → Int32} {v : Option Nat} {f : Nat → Nat} (h : ∀ i, i < n → ∀ j, j < 584 → S i j = R i j) (hk : KX σ n R v e f) : KX σ n S v e f := by
  obtain ⟨a, b, c, d, g⟩ := hk
  refine ⟨a, b, c, fun i hi => ?_, g⟩
  obtain ⟨d1, d2, d3, d4, d5, d6, np, nh, d7, d8⟩ := d i hi
  exact ⟨d1, d2, d3, d4, d5, d6, np, nh, WF_row (h i hi) d7, RW_row d7.1.2.1 (h i hi) d8⟩
/-- both sides, and the worlds that are remembered (n of them) -/
def KR (np nh n : Nat) (σ : Mm) : Prop := Co np nh σ ∧ KS σ ∧ (76 ≤ mN σ ∧ mN σ + 13 ≤ BIG) ∧ mI σ 62 6 = N n ∧ (∀ i, i < n → rowM σ i 1 = mI σ 63 1 ∧ rowM σ i 2 = mI σ 63 2) ∧ ∃ e f, KX σ n (rowM σ) (mR σ 1 19) e f
/-- what neither a question nor an act changes -/
def Oth (σ τ : Mm) : Prop := (mN σ ≤ mN τ ∧ mN τ ≤ mN σ + 13) ∧ (∀ q, q < mN σ ∨ mN σ + 13 ≤ q → mS τ q = mS σ q ∧ mL τ q = mL σ q) ∧ (∀ q, (25 ≤ q ∧ q < 37) ∨ q = 38 ∨ q = 64 ∨ q = 67 ∨ mN σ + 13 ≤ q → mI τ q = mI σ q ∧ mR τ q = mR σ q) ∧ (mI τ 37 1 = mI σ 37 1 ∧ mI τ 37 5 = mI σ 37 5 ∧ mI τ 62 3 = mI σ 62 3 ∧ mI τ 62 8 = mI σ 62 8 ∧ mI τ 62 12 = mI σ 62 12 ∧ mI τ 0 3 = mI σ 0 3 ∧ (B62 σ → B62 τ)) ∧ mR τ 1 19 = mR σ 1 19 ∧ (∀ q, 76 ≤ q → q < mN σ → mS σ q ≠ 2 → mS σ q ≠ 100 → mR σ 40 1 ≠ some q → mI τ q = mI σ q ∧ mR τ q = mR σ q) ∧ (mR τ 40 1 = mR σ 40 1 ∨ ∃ e', mR τ 40 1 = some e' ∧ mN σ ≤ e' ∧ e' < mN σ + 13) ∧ ∀ j, j = 1 ∨ j = 2 ∨ 584 ≤ j → mI τ 63 j = mI σ 63 j
def mRem (σ : Mm) (n : Nat) : Mm := wA (wA σ 66 (aRem (mI σ 66) (mI σ 63) n)) 62 (up1 (mI σ 62) 6 (N (if n = 12 then 12 else n + 1)))
theorem FC_at {σ τ : Mm} (h : ∀ q, q < 76 → mS τ q = mS σ q ∧ mL τ q = mL σ q) (hr : ∀ q k, q < 76 → (q ≠ 40 ∨ k ≠ 1) → mR τ q k = mR σ q k) (hf : FC σ) : FC τ := by
  have r : ∀ q, q < 76 → q ≠ 40 → mR τ q = mR σ q := fun q hq h4 => funext fun k => hr q k hq (Or.inl h4)
  obtain ⟨w1, w13, w25, w50, g⟩ := hf
  refine ⟨FW_at (fun q _ h2 => h q (by omega)) (r 1 (by omega) (by omega)) w1, FW_at (fun q _ h2 => h q (by omega)) (r 13 (by omega) (by omega)) w13, FW_at (fun q _ h2 => h q (by omega)) (r 25 (by omega) (by omega)) w25, FW_at (fun q _ h2 => h q (by omega)) (r 50 (by omega) (by omega)) w50, ?_⟩
  rw [(h 0 (by omega)).1, (h 37 (by omega)).1, (h 39 (by omega)).1, (h 40 (by omega)).1, (h 41 (by omega)).1, (h 44 (by omega)).1, (h 47 (by omega)).1, (h 38 (by omega)).1, (h 38 (by omega)).2, (h 42 (by omega)).1, (h 42 (by omega)).2, (h 43 (by omega)).1, (h 43 (by omega)).2, (h 45 (by omega)).1, (h 45 (by omega)).2, (h 46 (by omega)).1, (h 46 (by omega)).2, (h 48 (by omega)).1, (h 48 (by omega)).2, (h 49 (by omega)).1, (h 49 (by omega)).2, (h 75 (by omega)).1, (h 75 (by omega)).2, r 0 (by omega) (by omega), r 37 (by omega) (by omega), r 41 (by omega) (by omega), r 44 (by omega) (by omega), r 47 (by omega) (by omega)]
  exact g
theorem FM_at {σ τ : Mm} (h : ∀ q, q < 76 → mS τ q = mS σ q ∧ mL τ q = mL σ q) (hr : mR τ 62 = mR σ 62) (hf : FM σ) : FM τ := by
  unfold FM
  rw [(h 62 (by omega)).1, (h 63 (by omega)).1, (h 63 (by omega)).2, (h 64 (by omega)).1, (h 64 (by omega)).2, (h 65 (by omega)).1, (h 65 (by omega)).2, (h 66 (by omega)).1, (h 66 (by omega)).2, (h 67 (by omega)).1, (h 67 (by omega)).2, (h 68 (by omega)).1, (h 68 (by omega)).2, (h 69 (by omega)).1, (h 69 (by omega)).2, (h 70 (by omega)).1, (h 70 (by omega)).2, (h 71 (by omega)).1, (h 71 (by omega)).2, (h 72 (by omega)).1, (h 72 (by omega)).2, (h 73 (by omega)).1, (h 73 (by omega)).2, (h 74 (by omega)).1, (h 74 (by omega)).2, hr]
  exact hf
/-- HungFaces has remembered; then its world is as the row B -/
theorem act_ok {σ σ1 τ : Mm} {np nh n e' : Nat} {f' : Nat → Nat} {B : Nat → Int32} {x : Int32} (K : KR np nh n σ) (h1 : KX σ1 (if n = 12 then 12 else n + 1) (remS (rowM σ) (mI σ 63) n) (mR σ 1 19) e' f') (rf : RF σ σ1) (ow : OW 1 σ1 τ) (hr : RW 1 B np τ) (hB : WF B np nh) (hB1 : ∀ j, j = 1 ∨ j = 2 ∨ 584 ≤ j → B j = mI σ 63 j) (hN : mN τ + 13 ≤ BIG) : KR np nh (if n = 12 then 12 else n + 1) (wA (mRem (thr_ (o75 τ x) 0) n) 63 B) ∧ Oth σ (wA (mRem (thr_ (o75 τ x) 0) n) 63 B) := by
  have hBG : BIG = 1000000 := rfl
  obtain ⟨⟨hC, hM, _, _⟩, hK, ⟨hN0, hN1⟩, h6, h12, e, f, hX⟩ := K
  obtain ⟨⟨n1, n2⟩, r2, r3, r4, r5, r6⟩ := rf
  obtain ⟨o1, o2, o3, o4, o5⟩ := ow
  have eS : mS (wA (mRem (thr_ (o75 τ x) 0) n) 63 B) = mS σ1 := o1
  have eL : mL (wA (mRem (thr_ (o75 τ x) 0) n) 63 B) = mL σ1 := o2
  have eR : mR (wA (mRem (thr_ (o75 τ x) 0) n) 63 B) = mR σ1 := o3
  have eN : mN (wA (mRem (thr_ (o75 τ x) 0) n) 63 B) = mN σ1 := o4
  have eT : ∀ q, q ≠ 62 → q ≠ 63 → q ≠ 66 → q ≠ 75 → mI (wA (mRem (thr_ (o75 τ x) 0) n) 63 B) q = mI τ q := fun q q1 q2 q3 q4 => by
    unfold mRem thr_ o75
    rw [mI_wA, if_neg q2, mI_wA, if_neg q1, mI_wA, if_neg q3, mI_wA, if_neg q1, mI_wA, if_neg q4]
  have eI : ∀ q, 13 ≤ q → q ≠ 62 → q ≠ 63 → q ≠ 66 → q ≠ 75 → mI (wA (mRem (thr_ (o75 τ x) 0) n) 63 B) q = mI σ1 q := fun q q0 q1 q2 q3 q4 => (eT q q1 q2 q3 q4).trans (o5 q (by omega))
  have e63 : mI (wA (mRem (thr_ (o75 τ x) 0) n) 63 B) 63 = B := rfl
  have t66 : mI τ 66 = mI σ 66 := (o5 66 (by omega)).trans (r3 66 (by omega) (by omega)).1
  have t63 : mI τ 63 = mI σ 63 := (o5 63 (by omega)).trans (r3 63 (by omega) (by omega)).1
  have t62 : mI τ 62 = mI σ 62 := (o5 62 (by omega)).trans (r3 62 (by omega) (by omega)).1
  have e66 : mI (wA (mRem (thr_ (o75 τ x) 0) n) 63 B) 66 = aRem (mI σ 66) (mI σ 63) n := by
    rw [← t66, ← t63]; rfl
  have e62 : ∀ k, k ≠ 0 → k ≠ 6 → mI (wA (mRem (thr_ (o75 τ x) 0) n) 63 B) 62 k = mI σ 62 k := fun k k0 k6 => by
    rw [← t62]
    show up1 (up1 (mI τ 62) 0 (N 0)) 6 _ k = _
    rw [up1_app, if_neg k6, up1_app, if_neg k0]
  have s76 : ∀ q, q < 76 → mS (wA (mRem (thr_ (o75 τ x) 0) n) 63 B) q = mS σ q ∧ mL (wA (mRem (thr_ (o75 τ x) 0) n) 63 B) q = mL σ q := fun q hq => by
    rw [eS, eL]; exact r2 q (by omega)
  have q76 : ∀ q k, q < 76 → (q ≠ 40 ∨ k ≠ 1) → mR (wA (mRem (thr_ (o75 τ x) 0) n) 63 B) q k = mR σ q k := fun q k hq hk => by
    rw [eR]
    by_cases h4 : q = 40
    · subst h4; exact r4 k (hk.resolve_left (fun z => z rfl))
    · rw [(r3 q (by omega) h4).2]
  have hX1 : KX (wA (mRem (thr_ (o75 τ x) 0) n) 63 B) (if n = 12 then 12 else n + 1) (rowM (wA (mRem (thr_ (o75 τ x) 0) n) 63 B)) (mR σ 1 19) e' f' := by
    refine KX_rows (R := remS (rowM σ) (mI σ 63) n) (fun i hi j hj => ?_) (KX_at ⟨by rw [eS], eI 40 (by omega) (by omega) (by omega) (by omega) (by omega), by rw [eR]⟩ ⟨by rw [eS], by rw [eL], by rw [eR]⟩ (by rw [eN]; exact Nat.le_refl _) (fun i hi q q1 q2 => ?_) h1)
    · unfold rowM; rw [e66]; exact aRem_row hX.2.2.1 hi hj
    · have := (h1.2.2.2.1 i hi).2.1
      exact ⟨by rw [eS], by rw [eL], eI q (by omega) (by omega) (by omega) (by omega) (by omega), by rw [eR]⟩
  have e19 : mR (wA (mRem (thr_ (o75 τ x) 0) n) 63 B) 1 19 = mR σ 1 19 := q76 1 19 (by omega) (Or.inl (by omega))
  refine ⟨⟨⟨FC_at s76 q76 hC, FM_at s76 (funext fun k => q76 62 k (by omega) (Or.inl (by omega))) hM, ?_, ?_⟩, ?_, ⟨by rw [eN]; omega, by rw [eN]; omega⟩, rfl, fun i hi => ?_, e', f', by rw [e19]; exact hX1⟩, ⟨by rw [eN]; omega, by rw [eN]; omega⟩, fun q hq => by rw [eS, eL]; exact r2 q hq, fun q hq => ?_, ⟨?_, ?_, e62 3 (by omega) (by omega), e62 8 (by omega) (by omega), e62 12 (by omega) (by omega), ?_, B62_eq ⟨e62 15 (by omega) (by omega), e62 16 (by omega) (by omega), e62 17 (by omega) (by omega), e62 18 (by omega) (by omega)⟩⟩, e19, fun q q1 q2 q3 q4 q5 => ?_, by rw [eR]; exact r6, fun j hj => by rw [e63]; exact hB1 j hj⟩
  · rw [e63]; exact RW_eq (fun k hk => eT _ (by omega) (by omega) (by omega) (by omega)) hr
  · rw [e63]; exact hB
  · refine ⟨fun p hp => ?_, fun p k hp h3 => ?_⟩
    · rw [eS, eL, eI p (by omega) (by omega) (by omega) (by omega) (by omega), (r2 p (by omega)).1, (r2 p (by omega)).2, (r3 p (by omega) (by omega)).1]; exact hK.1 p hp
    · rw [eR, (r3 p (by omega) (by omega)).2]; exact hK.2 p k hp h3
  · have a1 : rowM (wA (mRem (thr_ (o75 τ x) 0) n) 63 B) i 1 = remS (rowM σ) (mI σ 63) n i 1 := by unfold rowM; rw [e66]; exact aRem_row hX.2.2.1 hi (by omega)
    have a2 : rowM (wA (mRem (thr_ (o75 τ x) 0) n) 63 B) i 2 = remS (rowM σ) (mI σ 63) n i 2 := by unfold rowM; rw [e66]; exact aRem_row hX.2.2.1 hi (by omega)
    rw [a1, a2, e63, hB1 1 (by omega), hB1 2 (by omega)]
    unfold remS remR
    by_cases hn : n = 12
    · rw [if_pos hn]
      try dsimp only
      by_cases h2 : i < 11
      · rw [if_pos h2]; exact h12 (i + 1) (by omega)
      · rw [if_neg h2]; exact ⟨rfl, rfl⟩
    · rw [if_neg hn]
      try dsimp only
      by_cases h2 : i < n
      · rw [if_pos h2]; exact h12 i h2
      · rw [if_neg h2]; exact ⟨rfl, rfl⟩
  · rw [eR, eI q (by omega) (by omega) (by omega) (by omega) (by omega)]
    exact r3 q (by omega) (by omega)
  · rw [eI 37 (by omega) (by omega) (by omega) (by omega) (by omega), (r3 37 (by omega) (by omega)).1]
  · rw [eI 37 (by omega) (by omega) (by omega) (by omega) (by omega), (r3 37 (by omega) (by omega)).1]
  · rw [eT 0 (by omega) (by omega) (by omega) (by omega), o5 0 (by omega), (r3 0 (by omega) (by omega)).1]
  · rw [eR, eI q (by omega) (by omega) (by omega) (by omega) (by omega)]
    exact r5 q q1 q2 q3 q4 q5
