/-! THE PLAIN LAW, 70: what the law is on both sides -/
set_option maxRecDepth 100000
/-- the law at v is what the row A tells -/
def LW (v : Option Nat) (A : Nat → Int32) (σ : Mm) : Prop := (v = none ∧ A 1 = M1) ∨ ∃ q lo hi T e ls k, v = some q ∧ TX T e ∧ lawP T e = .ok (ls, k) ∧ A 1 = N ls.length ∧ ls.length < 100000 ∧ A 2 = N e ∧ (∀ k, k < e → A (584 + k) = N (T k)) ∧ LawG lo hi q ls σ ∧ 76 ≤ lo ∧ hi ≤ mN σ ∧ (∀ p, lo ≤ p → p < hi → mS σ p ≠ 2 ∧ mS σ p ≠ 100) ∧ ∀ p, lo ≤ p → p < hi → mR σ 40 1 ≠ some p
theorem LW_row {v : Option Nat} {A B : Nat → Int32} {σ : Mm} (h : ∀ j, j = 1 ∨ j = 2 ∨ 584 ≤ j → B j = A j) (hl : LW v A σ) : LW v B σ := by
  rcases hl with ⟨h1, h2⟩ | ⟨q, lo, hi, T, e, ls, k, h1, h2, h3, h4, h5, h6, h7, h8⟩
  · exact Or.inl ⟨h1, by rw [h 1 (by omega)]; exact h2⟩
  · exact Or.inr ⟨q, lo, hi, T, e, ls, k, h1, h2, h3, by rw [h 1 (by omega)]; exact h4, h5, by rw [h 2 (by omega)]; exact h6, fun k hk => by rw [h (584 + k) (by omega)]; exact h7 k hk, h8⟩
theorem LW_oth {v : Option Nat} {A : Nat → Int32} {σ τ : Mm} (h : Oth σ τ) (hl : LW v A σ) : LW v A τ := by
  rcases hl with h1 | ⟨q, lo, hi, T, e, ls, k, h1, h2, h3, h4, h5, h6, h7, h8, h9, h10, h11, h12⟩
  · exact Or.inl h1
  · obtain ⟨⟨o1, o2⟩, o3, o4, o5, o6, o7, o8, o9⟩ := h
    have ag : Ag lo hi σ τ := fun p p1 p2 => by
      obtain ⟨a1, a2⟩ := o3 p (by omega)
      obtain ⟨b1, b2⟩ := h11 p p1 p2
      obtain ⟨c1, c2⟩ := o7 p (by omega) (by omega) b1 b2 (h12 p p1 p2)
      exact ⟨a1, a2, c1, c2⟩
    refine Or.inr ⟨q, lo, hi, T, e, ls, k, h1, h2, h3, h4, h5, h6, h7, h8.ag ag, h9, by omega, fun p p1 p2 => by rw [(ag p p1 p2).1]; exact h11 p p1 p2, fun p p1 p2 => ?_⟩
    rcases o8 with o8 | ⟨e', o8, o8', o8''⟩
    · rw [o8]; exact h12 p p1 p2
    · rw [o8]; intro z; cases z; omega
/-- the tape on both sides -/
def TP (L : Nat) (σ : Mm) : Prop := L ≤ 400 ∧ mI σ 37 1 = N L ∧ mI σ 62 8 = N L ∧ ∀ k, k < L → ∃ t, t < 256 ∧ mI σ 38 k = cb t ∧ mI σ 67 k = N t
/-- the image on both sides -/
def IM (σ : Mm) : Prop := mI σ 0 3 = mI σ 62 3 ∧ (mI σ 0 3 = N 0 ∨ (mI σ 0 3 = N 1 ∧ ∃ np nh, WF (mI σ 64) np nh ∧ RW 25 (mI σ 64) np σ ∧ LW (mR σ 25 19) (mI σ 64) σ))
/-- all that is true ahead of each call -/
def Inv (np nh n L : Nat) (σ : Mm) : Prop := KR np nh n σ ∧ LW (mR σ 1 19) (mI σ 63) σ ∧ TP L σ ∧ IM σ ∧ mI σ 37 5 = mI σ 62 12 ∧ B62 σ
theorem Inv_oth {np nh n L np' nh' n' : Nat} {σ τ : Mm} (h : Inv np nh n L σ) (hk : KR np' nh' n' τ) (ho : Oth σ τ) : Inv np' nh' n' L τ := by
  obtain ⟨h1, h2, ⟨h3, h4, h5, h6⟩, ⟨h7, h8⟩, h9, h10⟩ := h
  have hl := LW_oth ho h2
  obtain ⟨⟨o1, o2⟩, o3, o4, ⟨p1, p2, p3, p4, p5, p6, p7⟩, o6, o7, o8, o9⟩ := id ho
  have i38 := (o4 38 (by omega)).1
  have i67 := (o4 67 (by omega)).1
  have i64 := (o4 64 (by omega)).1
  refine ⟨hk, ?_, ⟨h3, p1.trans h4, p4.trans h5, by rw [i38, i67]; exact h6⟩, ⟨by rw [p6, p3]; exact h7, ?_⟩, by rw [p2, p5]; exact h9, p7 h10⟩
  · rw [o6]; exact LW_row o9 hl
  · rw [p6]
    rcases h8 with h8 | ⟨h8, np0, nh0, w1, w2, w3⟩
    · exact Or.inl h8
    · refine Or.inr ⟨h8, np0, nh0, by rw [i64]; exact w1, ?_, ?_⟩
      · rw [i64]; exact RW_eq (fun k hk => (o4 (25 + k) (by omega)).1) w2
      · rw [i64, (o4 25 (by omega)).2]; exact LW_oth ho w3
/-- a text on the tape -/
def tT (L : Nat) (σ : Mm) : Nat → Nat := fun k => if k < L then ix (mI σ 67 k) else 256
theorem tT_ok {L : Nat} {σ : Mm} (h : TP L σ) : TX (tT L σ) L ∧ (∀ k, k < L → mI σ 38 k = cb (tT L σ k)) ∧ ∀ k, k < L → mI σ 67 k = N (tT L σ k) := by
  obtain ⟨h1, h2, h3, h4⟩ := h
  have key : ∀ k, k < L → tT L σ k < 256 ∧ mI σ 38 k = cb (tT L σ k) ∧ mI σ 67 k = N (tT L σ k) := fun k hk => by
    obtain ⟨t, t1, t2, t3⟩ := h4 k hk
    have e : tT L σ k = t := by unfold tT; rw [if_pos hk, t3, ix_N (by omega)]
    rw [e]; exact ⟨t1, t2, t3⟩
  exact ⟨⟨h1, fun k hk => (key k hk).1, fun k hk => if_neg (by omega)⟩, fun k hk => (key k hk).2.1, fun k hk => (key k hk).2.2⟩
/-- what a text leaves as it was -/
def TFr (σ τ : Mm) : Prop := (mN σ ≤ mN τ ∧ mN τ + 13 ≤ BIG) ∧ (∀ p, p < mN σ ∨ BIG ≤ p → mS τ p = mS σ p ∧ mL τ p = mL σ p) ∧ (∀ p, (76 ≤ p ∧ p < mN σ ∧ mR σ 40 1 ≠ some p) ∨ BIG ≤ p ∨ (25 ≤ p ∧ p < 37) ∨ p = 38 ∨ p = 64 ∨ p = 67 → mI τ p = mI σ p ∧ mR τ p = mR σ p) ∧ (mI τ 0 3 = mI σ 0 3 ∧ mI τ 62 3 = mI σ 62 3) ∧ mR τ 40 1 = mR σ 40 1 ∧ ∀ q k, q < 76 → (k ≠ 19 ∨ q = 62) → mR τ q k = mR σ q k
section
variable {np nh n L np' nh' L' : Nat} {σ τ : Mm} {A : Nat → Int32} {v : Option Nat}
theorem LW_t (h : TFr σ τ) (h0 : mN σ ≤ BIG) (hl : LW v A σ) : LW v A τ := by
  obtain ⟨⟨o1, o2⟩, o3, o4, o5, o6, o7⟩ := h
  rcases hl with h1 | ⟨q, lo, hi, T, e, ls, k, h1, h2, h3, h4, h5, h6, h7, h8, h9, h10, h11, h12⟩
  · exact Or.inl h1
  · have ag : Ag lo hi σ τ := fun p p1 p2 => by
      obtain ⟨a1, a2⟩ := o3 p (by omega)
      obtain ⟨c1, c2⟩ := o4 p (Or.inl ⟨by omega, by omega, h12 p p1 p2⟩)
      exact ⟨a1, a2, c1, c2⟩
    exact Or.inr ⟨q, lo, hi, T, e, ls, k, h1, h2, h3, h4, h5, h6, h7, h8.ag ag, h9, by omega, fun p p1 p2 => by rw [(ag p p1 p2).1]; exact h11 p p1 p2, fun p p1 p2 => by rw [o6]; exact h12 p p1 p2⟩
theorem IM_t (h : TFr σ τ) (h0 : mN σ ≤ BIG) (hi : IM σ) : IM τ := by
  obtain ⟨h7, h8⟩ := hi
  obtain ⟨⟨o1, o2⟩, o3, o4, o5, o6, o7⟩ := id h
  have i64 := (o4 64 (by omega)).1
  refine ⟨by rw [o5.1, o5.2]; exact h7, ?_⟩
  rw [o5.1]
  rcases h8 with h8 | ⟨h8, np0, nh0, w1, w2, w3⟩
  · exact Or.inl h8
  · refine Or.inr ⟨h8, np0, nh0, by rw [i64]; exact w1, ?_, ?_⟩
    · rw [i64]; exact RW_eq (fun k hk => (o4 (25 + k) (by omega)).1) w2
    · rw [i64, (o4 25 (by omega)).2]; exact LW_t h h0 w3
theorem FC_at2 (h : ∀ q, q < 76 → mS τ q = mS σ q ∧ mL τ q = mL σ q) (hr : ∀ q k, q < 76 → k ≠ 19 → (q ≠ 40 ∨ k ≠ 1) → mR τ q k = mR σ q k) (hf : FC σ) : FC τ := by
  have h1 : FC (τ.1, τ.2.1, τ.2.2.1, (fun q k => if k = 19 then mR σ q k else mR τ q k), τ.2.2.2.2) := by
    refine FC_at (σ := σ) h (fun q k hq hk => ?_) hf
    show (if k = 19 then mR σ q k else mR τ q k) = mR σ q k
    by_cases h19 : k = 19
    · rw [if_pos h19]
    · rw [if_neg h19]; exact hr q k hq h19 hk
  exact h1
theorem TFr.fc (h : TFr σ τ) (h0 : 76 ≤ mN σ) (hc : FC σ) : FC τ := by
  obtain ⟨⟨o1, o2⟩, o3, o4, o5, o6, o7⟩ := h
  exact FC_at2 (fun q hq => o3 q (by omega)) (fun q k hq hk _ => o7 q k hq (Or.inl hk)) hc
theorem TFr.fm (h : TFr σ τ) (h0 : 76 ≤ mN σ) (hc : FM σ) : FM τ := by
  obtain ⟨⟨o1, o2⟩, o3, o4, o5, o6, o7⟩ := h
  exact FM_at (fun q hq => o3 q (by omega)) (funext fun k => o7 62 k (by omega) (Or.inr rfl)) hc
theorem TFr.ks (h : TFr σ τ) (hc : KS σ) : KS τ := by
  obtain ⟨⟨o1, o2⟩, o3, o4, o5, o6, o7⟩ := h
  refine ⟨fun p hp => ?_, fun p k hp hk => ?_⟩
  · rw [(o3 p (by omega)).1, (o3 p (by omega)).2, (o4 p (by omega)).1]; exact hc.1 p hp
  · rw [(o4 p (by omega)).2]; exact hc.2 p k hp hk
/-- behind a text that is good: none are remembered -/
theorem Inv_t0 {e : Nat} (I : Inv np nh n L σ) (h : TFr σ τ) (hr : RW 1 (mI τ 63) np' τ) (hw : WF (mI τ 63) np' nh') (h6 : mI τ 62 6 = N 0) (ha : AL 40 0 e τ) (he : e = BIG + 122 ∨ 76 ≤ e) (hl : LW (mR τ 1 19) (mI τ 63) τ) (ht : TP L' τ) (hf : mI τ 37 5 = mI τ 62 12) (hb : B62 τ) : Inv np' nh' 0 L' τ := by
  have hB : BIG = 1000000 := rfl
  obtain ⟨⟨⟨hC, hM, _, _⟩, hK, ⟨hN0, hN1⟩, _, _, _, _, _⟩, _, _, hi, _, _⟩ := I
  exact ⟨⟨⟨h.fc hN0 hC, h.fm hN0 hM, hr, hw⟩, h.ks hK, ⟨by have := h.1.1; omega, h.1.2⟩, h6, fun i hi => by omega, e, fun _ => 0, ha, he, by omega, fun i hi => by omega, fun i j hi => by omega⟩, hl, ht, IM_t h (by omega) hi, hf, hb⟩
/-- behind a text that is wrong -/
theorem Inv_t1 (I : Inv np nh n L σ) (h : TFr σ τ) (h63 : mI τ 63 = mI σ 63) (hp : ∀ p, p < 13 → mI τ p = mI σ p) (h40 : mI τ 40 = mI σ 40 ∧ mR τ 40 = mR σ 40 ∧ mI τ 66 = mI σ 66) (he : ∀ e, mR σ 40 1 = some e → mR τ e = mR σ e) (h19 : mR τ 1 19 = mR σ 1 19) (h6 : mI τ 62 6 = mI σ 62 6) (ht : TP L' τ) (hf : mI τ 37 5 = mI τ 62 12) (hb : B62 τ) : Inv np nh n L' τ := by
  have hB : BIG = 1000000 := rfl
  obtain ⟨⟨⟨hC, hM, hr, hw⟩, hK, ⟨hN0, hN1⟩, k6, k12, e, f, hX⟩, hl, _, hi, _, _⟩ := I
  have er : rowM τ = rowM σ := by unfold rowM; rw [h40.2.2]
  have hX2 : KX τ n (rowM σ) (mR σ 1 19) e f := by
    obtain ⟨x1, x2, x3, x4, x5⟩ := hX
    have me : mR σ 40 1 = some e := x1.2.2.1
    refine ⟨AL_at ⟨(h.2.1 40 (by omega)).1, h40.1, h40.2.1⟩ (fun hen => ⟨(h.2.1 e (by omega)).1, (h.2.1 e (by omega)).2, he e me⟩) h.1.1 (fun q hq => (h.2.1 q (by omega)).1) x1, x2, x3, fun i hi' => ?_, x5⟩
    obtain ⟨y1, y2, y3, y4, y5, y6, y7⟩ := x4 i hi'
    have ag : ∀ q, f i ≤ q → q < f i + 12 → mS τ q = mS σ q ∧ mL τ q = mL σ q ∧ mI τ q = mI σ q ∧ mR τ q = mR σ q := fun q q1 q2 => by
      have hq : mR σ 40 1 ≠ some q := by rw [me]; intro z; cases z; omega
      have a := h.2.1 q (by omega)
      have b := h.2.2.1 q (Or.inl ⟨by omega, by omega, hq⟩)
      exact ⟨a.1, a.2, b.1, b.2⟩
    refine ⟨by rw [he e me]; exact y1, y2, by have := h.1.1; omega, y4, FW_at (fun q q1 q2 => ⟨(ag q q1 q2).1, (ag q q1 q2).2.1⟩) (ag (f i) (by omega) (by omega)).2.2.2 y5, by rw [(ag (f i) (by omega) (by omega)).2.2.2]; exact y6, ?_⟩
    obtain ⟨np0, nh0, z1, z2⟩ := y7
    exact ⟨np0, nh0, z1, RW_eq (fun k hk => (ag (f i + k) (by omega) (by omega)).2.2.1) z2⟩
  refine ⟨⟨⟨h.fc hN0 hC, h.fm hN0 hM, ?_, by rw [h63]; exact hw⟩, h.ks hK, ⟨by have := h.1.1; omega, h.1.2⟩, h6.trans k6, by rw [er, h63]; exact k12, e, f, by rw [er, h19]; exact hX2⟩, ?_, ht, IM_t h (by omega) hi, hf, hb⟩
  · rw [h63]; exact RW_eq (fun k hk => hp _ (by omega)) hr
  · rw [h63, h19]; exact LW_t h (by omega) hl
end
