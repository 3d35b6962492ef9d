/-! THE PLAIN LAW, 73: the law is told -/
set_option maxRecDepth 100000
/-- a call, with what it costs: the tape (L bytes) pays for the texts -/
def Qi (W : Mm → DX (Int32 × Mm)) (Mo : Mm → Option (Int32 × Mm)) (L : Nat) (σ : Mm) : Prop := ∃ k σ1 b σ2 c z np' nh' n' L', W σ = some (.inl (k, σ1), c, z) ∧ Mo σ1 = some (b, σ2) ∧ mI σ2 62 0 = k ∧ (k = N 0 → mI σ2 75 0 = b) ∧ Inv np' nh' n' L' σ2 ∧ c + 63 * L' ≤ 63 * L + 1400 ∧ z + 3060 * L' ≤ 3060 * L + 66000 ∧ mN σ2 + 63 * L' ≤ mN σ + 63 * L + 1400
/-- one without exceptions -/
def Qj (W Mo : Mm → Option (Int32 × Mm)) (L : Nat) (σ : Mm) : Prop := ∃ b σ1 σ2 np' nh' n' L', W σ = some (b, σ1) ∧ Mo σ1 = some (b, σ2) ∧ Inv np' nh' n' L' σ2 ∧ L' ≤ L + 20 ∧ mN σ2 ≤ mN σ + 20
theorem RW_row1 {b np : Nat} {A B : Nat → Int32} {σ : Mm} (hn : np ≤ 10) (h : ∀ j, j < 584 → j ≠ 1 → j ≠ 2 → B j = A j) (hr : RW b A np σ) : RW b B np σ := by
  obtain ⟨h1, h2, h3, h4, h5, h6⟩ := hr
  have hp : ∀ p w, p < 10 → w < 6 → PA B p w = PA A p w := fun p w hp hw => h _ (by omega) (by omega) (by omega)
  refine ⟨?_, fun q hq => ?_, fun j hj => ?_, fun j hj => ?_, fun j hj => ?_, ?_⟩
  · rw [h 0 (by omega) (by omega) (by omega), h 3 (by omega) (by omega) (by omega), h 4 (by omega) (by omega) (by omega), h 5 (by omega) (by omega) (by omega), h 6 (by omega) (by omega) (by omega), h 7 (by omega) (by omega) (by omega), h 8 (by omega) (by omega) (by omega), h 9 (by omega) (by omega) (by omega)]; exact h1
  · rw [hp q 0 hq (by omega), hp q 1 hq (by omega), hp q 2 hq (by omega), hp q 3 hq (by omega), hp q 4 hq (by omega), hp q 5 hq (by omega)]; exact h2 q hq
  · rw [h _ (by omega) (by omega) (by omega)]; exact h3 j hj
  · have : HA B j = HA A j := h _ (by omega) (by omega) (by omega)
    rw [this]; exact h4 j hj
  · rw [h _ (by omega) (by omega) (by omega)]; exact h5 j hj
  · exact WS_A (fun j h1 h2 => h j (by omega) (by omega) (by omega)) hn h6
theorem WF_row1 {np nh : Nat} {A B : Nat → Int32} (h : ∀ j, j < 584 → j ≠ 1 → j ≠ 2 → B j = A j) (hA : WF A np nh) : WF B np nh := by
  have hn := hA.1.2.1
  have hp : ∀ p w, p < np → w < 6 → PA B p w = PA A p w := fun p w hp hw => h _ (by omega) (by omega) (by omega)
  refine WF_of hA (h 3 (by omega) (by omega) (by omega)) (h 4 (by omega) (by omega) (by omega)) ?_ (fun q hq => ?_) (fun q hq => hp q 2 hq (by omega)) fun k hk => h _ (by omega) (by omega) (by omega)
  · rw [h 8 (by omega) (by omega) (by omega)]; exact hA.1.2.2.2.2.2
  · rw [hp q 3 hq (by omega), hp q 4 hq (by omega), hp q 0 hq (by omega), hp q 1 hq (by omega), hp q 5 hq (by omega)]; exact WF_P hA hq
section
variable {np nh n L : Nat} {σ : Mm}
theorem Qi_qa {W : Mm → DX (Int32 × Mm)} {Mo : Mm → Option (Int32 × Mm)} (I : Inv np nh n L σ) (h : QA W Mo σ) : Qi W Mo L σ := by
  obtain ⟨k, σ1, b, σ2, c, z, np', nh', n', h1, h2, h3, h4, h5, h6, h7, h8⟩ := h
  have := h8.1
  exact ⟨k, σ1, b, σ2, c, z, np', nh', n', L, h1, h4, h5, h6, Inv_oth I h7 h8, by omega, by omega, by omega⟩
theorem Qj_qb {W Mo : Mm → Option (Int32 × Mm)} (I : Inv np nh n L σ) (h : QB W Mo σ) : Qj W Mo L σ := by
  obtain ⟨x, σ1, σ2, np', nh', n', h1, h2, h3, h4⟩ := h
  have := h4.1
  exact ⟨x, σ1, σ2, np', nh', n', L, h1, h2, Inv_oth I h3 h4, by omega, by omega⟩
theorem Qi_qw {W : Mm → DX (Int32 × Mm)} {Mo : Mm → Option (Int32 × Mm)} (I : Inv np nh n L σ) (h : QW W Mo σ) : Qi W Mo L σ := Qi_qa I (QA_qw I.1 h)
theorem Qj_qn {W Mo : Mm → Option (Int32 × Mm)} (I : Inv np nh n L σ) (h : QN W Mo σ) : Qj W Mo L σ := Qj_qb I (QB_qn I.1 h)
theorem q_law (I : Inv np nh n L σ) (hN : mN σ + 200000 ≤ BIG) : Qi (FX0_law (some 0) (some 75)) (FX8_law 62) L σ := by
  have hB : BIG = 1000000 := rfl
  have I' := I
  obtain ⟨⟨⟨hC, hM, hr, hw⟩, hK, ⟨hN0, hN1⟩, k6, k12, e0, f0, hX⟩, hl, ht, hi, hf, hb⟩ := I'
  obtain ⟨hT, t38, t67⟩ := tT_ok ht
  have hL := ht.1
  cases hp : lawP (tT L σ) L with
  | ok u =>
    obtain ⟨σ1, c, z, w, e, q, g1, ⟨⟨y1, y2⟩, y3, y4, y5, y6, y7, y8, y9⟩, g3, g4, g5, g6, g7, g8, g9, g10, g11, g12⟩ := C_law_ok I hN hp
    have heN : e = BIG + 122 ∨ (76 ≤ e ∧ e < mN σ) := by
      have e1 := hX.1.2.2.1
      rw [g3] at e1
      cases e1
      rcases hX.1.2.2.2.2.1 with ⟨h1, _⟩ | h1
      · exact Or.inl h1
      · rcases hX.2.1 with h2 | h2
        · exact Or.inl h2
        · exact Or.inr ⟨h2, h1.1⟩
    have hCM : FM σ1 := FM_at (fun q hq => y3 q (by omega)) (y5 62 (by omega) (by omega) (by rcases heN with h | h <;> omega)) hM
    have hC1 : FC σ1 := FC_at2 (fun q hq => y3 q (by omega)) (fun q k hq hk _ => by
      by_cases h1 : q = 1
      · subst h1; exact y6 k hk
      · rw [y5 q (by omega) h1 (by rcases heN with h | h <;> omega)]) hC
    have i1 : ∀ p, p < 76 → p ≠ 37 → p ≠ 40 → p ≠ 75 → mI σ1 p = mI σ p := fun p hp h1 h2 h3 => y4 p (by omega) h1 h2 h3
    have hKσ1 : KS σ1 := by
      refine ⟨fun p hp => ?_, fun p k hp hk => ?_⟩
      · rw [(y3 p (by omega)).1, (y3 p (by omega)).2, y4 p (by omega) (by omega) (by omega) (by omega)]; exact hK.1 p hp
      · rw [y5 p (by omega) (by omega) (Or.inr hp)]; exact hK.2 p k hp hk
    have m := M_law (T := tT L σ) hCM hKσ1 (B62_eq ⟨by rw [i1 62 (by omega) (by omega) (by omega) (by omega)], by rw [i1 62 (by omega) (by omega) (by omega) (by omega)], by rw [i1 62 (by omega) (by omega) (by omega) (by omega)], by rw [i1 62 (by omega) (by omega) (by omega) (by omega)]⟩ hb) hT (by rw [i1 62 (by omega) (by omega) (by omega) (by omega)]; exact ht.2.2.1) (by rw [i1 67 (by omega) (by omega) (by omega) (by omega)]; exact t67)
    rw [hp] at m
    obtain ⟨g, m1, ⟨m2, m3, m4, m5, m6, m7⟩, m8, m9, m10⟩ := m
    rw [i1 63 (by omega) (by omega) (by omega) (by omega)] at m1
    obtain ⟨B, hB'⟩ : ∃ B, B = fl (up1 (up1 (mI σ 63) 1 (N u.1.length)) 2 (N L)) (fun j => N (tT L σ (j - 584))) 584 (584 + L) := ⟨_, rfl⟩
    rw [← hB'] at m1
    have Bo : ∀ j, j < 584 → j ≠ 1 → j ≠ 2 → B j = mI σ 63 j := fun j h1 h2 h3 => by
      rw [hB']; unfold fl; rw [if_neg (by omega), up1_app, if_neg h3, up1_app, if_neg h2]
    have B1 : B 1 = N u.1.length := by rw [hB']; unfold fl; rw [if_neg (by omega)]; rfl
    have B2 : B 2 = N L := by rw [hB']; unfold fl; rw [if_neg (by omega)]; rfl
    have Bt : ∀ k, k < L → B (584 + k) = N (tT L σ k) := fun k hk => by
      rw [hB']; unfold fl; rw [if_pos (by omega)]; show N (tT L σ (584 + k - 584)) = _; rw [show 584 + k - 584 = k by omega]
    obtain ⟨σ2, hσ2⟩ : ∃ σ2, σ2 = wA (wA σ1 62 g) 63 B := ⟨_, rfl⟩
    rw [← hσ2] at m1
    have j1 : ∀ p, p ≠ 62 → p ≠ 63 → mI σ2 p = mI σ1 p := fun p h1 h2 => by rw [hσ2, mI_wA, if_neg h2, mI_wA, if_neg h1]
    have j62 : mI σ2 62 = g := by rw [hσ2]; rfl
    have j63 : mI σ2 63 = B := by rw [hσ2]; rfl
    have jN : mN σ2 = mN σ1 := by rw [hσ2]; rfl
    have jS : mS σ2 = mS σ1 := by rw [hσ2]; rfl
    have jL : mL σ2 = mL σ1 := by rw [hσ2]; rfl
    have jR : mR σ2 = mR σ1 := by rw [hσ2]; rfl
    have e40 : mR σ1 40 1 = some e := by rw [y5 40 (by omega) (by omega) (by rcases heN with h | h <;> omega)]; exact g3
    have tf : TFr σ σ2 := by
      refine ⟨⟨by omega, by omega⟩, fun p hp => by rw [jS, jL]; exact y3 p hp, fun p hp => ⟨?_, ?_⟩, ⟨?_, ?_⟩, ?_, fun q k hq hk => ?_⟩
      · rw [j1 p (by omega) (by omega)]; exact y4 p (by omega) (by omega) (by omega) (by omega)
      · rw [jR]
        refine y5 p (by omega) (by omega) ?_
        rcases hp with ⟨_, _, h3⟩ | h | h | h | h | h
        · exact Or.inl (fun z => h3 (by rw [g3, z]))
        · exact Or.inr h
        all_goals (left; rcases heN with h' | h' <;> omega)
      · rw [j1 0 (by omega) (by omega), i1 0 (by omega) (by omega) (by omega) (by omega)]
      · rw [j62]; rw [m2, i1 62 (by omega) (by omega) (by omega) (by omega)]
      · rw [jR, e40, g3]
      · rw [jR]
        by_cases h1 : q = 1
        · subst h1; exact y6 k (by omega)
        · rw [y5 q (by omega) h1 (by rcases heN with h | h <;> omega)]
    refine ⟨N 0, σ1, N u.1.length, σ2, c, z, np, nh, 0, 0, g1, m1, by rw [j62]; exact m8, fun _ => by rw [j1 75 (by omega) (by omega)]; exact g8, ?_, by omega, by omega, by omega⟩
    refine Inv_t0 (e := e) I tf ?_ ?_ (by rw [j62]; exact m9) ?_ g4 ?_ ⟨by omega, ?_, by rw [j62]; exact m3, fun k hk => by omega⟩ ?_ ?_
    · rw [j63]
      refine RW_row1 (A := mI σ 63) hw.1.2.1 Bo (RW_eq (fun k hk => ?_) hr)
      rw [j1 _ (by omega) (by omega), i1 _ (by omega) (by omega) (by omega) (by omega)]
    · rw [j63]; exact WF_row1 Bo hw
    · exact AL_at (σ := σ1) ⟨by rw [jS], j1 40 (by omega) (by omega), by rw [jR]⟩ (fun _ => ⟨by rw [jS], by rw [jL], by rw [jR]⟩) (by omega) (fun p _ => by rw [jS]) y7
    · rw [jR, j63, g5]
      refine Or.inr ⟨q, mN σ, mN σ1, tT L σ, L, u.1, u.2, rfl, hT, hp, B1, ?_, B2, Bt, g6.ag fun p h1 h2 => ⟨by rw [jS], by rw [jL], j1 p (by omega) (by omega), by rw [jR]⟩, hN0, by omega, fun p h1 h2 => by rw [jS]; exact g7 p h1 h2, fun p h1 h2 => by rw [jR, e40]; intro z; cases z; rcases heN with h | h <;> omega⟩
      obtain ⟨⟨l, e9, _, rl⟩, _⟩ := g6.2.2 σ1 Ag.rf
      exact rl.2.2.2.1
    · rw [j1 37 (by omega) (by omega)]; exact y8
    · rw [j1 37 (by omega) (by omega), j62, y9, m10]
    · unfold B62; rw [j62]; exact ⟨m4, m5, m6, m7⟩
  | error p =>
    obtain ⟨σ1, c, z, w, g1, g2, g3, g4, g5, g6, g7, g8⟩ := C_law_er I hN hp
    have hpe : p ≤ L := by
      unfold lawP at hp
      by_cases c1 : sk (tT L σ) L 0 = L
      · rw [if_pos c1] at hp; cases hp
      · rw [if_neg c1] at hp
        have := lawL_bd hT 12 [] (sk (tT L σ) L 0) (sk_le (Nat.zero_le _))
        rw [hp] at this; exact this
    obtain ⟨f1, f2, f3, f4⟩ := g2
    have i1 : ∀ p, p < mN σ ∨ BIG ≤ p → p ≠ 37 → mI σ1 p = mI σ p := fun p hp h37 => by
      have := (f3 p hp).2.2.1
      rw [mI_wA, if_neg h37] at this
      exact this
    have s1 : ∀ p, p < mN σ ∨ BIG ≤ p → mS σ1 p = mS σ p ∧ mL σ1 p = mL σ p ∧ mR σ1 p = mR σ p := fun p hp => ⟨(f3 p hp).1, (f3 p hp).2.1, (f3 p hp).2.2.2⟩
    have nn : mN σ ≤ mN σ1 := f1
    have hCM : FM σ1 := FM_at (fun q hq => ⟨(s1 q (by omega)).1, (s1 q (by omega)).2.1⟩) (s1 62 (by omega)).2.2 hM
    have hKσ1 : KS σ1 := by
      refine ⟨fun p hp => ?_, fun p k hp hk => ?_⟩
      · rw [(s1 p (by omega)).1, (s1 p (by omega)).2.1, i1 p (by omega) (by omega)]; exact hK.1 p hp
      · rw [(s1 p (by omega)).2.2]; exact hK.2 p k hp hk
    have m := M_law (T := tT L σ) hCM hKσ1 (B62_eq ⟨by rw [i1 62 (by omega) (by omega)], by rw [i1 62 (by omega) (by omega)], by rw [i1 62 (by omega) (by omega)], by rw [i1 62 (by omega) (by omega)]⟩ hb) hT (by rw [i1 62 (by omega) (by omega)]; exact ht.2.2.1) (by rw [i1 67 (by omega) (by omega)]; exact t67)
    rw [hp] at m
    obtain ⟨x, g, m1, ⟨m2, m3, m4, m5, m6, m7⟩, m8, m9, m10⟩ := m
    have j1 : ∀ p, p ≠ 62 → mI (wA σ1 62 g) p = mI σ1 p := fun p h1 => if_neg h1
    refine ⟨N 1, σ1, x, wA σ1 62 g, c, z, np, nh, n, 0, g1, m1, m8, fun h => absurd h (by decide), ?_, by omega, by omega, by show mN σ1 + 63 * 0 ≤ _; omega⟩
    refine Inv_t1 I ⟨⟨nn, by show mN σ1 + 13 ≤ BIG; omega⟩, fun p hp => ⟨(s1 p hp).1, (s1 p hp).2.1⟩, fun p hp => ⟨?_, (s1 p (by omega)).2.2⟩, ⟨?_, ?_⟩, ?_, fun q k hq _ => ?_⟩ ?_ (fun p hp => ?_) ⟨?_, (s1 40 (by omega)).2.2, ?_⟩ (fun e he => ?_) ?_ ?_ ⟨by omega, ?_, m3, fun k hk => by omega⟩ ?_ ⟨m4, m5, m6, m7⟩
    · rw [j1 p (by omega)]; exact i1 p (by omega) (by omega)
    · rw [j1 0 (by omega)]; rw [i1 0 (by omega) (by omega)]
    · show g 3 = _; rw [m2, i1 62 (by omega) (by omega)]
    · show mR σ1 40 1 = _; rw [(s1 40 (by omega)).2.2]
    · show mR σ1 q k = _; rw [(s1 q (by omega)).2.2]
    · rw [j1 63 (by omega)]; exact i1 63 (by omega) (by omega)
    · rw [j1 p (by omega)]; exact i1 p (by omega) (by omega)
    · rw [j1 40 (by omega)]; exact i1 40 (by omega) (by omega)
    · rw [j1 66 (by omega)]; exact i1 66 (by omega) (by omega)
    · refine (s1 e ?_).2.2
      have e1 := hX.1.2.2.1
      rw [he] at e1
      cases e1
      rcases hX.1.2.2.2.2.1 with ⟨h1, _⟩ | h1
      · omega
      · exact Or.inl h1.1
    · show mR σ1 1 19 = _; rw [(s1 1 (by omega)).2.2]
    · show g 6 = _; rw [m9, i1 62 (by omega) (by omega)]
    · rw [j1 37 (by omega)]; exact g3
    · rw [j1 37 (by omega), g4]; show N p = g 12; rw [m10]
end
