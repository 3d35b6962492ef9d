/-! THE PLAIN LAW, 29: HungFaces remembers -/
set_option maxRecDepth 100000
theorem FW_tag {b q : Nat} {σ : Mm} (h : FW b σ) (h1 : b ≤ q) (h2 : q < b + 12) : mS σ q = 2 ∨ mS σ q = 100 := by
  obtain ⟨s0, s1, s2, s3, s4, s5, s6, s7, s8, s9, s10, s11, _⟩ := h
  have : q = b ∨ q = b + 1 ∨ q = b + 2 ∨ q = b + 3 ∨ q = b + 4 ∨ q = b + 5 ∨ q = b + 6 ∨ q = b + 7 ∨ q = b + 8 ∨ q = b + 9 ∨ q = b + 10 ∨ q = b + 11 := by omega
  rcases this with rfl | rfl | rfl | rfl | rfl | rfl | rfl | rfl | rfl | rfl | rfl | rfl
  · exact Or.inl s0
  · exact Or.inr s1.1
  · exact Or.inr s2.1
  · exact Or.inr s3.1
  · exact Or.inr s4.1
  · exact Or.inr s5.1
  · exact Or.inr s6.1
  · exact Or.inr s7.1
  · exact Or.inr s8.1
  · exact Or.inr s9.1
  · exact Or.inr s10.1
  · exact Or.inr s11.1
theorem rem_tail {σ1 σ2 σ' : Mm} {b c z : Nat} (s0 : mS σ1 0 = 1) (r6 : mR σ1 0 6 = some 40) (r0 : mR σ1 0 0 = some 1) (sb : mS σ1 b = 2) (l : FX2_likens b (some 1) σ1 = some (some b, σ2)) (s40 : mS σ2 40 = 17) (ad : FJ3_add 40 (some b) σ2 = some (.inl (N 1, σ'), c, z)) : ((gR 1 6 (some 0) σ1).bind fun x27 => (gR 1 0 (some 0) σ1).bind fun x28 => (rv 2 (some b) σ1).bind fun q29 => (FX2_likens q29 x28 σ1).bind fun x => match x with | (x31, σ32) => (rv 17 x27 σ32).bind fun q33 => db (FJ3_add q33 x31 σ32) fun x => match x with | (x35, σ36) => rt σ36) = some (.inl σ', c, z) := by
  rw [gR_s s0 r6, Option.bind_some, gR_s s0 r0, Option.bind_some, rv_s sb, Option.bind_some, l, Option.bind_some]
  dsimp only
  rw [rv_s s40, Option.bind_some, ad]
  rfl
def remS (R : Nat → Nat → Int32) (A : Nat → Int32) (n : Nat) : Nat → Nat → Int32 := if n = 12 then remR (fun i => R (i + 1)) A 11 else remR R A n
theorem C_remembers {σ : Mm} {n np nh e : Nat} {A : Nat → Int32} {R : Nat → Nat → Int32} {v : Option Nat} {f : Nat → Nat} (hC : FC σ) (hK : KS σ) (h : KX σ n R v e f) (hr : RW 1 A np σ) (hA : WF A np nh) (hv : mR σ 1 19 = v) (hN : mN σ + 13 ≤ BIG) (hN0 : 76 ≤ mN σ) : ∃ σ' c z e' f', FX1_remembers 0 σ = some (.inl σ', c, z) ∧ c ≤ 13 ∧ z ≤ 642 ∧ KX σ' (if n = 12 then 12 else n + 1) (remS R A n) v e' f' ∧ RF σ σ' := by
  have hB : BIG = 1000000 := rfl
  have s0 : mS σ 0 = 1 := hC.2.2.2.2.1
  have r6 : mR σ 0 6 = some 40 := hC.2.2.2.2.2.2.2.2.2.2.2.2.2.2.2.2.2.2.2.2.2.2.2.2.1
  have r0 : mR σ 0 0 = some 1 := hC.2.2.2.2.2.2.2.2.2.2.2.2.2.2.2.2.2.2.2.1
  have hsz : FJ3_size 40 σ = some (N n, σ) := by
    unfold FJ3_size; rw [gI_s h.1.1, h.1.2.1]; rfl
  have hn12 := h.2.2.1
  have m1 := h.1.2.2.1
  by_cases hn : n = 12
  · -- the first one leaves
    subst hn
    obtain ⟨a1, a2, a3, a4, a5⟩ := h
    obtain ⟨σ1, k1, k2, k3, ⟨k4, k5, k6, k7, k8⟩, k9⟩ := J_remove a1 (i := 0) (by omega)
    obtain ⟨d1, d2, d3, d4, d5, d6, d7⟩ := a4 0 (by omega)
    have e40 : e ≠ 40 := a1.2.2.2.2.2.1.1
    have eN : e < mN σ := by
      rcases a1.2.2.2.2.1 with ⟨_, h1⟩ | h1
      · omega
      · exact h1.1
    have he : 76 ≤ e := by omega
    have hx : KX σ1 11 (fun i => R (i + 1)) v e (fun i => f (i + 1)) := by
      refine ⟨k2, a2, by omega, fun i hi => ?_, fun i j hi hj hij => a5 (i + 1) (j + 1) (by omega) (by omega) (by omega)⟩
      obtain ⟨g1, g2, g3, g4, g5, g6, np', nh', g7, g8⟩ := a4 (i + 1) (by omega)
      have fs : ∀ q, f (i + 1) ≤ q → q < f (i + 1) + 12 → mS σ1 q = mS σ q ∧ mL σ1 q = mL σ q ∧ mI σ1 q = mI σ q ∧ mR σ1 q = mR σ q := fun q q1 q2 =>
        ⟨(k6 q (by omega)).1, (k6 q (by omega)).2, (k7 q (by omega) (by omega)).1, (k7 q (by omega) (by omega)).2⟩
      have f0 := (fs (f (i + 1)) (Nat.le_refl _) (by omega)).2.2.2
      dsimp only
      exact ⟨((k3 i (by omega)).trans (if_neg (by omega))).trans g1, g2, by omega, g4, FW_at (fun q q1 q2 => ⟨(fs q q1 q2).1, (fs q q1 q2).2.1⟩) f0 g5, by rw [f0]; exact g6, np', nh', g7, RW_eq (fun k hk => (fs _ (by omega) (by omega)).2.2.1) g8⟩
    have ws : ∀ q, q < 76 → q ≠ 40 → mS σ1 q = mS σ q ∧ mL σ1 q = mL σ q ∧ mI σ1 q = mI σ q ∧ mR σ1 q = mR σ q := fun q q1 q2 =>
      ⟨(k6 q (by omega)).1, (k6 q (by omega)).2, (k7 q (by omega) (by omega)).1, (k7 q (by omega) (by omega)).2⟩
    have bs : ∀ q, f 0 ≤ q → q < f 0 + 12 → mS σ1 q = mS σ q ∧ mL σ1 q = mL σ q ∧ mI σ1 q = mI σ q ∧ mR σ1 q = mR σ q := fun q q1 q2 =>
      ⟨(k6 q (by omega)).1, (k6 q (by omega)).2, (k7 q (by omega) (by omega)).1, (k7 q (by omega) (by omega)).2⟩
    have hK1 : KS σ1 := by
      refine ⟨fun p hp => ?_, fun p k hp h3 => ?_⟩
      · rw [(k6 p (by omega)).1, (k6 p (by omega)).2, (k7 p (by omega) (by omega)).1]; exact hK.1 p hp
      · rw [(k7 p (by omega) (by omega)).2]; exact hK.2 p k hp h3
    have hb1 : FW (f 0) σ1 := FW_at (fun q q1 q2 => ⟨(bs q q1 q2).1, (bs q q1 q2).2.1⟩) (bs _ (Nat.le_refl _) (by omega)).2.2.2 d5
    obtain ⟨σ2, σ', c, z, e', f', t1, t2, t3, t4, t5, t6, t7, t8, t9, t10, t11⟩ := C_rem_join (b := f 0) (A := A) (np := np) (nh := nh) hK1 hx (by omega) hb1 ⟨d2, by omega⟩ d4 (fun i hi => a5 (i + 1) 0 (by omega) (by omega) (by omega)) (FW_at (fun q q1 q2 => ⟨(ws q (by omega) (by omega)).1, (ws q (by omega) (by omega)).2.1⟩) (ws 1 (by omega) (by omega)).2.2.2 hC.w1) (RW_eq (fun k hk => (ws _ (by omega) (by omega)).2.2.1) hr) hA (by rw [(ws 1 (by omega) (by omega)).2.2.2]; exact hv) (by omega) (by omega)
    have e0 : mR σ e 0 = some (f 0) := d1
    have le' : e' = e ∨ e' = mN σ := by omega
    have m1' : mR σ' 40 1 = some e' := t6.1.2.2.1
    refine ⟨σ', c, z, e', f', ?_, by omega, by omega, ?_, ⟨by omega, by omega⟩, fun q hq => ?_, fun q hq hq2 => ?_, fun k hk => (t10 k hk).trans (k8 k hk), fun q q1 q2 q3 q4 q5 => ?_, ?_⟩
    · unfold FX1_remembers jn
      dsimp only
      rw [gR_s s0 r6, Option.bind_some, rv_s a1.1, Option.bind_some, hsz, Option.bind_some]
      dsimp only
      rw [show (12 : Int32) = N 12 from rfl, if_pos rfl, gR_s s0 r6, Option.bind_some, rv_s a1.1, Option.bind_some, l0_, k1, Option.bind_some, e0]
      dsimp only
      rw [rv_s hb1.1, Option.bind_some]
      exact rem_tail (by rw [(ws 0 (by omega) (by omega)).1]; exact s0) (by rw [(ws 0 (by omega) (by omega)).2.2.2]; exact r6) (by rw [(ws 0 (by omega) (by omega)).2.2.2]; exact r0) hb1.1 t1 t2 t3
    · rw [if_pos rfl]; unfold remS; rw [if_pos rfl]; exact t6
    · exact ⟨(t8 q (by omega)).1.trans (k6 q (by omega)).1, (t8 q (by omega)).2.trans (k6 q (by omega)).2⟩
    · exact ⟨(t9 q hq2 (by omega) (by omega)).1.trans (k7 q (by omega) hq2).1, (t9 q hq2 (by omega) (by omega)).2.trans (k7 q (by omega) hq2).2⟩
    · have hqe : q ≠ e := fun z => q5 (by rw [m1, z])
      have hqb : q < f 0 ∨ f 0 + 12 ≤ q := by
        rcases Nat.lt_or_ge q (f 0) with h1 | h1
        · exact Or.inl h1
        · rcases Nat.lt_or_ge q (f 0 + 12) with h2 | h2
          · exact absurd (FW_tag d5 h1 h2) (fun z => z.elim q3 q4)
          · exact Or.inr h2
      exact ⟨(t9 q (by omega) (by omega) hqb).1.trans (k7 q hqe (by omega)).1, (t9 q (by omega) (by omega) hqb).2.trans (k7 q hqe (by omega)).2⟩
    · rcases le' with h1 | h1
      · exact Or.inl (by rw [m1', m1, h1])
      · exact Or.inr ⟨e', m1', by omega, by omega⟩
  · -- a new one comes
    obtain ⟨σ1, k1, k2, k3, k4, k5, k6⟩ := W_new (σ := σ) rfl (by omega)
    have hx : KX σ1 n R v e f := KX_at ⟨(k6 40 (by omega)).1, (k6 40 (by omega)).2.2.1, (k6 40 (by omega)).2.2.2⟩ (by
      have he : e < mN σ ∨ mN σ + 12 ≤ e := by
        rcases h.1.2.2.2.2.1 with ⟨h1, _⟩ | h1
        · omega
        · omega
      exact ⟨(k6 e he).1, (k6 e he).2.1, (k6 e he).2.2.2⟩) (by omega) (fun i hi q q1 q2 => by
      have := (h.2.2.2.1 i hi).2.2.1
      exact k6 q (by omega)) h
    have hK1 : KS σ1 := by
      refine ⟨fun p hp => ?_, fun p k hp h3 => ?_⟩
      · rw [(k6 p (by omega)).1, (k6 p (by omega)).2.1, (k6 p (by omega)).2.2.1]; exact hK.1 p hp
      · rw [(k6 p (by omega)).2.2.2]; exact hK.2 p k hp h3
    have he : e < mN σ ∨ mN σ + 12 ≤ e := by
      rcases h.1.2.2.2.2.1 with ⟨h1, _⟩ | h1
      · omega
      · omega
    obtain ⟨σ2, σ', c, z, e', f', t1, t2, t3, t4, t5, t6, t7, t8, t9, t10, t11⟩ := C_rem_join (b := mN σ) (A := A) (np := np) (nh := nh) hK1 hx (by omega) k5 ⟨hN0, by omega⟩ he (fun i hi => Or.inl (h.2.2.2.1 i hi).2.2.1) (FW_at (fun q q1 q2 => ⟨(k6 q (by omega)).1, (k6 q (by omega)).2.1⟩) (k6 1 (by omega)).2.2.2 hC.w1) (RW_eq (fun k hk => (k6 _ (by omega)).2.2.1) hr) hA (by rw [(k6 1 (by omega)).2.2.2]; exact hv) (by omega) (by omega)
    have m1' : mR σ' 40 1 = some e' := t6.1.2.2.1
    have he'N : e' < mN σ' := by
      rcases t6.1.2.2.2.2.1 with ⟨_, h1⟩ | h1
      · omega
      · exact h1.1
    have he'76 : 76 ≤ e' := by have := t6.2.1; omega
    refine ⟨σ', 1 + (11 + c), 20 + (582 + z), e', f', ?_, by omega, by omega, ?_, ⟨by omega, by omega⟩, fun q hq => ?_, fun q hq hq2 => ?_, fun k hk => (t10 k hk).trans (by rw [(k6 40 (by omega)).2.2.2]), fun q q1 q2 q3 q4 q5 => ?_, ?_⟩
    · unfold FX1_remembers jn
      dsimp only
      rw [gR_s s0 r6, Option.bind_some, rv_s h.1.1, Option.bind_some, hsz, Option.bind_some]
      dsimp only
      rw [show (12 : Int32) = N 12 from rfl, if_neg (by rw [N_inj (by omega) (by omega)]; exact hn), k1, Option.bind_some]
      dsimp only
      rw [k2, Option.bind_some, k3, Option.bind_some]
      rw [rem_tail (by rw [(k6 0 (by omega)).1]; exact s0) (by rw [(k6 0 (by omega)).2.2.2]; exact r6) (by rw [(k6 0 (by omega)).2.2.2]; exact r0) k5.1 t1 t2 t3]
      rfl
    · rw [if_neg hn]; unfold remS; rw [if_neg hn]; exact t6
    · exact ⟨(t8 q (by omega)).1.trans (k6 q (by omega)).1, (t8 q (by omega)).2.trans (k6 q (by omega)).2.1⟩
    · exact ⟨(t9 q hq2 (by omega) (by omega)).1.trans (k6 q (by omega)).2.2.1, (t9 q hq2 (by omega) (by omega)).2.trans (k6 q (by omega)).2.2.2⟩
    · have hqe : q ≠ e := fun z => q5 (by rw [m1, z])
      exact ⟨(t9 q (by omega) (by omega) (by omega)).1.trans (k6 q (by omega)).2.2.1, (t9 q (by omega) (by omega) (by omega)).2.trans (k6 q (by omega)).2.2.2⟩
    · rcases t11 with h1 | h1
      · exact Or.inl (by rw [m1', m1, h1])
      · exact Or.inr ⟨e', m1', by omega, by omega⟩
