/-! THE PLAIN LAW, 62: HungFaces reads parts and sums -/
set_option maxRecDepth 100000
/-- what reading makes, and what it costs: at most A cells and B slots a byte, less S1 and S2, and m times the word that stands behind -/
def CP {α : Type} (T : Nat → Nat) (e A B S1 S2 m1 m2 : Nat) (σ : Mm) (k dd : Nat) (G : Nat → Nat → Nat → α → Mm → Prop) (r : PR α) (o : DX (Option Nat × Mm)) : Prop := match r with
  | .ok u => ∃ q τ b c z w, o = some (.inl (some q, rs τ (N u.2) b (N dd)), c, z) ∧ FA σ τ ∧ G (mN σ) (mN τ) q u.1 τ ∧ c ≤ w ∧ mN τ ≤ mN σ + w ∧ w + S1 ≤ A * (u.2 - k) + m1 * (wd T e u.2 - u.2) ∧ z + S2 ≤ B * (u.2 - k) + m2 * (wd T e u.2 - u.2)
  | .error p => ∃ τ a d' c z w, o = some (.inr (1, rs τ a (N p) d'), c, z) ∧ FA σ τ ∧ c ≤ w ∧ mN τ ≤ mN σ + w ∧ w + S1 ≤ A * (e + 1 - k) ∧ z + S2 ≤ B * (e + 1 - k)
section
variable {T : Nat → Nat} {e : Nat} {σ : Mm} {a b d x : Int32} {k dd : Nat}
theorem nO_s {c : Nat} {σ : Mm} (h : mN σ < BIG) : nO c σ = some (some (mN σ), wN σ c 0) := if_pos h
theorem rs_wN {σ : Mm} {c n : Nat} {a b d : Int32} (h0 : 76 ≤ mN σ) : wN (rs σ a b d) c n = rs (wN σ c n) a b d := by
  have hN : mN (rs σ a b d) = mN σ := rfl
  have e1 : up1 (mI (rs σ a b d)) (mN σ) (fun _ => 0) = up1 (up1 (mI σ) (mN σ) (fun _ => 0)) 37 (up1 (up1 (up1 (up1 (mI σ) (mN σ) (fun _ => 0) 37) 3 a) 4 b) 6 d) := by
    funext p
    by_cases hp : p = mN σ
    · subst hp
      rw [up1_app, if_pos rfl, up1_app, if_neg (by omega), up1_app, if_pos rfl]
    · rw [up1_app, if_neg hp]
      by_cases h37 : p = 37
      · subst h37
        rw [up1_app, if_pos rfl, up1_app, if_neg (by omega)]; rfl
      · rw [rs_q h37, up1_app, if_neg h37, up1_app, if_neg hp]
  show (_, _, up1 (mI (rs σ a b d)) (mN σ) (fun _ => 0), _, _) = _
  rw [e1]
  rfl
theorem rs_wA {σ : Mm} {q : Nat} {f : Nat → Int32} {a b d : Int32} (hq : q ≠ 37) : wA (rs σ a b d) q f = rs (wA σ q f) a b d := by
  have e : mI (wA σ q f) 37 = mI σ 37 := if_neg (Ne.symm hq)
  unfold rs
  rw [e, wA_cm (Ne.symm hq)]
theorem rs_wR {σ : Mm} {q k : Nat} {v : Option Nat} {a b d : Int32} : wR (rs σ a b d) q k v = rs (wR σ q k v) a b d := rfl
theorem rs_mN {σ : Mm} {a b d : Int32} : mN (rs σ a b d) = mN σ := rfl
theorem rs_mS {σ : Mm} {a b d : Int32} : mS (rs σ a b d) = mS σ := rfl
/-- a part -/
theorem C_part (hT : TX T e) (h : RT T e σ) (hK : KS σ) (h0 : 76 ≤ mN σ) (hN : mN σ + 1000 ≤ BIG) (hk : k ≤ e) : CP T e 10 50 0 0 0 0 σ k dd Pm (partP T e k) (FX1_onePart 0 (rs σ (N k) b (N dd))) := by
  have hB : BIG = 1000000 := rfl
  have he := hT.1
  have h1 := sk_le (T := T) hk
  have h1' := sk_ge (T := T) (e := e) (k := k)
  have hs := sk_at hT hk
  have hnum := numP_sk (lo := 0) (n := 1000) hT hk
  have g4 : ∀ {μ : Mm} {a b d : Int32}, FC μ → gR 1 4 (some 0) (rs μ a b d) = some (some 37) := fun hC => fc_gR0_4 (FC_rs hC)
  have r37 : ∀ {μ : Mm} {a b d : Int32}, FC μ → rv 3 (some 37) (rs μ a b d) = some 37 := fun hC => fc_rv37 (FC_rs hC)
  unfold partP FX1_onePart
  rw [g4 h.1, Option.bind_some, r37 h.1, Option.bind_some, C_isFig hT h hk, Option.bind_some]
  dsimp only
  by_cases hd : 48 ≤ T (sk T e k) ∧ T (sk T e k) ≤ 57
  · -- a number
    rw [if_pos hd, if_pos hd, if_neg (show ¬ (N 1 : Int32) = 0 by decide), nO_s (show mN (rs σ _ _ _) < BIG by rw [rs_mN]; omega), Option.bind_some, rs_mN, rs_wN h0]
    dsimp only
    have hF : FA σ (wN σ 16 0) := FA_wN (by omega)
    have hC1 := hF.fc h0 h.1
    have hT1 := hF.rt h0 h
    have n1 : mN (wN σ 16 0) = mN σ + 1 := rfl
    have hnb := numP_bd (T := T) (lo := 0) (n := 1000) hk
    have hc := C_number (σ := wN σ 16 0) (k := sk T e k) (b := N (sk T e k)) (d := N dd) (lo := 0) (n := 1000) hT hT1 (by omega) (by omega) (by omega) (by omega) h1
    rw [hnum, dN_s] at hc
    rw [g4 hC1, Option.bind_some, r37 hC1, Option.bind_some]
    have s16 : mS (wN σ 16 0) (mN σ) = 16 := by rw [mS_wN, if_pos rfl]
    revert hc hnb
    cases numP T e 0 1000 k with
    | error p =>
      rintro hnb ⟨τ, a, hc, t1, t2⟩
      have hnb : p ≤ e := hnb
      refine ⟨τ, a, N dd, 2, 8, 2, ?_, hF.trans t1, by omega, by omega, by omega, by omega⟩
      rw [l0_, show (999 : Int32) = N 999 from rfl, hc]
      rfl
    | ok o =>
      rintro hnb ⟨b', hc⟩
      have hnb : k < o.2 ∧ o.2 ≤ e := hnb
      obtain ⟨v, k2⟩ := o
      rw [l0_, show (999 : Int32) = N 999 from rfl, hc]
      show CP T e 10 50 0 0 0 0 σ k dd Pm (Except.ok ((fun _ => N v), k2)) (pay 1 2 (db (some (.inl (N v, rs (wN σ 16 0) (N k2) b' (N dd)), 0, 0)) _))
      rw [db_in]
      dsimp only
      rw [rv_s (show mS (rs (wN σ 16 0) (N k2) b' (N dd)) (mN σ) = 16 from s16), Option.bind_some]
      unfold FX16_init
      rw [pI_s (show mS (rs (wN σ 16 0) (N k2) b' (N dd)) (mN σ) = 16 from s16), Option.bind_some, rs_wA (by omega), pR_s (show mS (rs (wA (wN σ 16 0) (mN σ) _) (N k2) b' (N dd)) (mN σ) = 16 from s16), Option.bind_some, Option.bind_some, rs_wR]
      refine ⟨mN σ, _, b', 1, 2, 1, rfl, FA_wR (FA_wA hF (Nat.le_refl _) (by show mN σ < mN σ + 1; omega)) (Nat.le_refl _) (by show mN σ < mN σ + 1; omega), Pm_num s16 ⟨Nat.le_refl _, by show mN σ < mN σ + 1; omega⟩ ?_ ?_, by omega, by show mN σ + 1 ≤ _; omega, by omega, by omega⟩
      · rw [mI_wR, mI_wA, if_pos rfl, up1_app, if_pos rfl]
        rfl
      · rw [mR_wR, if_pos rfl, if_pos rfl]
  · -- a word
    rw [if_neg hd, if_neg hd, if_pos (show (N 0 : Int32) = 0 from rfl), g4 h.1, Option.bind_some, r37 h.1, Option.bind_some]
    obtain ⟨q, v, τ, c, z, g1, g2, g3, ⟨g5, g6, g7, g8, g9⟩, g10, g11, g12⟩ := C_word (k := sk T e k) (b := N (sk T e k)) (d := N dd) hT h h0 (by omega) h1
    rw [sk_eq hs] at g1 g3 g11 g12
    have w1 := wd_ge (T := T) (e := e) (k := sk T e k)
    have w2 := wd_le (T := T) h1
    have hC1 := g2.fc h0 h.1
    have hK1 := g2.ks hK
    have hKr : KS (rs τ (N (wd T e (sk T e k))) (N (sk T e k)) (N dd)) := KS_wA (by omega) hK1
    have hSr : STR q v (wd T e (sk T e k) - sk T e k) (fun i => T (sk T e k + i)) (rs τ (N (wd T e (sk T e k))) (N (sk T e k)) (N dd)) := by
      obtain ⟨⟨x1, x2, x3, x4, x5⟩, x6, x7, x8⟩ := g3
      refine ⟨⟨x1, x2, ?_, ?_, ?_⟩, x6, x7, ?_⟩
      · rw [rs_q (by omega)]; exact x3
      · rw [rs_q (by omega)]; exact x4
      · rw [rs_q (by omega)]; exact x5
      · rw [rs_q (by omega)]; exact x8
    obtain ⟨ν, f1, f2, f3⟩ := C_fact hSr hKr (by rw [rs_mN]; omega) (by rw [rs_mN]; omega) (by rw [rs_mN]; omega) (by omega)
    obtain ⟨τ2, t1, t2, t3, _⟩ := FA_rs (by omega) f2
    have hC2 := t2.fc (by omega) hC1
    have hF2 := g2.trans t2
    rw [rs_mN] at f3
    rw [g1, db_in]
    dsimp only
    rw [f1, db_in]
    dsimp only
    rw [t1]
    cases hf : factP T e (sk T e k) with
    | none =>
      obtain ⟨τ3, -, u2, -, u4, u5⟩ := C_wrongI (a := N (wd T e (sk T e k))) (b := N (sk T e k)) (d := N dd) (σ := τ2) (by omega) (by omega) hC2
      refine ⟨τ3, N (wd T e (sk T e k)), N dd, c + (1 + 1), z + (6 + 6), c + 2, ?_, hF2.trans u4, by omega, by omega, by omega, by omega⟩
      show pay c z (pay 1 6 ((gR 1 4 (some 0) (rs τ2 _ _ _)).bind _)) = _
      rw [g4 hC2, Option.bind_some, r37 hC2, Option.bind_some]
      refine (congrArg (fun m => pay c z (pay 1 6 m)) u2).trans ?_
      rfl
    | some j =>
      have hj := factP_gt hf
      show CP T e 10 50 0 0 0 0 σ k dd Pm (Except.ok ((fun E => E j), wd T e (sk T e k))) (pay c z (pay 1 6 (pay 1 2 ((nO 16 (rs τ2 (N (wd T e (sk T e k))) (N (sk T e k)) (N dd))).bind _))))
      have s16 : mS (wN τ2 16 0) (mN τ2) = 16 := by rw [mS_wN, if_pos rfl]
      have hF3 : FA τ2 (wN τ2 16 0) := FA_wN (by omega)
      rw [nO_s (show mN (rs τ2 _ _ _) < BIG by rw [rs_mN]; omega), Option.bind_some, rs_mN, rs_wN (by omega)]
      dsimp only
      rw [rv_s (show mS (rs (wN τ2 16 0) _ _ _) (mN τ2) = 16 from s16), Option.bind_some]
      unfold FX16_init
      rw [pI_s (show mS (rs (wN τ2 16 0) _ _ _) (mN τ2) = 16 from s16), Option.bind_some, rs_wA (by omega), pR_s (show mS (rs (wA (wN τ2 16 0) (mN τ2) _) _ _ _) (mN τ2) = 16 from s16), Option.bind_some, Option.bind_some, rs_wR]
      refine ⟨mN τ2, wR (wA (wN τ2 16 0) (mN τ2) (up1 (mI (wN τ2 16 0) (mN τ2)) 0 0)) (mN τ2) 1 (some (BIG + 110 + j)), N (sk T e k), c + (1 + 1), z + (6 + 2), c + 2, ?_, hF2.trans (FA_wR (FA_wA hF3 (Nat.le_refl _) (by show mN τ2 < mN τ2 + 1; omega)) (Nat.le_refl _) (by show mN τ2 < mN τ2 + 1; omega)), Pm_fact hj.2 s16 ⟨hF2.1, by show mN τ2 < mN τ2 + 1; omega⟩ ?_, by omega, by show mN τ2 + 1 ≤ _; omega, by omega, by omega⟩
      · rw [rs_q (by omega)]
        rfl
      · rw [mR_wR, if_pos rfl, if_pos rfl]
end
