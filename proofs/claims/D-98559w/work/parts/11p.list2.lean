/-! THE PLAIN LAW, 27: an ArrayList: one less, none -/
set_option maxRecDepth 100000
theorem aR_N {t q n a : Nat} {σ : Mm} (hs : mS σ q = t) (hl : mL σ q = n) (ha : a < n) (hn : n < 2147483648) : aR t (some q) (N a) σ = some (mR σ q a) := by
  simp only [aR, Option.bind_some]
  rw [if_pos ⟨hs, hl ▸ ix_ok ha hn⟩, N_idx (by omega)]
theorem J_chk {i n : Nat} {σ : Mm} (h : i < n) (hn : n < 1000000) : FJ23_checkIndex (N i) (N n) σ = some (N i, σ) := by
  unfold FJ23_checkIndex FJ11_checkIndex jn
  dsimp only
  rw [l0_, if_neg (by rw [N_lt (by omega) (by omega)]; omega), if_pos (by rw [N_lt (by omega) (by omega)]; exact h)]
  rfl
theorem J_remove {l n e i : Nat} {σ : Mm} (h : AL l n e σ) (hi : i < n) : ∃ σ', FJ3_remove l (N i) σ = some (mR σ e i, σ') ∧ AL l (n - 1) e σ' ∧ (∀ j, j < n - 1 → mR σ' e j = if j < i then mR σ e j else mR σ e (j + 1)) ∧ LF l e σ σ' ∧ mN σ' = mN σ := by
  obtain ⟨h1, h2, h3, h4, h5, ⟨h6, h6'⟩, h7⟩ := h
  have h5 := h5.resolve_left (fun z => by omega)
  obtain ⟨e1, e2, e3, e4, e5⟩ := h5
  have a1 : gI 17 0 (some l) σ = some (mI σ l 0) := gI_s h1
  have a2 : pI 17 0 (some l) (mI σ l 0 + N 1) σ = some (wA σ l (up1 (mI σ l) 0 (mI σ l 0 + N 1))) := pI_s h1
  obtain ⟨τ, ht⟩ : ∃ τ, τ = wA σ l (up1 (mI σ l) 0 (mI σ l 0 + N 1)) := ⟨_, rfl⟩
  rw [← ht] at a2
  have tS : mS τ = mS σ := by rw [ht]; rfl
  have tL : mL τ = mL σ := by rw [ht]; rfl
  have tR : mR τ = mR σ := by rw [ht]; rfl
  have tN : mN τ = mN σ := by rw [ht]; rfl
  have tI : ∀ q, q ≠ l → mI τ q = mI σ q := fun q hq => by rw [ht]; exact if_neg hq
  have t2 : mI τ l 2 = N n := by rw [ht, mI_wA, if_pos rfl, up1_app, if_neg (by omega)]; exact h2
  have hl : mS τ l = 17 := by rw [tS]; exact h1
  have hs : mS τ e = 102 := by rw [tS]; exact e2
  have a4 : gI 17 2 (some l) τ = some (N n) := by rw [gI_s hl, t2]
  have en : N n - N 1 = N (n - 1) := N_sub (by omega)
  -- behind the copy
  have key : ∀ υ, mS υ = mS σ → mL υ = mL σ → mN υ = mN σ → (∀ q, q ≠ l → mI υ q = mI σ q) → (∀ q, q ≠ e → mR υ q = mR σ q) → (∀ j, j < n - 1 → mR υ e j = if j < i then mR σ e j else mR σ e (j + 1)) → ∃ σ', ((pI 17 2 (some l) (N (n - 1)) υ).bind fun σ24 => (sR (some e) (N (n - 1)) none σ24).bind fun σ25 => some σ25) = some σ' ∧ AL l (n - 1) e σ' ∧ (∀ j, j < n - 1 → mR σ' e j = if j < i then mR σ e j else mR σ e (j + 1)) ∧ LF l e σ σ' ∧ mN σ' = mN σ := by
    intro υ uS uL uN uI uR ue
    have us : mS υ l = 17 := by rw [uS]; exact h1
    have ue' : ∀ j, j < n - 1 → mR (wR (wA υ l (up1 (mI υ l) 2 (N (n - 1)))) e (n - 1) none) e j = if j < i then mR σ e j else mR σ e (j + 1) := fun j hj => by
      rw [mR_wR, if_pos rfl, if_neg (by omega), mR_wA]; exact ue j hj
    refine ⟨wR (wA υ l (up1 (mI υ l) 2 (N (n - 1)))) e (n - 1) none, ?_, ⟨by rw [mS_wR, mS_wA]; exact us, ?_, ?_, by omega, Or.inr ⟨by rw [mN_wR]; show e < mN υ; omega, by rw [mS_wR, mS_wA, uS]; exact e2, by rw [mL_wR, mL_wA, uL]; omega, by rw [mL_wR, mL_wA, uL]; omega, by rw [mL_wR, mL_wA, uL]; omega⟩, ⟨h6, by show l < mN υ; omega⟩, fun j hj => ?_⟩, ue', ⟨by show mN σ ≤ mN υ; omega, by show mN υ ≤ _; omega, fun q hq => ⟨by rw [mS_wR, mS_wA, uS], by rw [mL_wR, mL_wA, uL]⟩, fun q h8 h9 => ⟨?_, ?_⟩, fun k hk => ?_⟩, uN⟩
    · rw [pI_s us, Option.bind_some, sR_N (x := none) (show mS (wA υ l (up1 (mI υ l) 2 (N (n - 1)))) e = 102 by rw [mS_wA, uS]; exact e2) rfl (by rw [mL_wA, uL]; omega) (by rw [mL_wA, uL]; omega) rfl]
      rfl
    · rw [mI_wR, mI_wA, if_pos rfl, up1_app, if_pos rfl]
    · rw [mR_wR_n (Or.inl h6.symm), mR_wA, uR l h6.symm]; exact h3
    · rw [ue' j hj]
      split
      · obtain ⟨q, g1, g2, g3⟩ := h7 j (by omega)
        exact ⟨q, g1, by show q < mN υ; omega, (obj_e (by rw [mS_wR, mS_wA, uS])).trans g3⟩
      · obtain ⟨q, g1, g2, g3⟩ := h7 (j + 1) (by omega)
        exact ⟨q, g1, by show q < mN υ; omega, (obj_e (by rw [mS_wR, mS_wA, uS])).trans g3⟩
    · rw [mI_wR, mI_wA, if_neg h9, uI q h9]
    · funext j; rw [mR_wR_n (Or.inl h8), mR_wA, uR q h8]
    · rw [mR_wR_n (Or.inl h6.symm), mR_wA, uR l h6.symm]
  have run : ∀ υ σ', (if N (n - 1) ≤ N i then some τ else cpR (some e) (N i + N 1) (some e) (N i) (N (n - 1) - N i) τ) = some υ → ((pI 17 2 (some l) (N (n - 1)) υ).bind fun σ24 => (sR (some e) (N (n - 1)) none σ24).bind fun σ25 => some σ25) = some σ' → FJ3_remove l (N i) σ = some (mR σ e i, σ') := by
    intro υ σ' r1 r2
    unfold FJ3_remove
    rw [gI_s h1, h2, Option.bind_some, J_chk hi (by omega), Option.bind_some]
    dsimp only
    rw [gR_s h1 h3, Option.bind_some, aR_N e2 rfl (by omega) (by omega), Option.bind_some, ck_s h1]
    unfold FJ3_fastRemove jn
    rw [a1, Option.bind_some, l1_, a2, Option.bind_some, a4, Option.bind_some, en]
    dsimp only
    by_cases hc : N (n - 1) ≤ N i
    · rw [if_pos hc] at r1
      cases r1
      rw [if_pos hc, r2]; rfl
    · rw [if_neg hc] at r1
      rw [if_neg hc, r1, Option.bind_some, r2]; rfl
  by_cases hc : n - 1 ≤ i
  · obtain ⟨σ', k1, k2⟩ := key τ tS tL tN tI (fun q _ => by rw [tR]) (fun j hj => by rw [if_pos (by omega), tR])
    exact ⟨σ', run τ σ' (if_pos (by rw [N_le (by omega) (by omega)]; exact hc)) k1, k2⟩
  · have ec : cpR (some e) (N i + N 1) (some e) (N i) (N (n - 1) - N i) τ = some (wB τ e (va_cpy (mR τ e) (mR τ e) (i + 1) i (n - 1 - i))) := by
      rw [N_add, N_sub (by omega)]
      simp only [cpR, Option.bind_some]
      rw [if_pos, N_idx (by omega), N_idx (by omega), N_idx (by omega)]
      refine ⟨hs, hs, by rw [l0_, N_lt (by omega) (by omega)]; omega, by rw [l0_, N_lt (by omega) (by omega)]; omega, by rw [l0_, N_lt (by omega) (by omega)]; omega, by rw [N_idx (by omega), N_idx (by omega), tL]; omega, by rw [N_idx (by omega), N_idx (by omega), tL]; omega, ?_⟩
      rw [List.all_eq_true]
      intro j hj
      rw [N_idx (by omega), List.mem_range] at hj
      obtain ⟨q, g1, g2, g3⟩ := h7 (i + 1 + j) (by omega)
      rw [N_idx (by omega), tR, g1]
      exact (obj_e (by rw [tS])).trans g3
    have er : ∀ q, mR (wB τ e (va_cpy (mR τ e) (mR τ e) (i + 1) i (n - 1 - i))) q = if q = e then va_cpy (mR τ e) (mR τ e) (i + 1) i (n - 1 - i) else mR τ q := fun q => rfl
    obtain ⟨σ', k1, k2⟩ := key (wB τ e (va_cpy (mR τ e) (mR τ e) (i + 1) i (n - 1 - i))) tS tL tN tI (fun q hq => by rw [er, if_neg hq, tR]) (fun j hj => by
      rw [er, if_pos rfl]
      by_cases hj' : j < i
      · rw [if_pos hj', pk_cpy_out (Or.inl hj'), tR]
      · rw [if_neg hj', pk_cpy_in (by omega) (by omega), tR]; congr 1; omega)
    exact ⟨σ', run _ σ' ((if_neg (by rw [N_le (by omega) (by omega)]; exact hc)).trans ec) k1, k2⟩
theorem J_clear_27 {e n : Nat} (kx : Mm → Option Mm) (k : Nat) : ∀ (i m : Nat) (σ : Mm), (k ≠ 0 → mS σ e = 102 ∧ n ≤ mL σ e ∧ mL σ e < 60000) → n < 60000 → i + k = n → k < m → ∃ σ', FJ3_clear_27 (some e) (N n) m (N i) σ kx = kx σ' ∧ mS σ' = mS σ ∧ mL σ' = mL σ ∧ mI σ' = mI σ ∧ mN σ' = mN σ ∧ ∀ q, q ≠ e → mR σ' q = mR σ q := by
  induction k with
  | zero =>
    intro i m σ _ hn hi hk
    obtain ⟨m, rfl⟩ : ∃ n', m = n' + 1 := ⟨m - 1, by omega⟩
    exact ⟨σ, by rw [FJ3_clear_27, if_pos (by rw [N_le (by omega) (by omega)]; omega)], rfl, rfl, rfl, rfl, fun _ _ => rfl⟩
  | succ k ih =>
    intro i m σ h hn hi hk
    obtain ⟨m, rfl⟩ : ∃ n', m = n' + 1 := ⟨m - 1, by omega⟩
    obtain ⟨h1, h2, h3⟩ := h (by omega)
    obtain ⟨σ', g1, g2, g3, g4, g5, g6⟩ := ih (i + 1) m (wR σ e i none) (fun _ => ⟨h1, h2, h3⟩) hn (by omega) (by omega)
    refine ⟨σ', ?_, g2, g3, g4, g5, fun q hq => (g6 q hq).trans (funext fun j => mR_wR_n (Or.inl hq))⟩
    rw [FJ3_clear_27, if_neg (by rw [N_le (by omega) (by omega)]; omega), sR_N (x := none) h1 rfl (by omega) (by omega) rfl, Option.bind_some, l1_, N_add, g1]
theorem J_clear {l n e : Nat} {σ : Mm} (h : AL l n e σ) (hn : n < 60000) : ∃ σ', FJ3_clear l σ = some σ' ∧ AL l 0 e σ' ∧ LF l e σ σ' ∧ mN σ' = mN σ := by
  obtain ⟨h1, h2, h3, h4, h5, ⟨h6, h6'⟩, h7⟩ := h
  have q2 : ∀ x : Int32, mI (wA σ l (up1 (mI σ l) 0 x)) l 2 = N n := fun x => by rw [mI_wA, if_pos rfl, up1_app, if_neg (by omega)]; exact h2
  obtain ⟨σ', g1, g2, g3, g4, g5, g6⟩ := J_clear_27 (e := e) (n := n) (fun σ => some σ) n 0 fu (wA (wA σ l (up1 (mI σ l) 0 (mI σ l 0 + N 1))) l (up1 (mI (wA σ l (up1 (mI σ l) 0 (mI σ l 0 + N 1))) l) 2 (N 0))) (fun hne => by
    obtain ⟨e1, e2, e3, e4, e5⟩ := h5.resolve_left (fun z => by omega)
    exact ⟨e2, e3, e5⟩) hn (by omega) (by unfold fu; omega)
  refine ⟨σ', ?_, ⟨by rw [g2]; exact h1, ?_, by rw [g6 l h6.symm]; exact h3, by omega, ?_, ⟨h6, by rw [g5]; exact h6'⟩, fun i hi => by omega⟩, ⟨by rw [g5]; exact Nat.le_refl _, by rw [g5]; exact Nat.le_succ _, fun q _ => ⟨by rw [g2]; rfl, by rw [g3]; rfl⟩, fun q h8 h9 => ⟨by rw [g4, mI_wA, if_neg h9, mI_wA, if_neg h9], by rw [g6 q h8]; rfl⟩, fun k hk => by rw [g6 l h6.symm]; rfl⟩, g5⟩
  · unfold FJ3_clear
    rw [gI_s h1, Option.bind_some, l1_, pI_s h1, Option.bind_some, gR_s (show mS (wA σ l (up1 (mI σ l) 0 (mI σ l 0 + N 1))) l = 17 from h1) (show mR (wA σ l (up1 (mI σ l) 0 (mI σ l 0 + N 1))) l 1 = some e from h3), Option.bind_some, gI_s (show mS (wA σ l (up1 (mI σ l) 0 (mI σ l 0 + N 1))) l = 17 from h1), q2, Option.bind_some, l0_, pI_s (show mS (wA σ l (up1 (mI σ l) 0 (mI σ l 0 + N 1))) l = 17 from h1), Option.bind_some, g1]
  · rw [g4, mI_wA, if_pos rfl, up1_app, if_pos rfl]
  · rcases h5 with ⟨e1, e2⟩ | ⟨e1, e2, e3, e4, e5⟩
    · exact Or.inl ⟨e1, rfl⟩
    · exact Or.inr ⟨by rw [g5]; exact e1, by rw [g2]; exact e2, by omega, by rw [g3]; exact e4, by rw [g3]; exact e5⟩
