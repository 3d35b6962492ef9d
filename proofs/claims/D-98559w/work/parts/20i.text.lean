/-! THE PLAIN LAW, 58: what is made new; words -/
set_option maxRecDepth 100000
/-- all is as it was but for what is made new; what is made new is neither a World nor numbers -/
def FA (σ τ : Mm) : Prop := mN σ ≤ mN τ ∧ mN τ ≤ BIG ∧ (∀ q, q < mN σ ∨ BIG ≤ q → mS τ q = mS σ q ∧ mL τ q = mL σ q ∧ mI τ q = mI σ q ∧ mR τ q = mR σ q) ∧ ∀ q, mN σ ≤ q → q < mN τ → mS τ q ≠ 2 ∧ mS τ q ≠ 100
theorem FA.rf {σ : Mm} (h : mN σ ≤ BIG) : FA σ σ := ⟨Nat.le_refl _, h, fun _ _ => ⟨rfl, rfl, rfl, rfl⟩, fun q h1 h2 => by omega⟩
theorem FA.trans {a b c : Mm} (h : FA a b) (g : FA b c) : FA a c := by
  have h1 := h.1
  have h2 := g.1
  refine ⟨Nat.le_trans h.1 g.1, g.2.1, fun q hq => ?_, fun q hq hq2 => ?_⟩
  · obtain ⟨a1, a2, a3, a4⟩ := h.2.2.1 q (by omega)
    obtain ⟨b1, b2, b3, b4⟩ := g.2.2.1 q (by omega)
    exact ⟨b1.trans a1, b2.trans a2, b3.trans a3, b4.trans a4⟩
  · by_cases hb : q < mN b
    · rw [(g.2.2.1 q (by omega)).1]; exact h.2.2.2 q hq hb
    · exact g.2.2.2 q (by omega) hq2
theorem FA_wN {σ : Mm} {t n : Nat} (hN : mN σ < BIG) (ht : t ≠ 2 ∧ t ≠ 100 := by decide) : FA σ (wN σ t n) := by
  refine ⟨Nat.le_succ _, hN, fun q hq => ?_, fun q hq hq2 => ?_⟩
  · have e : q ≠ mN σ := by omega
    rw [mS_wN, mL_wN, mI_wN, mR_wN, if_neg e, if_neg e, if_neg e, if_neg e]
    exact ⟨rfl, rfl, rfl, rfl⟩
  · have h : q < mN σ + 1 := hq2
    rw [mS_wN, if_pos (by omega)]; exact ht
theorem FA_wA {σ τ : Mm} {q : Nat} {f : Nat → Int32} (h : FA σ τ) (h1 : mN σ ≤ q) (h2 : q < mN τ) : FA σ (wA τ q f) := by
  refine ⟨h.1, h.2.1, fun p hp => ?_, h.2.2.2⟩
  have h4 := h.2.1
  obtain ⟨a1, a2, a3, a4⟩ := h.2.2.1 p hp
  exact ⟨a1, a2, by rw [mI_wA, if_neg (by omega)]; exact a3, a4⟩
theorem FA_wR {σ τ : Mm} {q k : Nat} {v : Option Nat} (h : FA σ τ) (h1 : mN σ ≤ q) (h2 : q < mN τ) : FA σ (wR τ q k v) := by
  refine ⟨h.1, h.2.1, fun p hp => ?_, h.2.2.2⟩
  have h4 := h.2.1
  obtain ⟨a1, a2, a3, a4⟩ := h.2.2.1 p hp
  refine ⟨a1, a2, a3, ?_⟩
  rw [← a4]
  funext j
  exact mR_wR_n (Or.inl (by omega))
theorem FA.fc {σ τ : Mm} (h : FA σ τ) (h0 : 76 ≤ mN σ) (hf : FC σ) : FC τ := FC_at (fun q hq => ⟨(h.2.2.1 q (by omega)).1, (h.2.2.1 q (by omega)).2.1⟩) (fun q k hq _ => by rw [(h.2.2.1 q (by omega)).2.2.2]) hf
theorem FA.ks {σ τ : Mm} (h : FA σ τ) (hf : KS σ) : KS τ := by
  refine ⟨fun p hp => ?_, fun p k hp hk => ?_⟩
  · obtain ⟨a1, a2, a3, a4⟩ := h.2.2.1 p (by omega)
    rw [a1, a2, a3]; exact hf.1 p hp
  · rw [(h.2.2.1 p (by omega)).2.2.2]; exact hf.2 p k hp hk
theorem FA.rt {σ τ : Mm} {T : Nat → Nat} {e : Nat} (h : FA σ τ) (h0 : 76 ≤ mN σ) (hf : RT T e σ) : RT T e τ := by
  refine ⟨h.fc h0 hf.1, ?_, ?_⟩
  · rw [(h.2.2.1 37 (by omega)).2.2.1]; exact hf.2.1
  · rw [(h.2.2.1 38 (by omega)).2.2.1]; exact hf.2.2
/-- what is made new while the reader stands still -/
theorem FA_rs {σ ν : Mm} {a b d : Int32} (h0 : 76 ≤ mN σ) (h : FA (rs σ a b d) ν) : ∃ τ, ν = rs τ a b d ∧ FA σ τ ∧ mN τ = mN ν ∧ mS τ = mS ν ∧ mL τ = mL ν ∧ mR τ = mR ν ∧ ∀ q, q ≠ 37 → mI τ q = mI ν q := by
  have hN : mN (rs σ a b d) = mN σ := rfl
  have e37 : mI ν 37 = mI (rs σ a b d) 37 := (h.2.2.1 37 (by omega)).2.2.1
  refine ⟨wA ν 37 (mI σ 37), ?_, ⟨h.1, h.2.1, fun q hq => ?_, h.2.2.2⟩, rfl, rfl, rfl, rfl, fun q hq => if_neg hq⟩
  · show ν = wA (wA ν 37 (mI σ 37)) 37 (up1 (up1 (up1 (mI σ 37) 3 a) 4 b) 6 d)
    rw [wA_wA]
    have e : up1 (up1 (up1 (mI σ 37) 3 a) 4 b) 6 d = mI ν 37 := by rw [e37]; rfl
    rw [e, wA_self]
  · obtain ⟨a1, a2, a3, a4⟩ := h.2.2.1 q hq
    refine ⟨a1, a2, ?_, a4⟩
    by_cases hq2 : q = 37
    · subst hq2; rfl
    · rw [mI_wA, if_neg hq2, a3, rs_q hq2]
theorem FA_rsx {σ τ : Mm} {a b d : Int32} (h0 : 76 ≤ mN σ) (h : FA σ τ) : FA (rs σ a b d) (rs τ a b d) := by
  refine ⟨h.1, h.2.1, fun q hq => ?_, h.2.2.2⟩
  have hN : mN (rs σ a b d) = mN σ := rfl
  rw [hN] at hq
  obtain ⟨a1, a2, a3, a4⟩ := h.2.2.1 q hq
  refine ⟨a1, a2, ?_, a4⟩
  by_cases hq2 : q = 37
  · subst hq2
    show up1 (up1 (up1 (mI τ 37) 3 a) 4 b) 6 d = up1 (up1 (up1 (mI σ 37) 3 a) 4 b) 6 d
    rw [(h.2.2.1 37 (by omega)).2.2.1]
  · rw [rs_q hq2, rs_q hq2, a3]
/-! a text that is wrong -/
theorem X_wrong {σ : Mm} {h0 : Nat} (hN : mN σ < BIG) : ∃ τ, (FX3_wrong h0 σ).bind (fun x => (thrd x.1 x.2 : DX (Int32 × Mm))) = some (.inr (1, τ), 0, 0) ∧ (FX3_wrong h0 σ).bind (fun x => (thrd x.1 x.2 : DX (Option Nat × Mm))) = some (.inr (1, τ), 0, 0) ∧ (FX3_wrong h0 σ).bind (fun x => (thrd x.1 x.2 : DX Mm)) = some (.inr (1, τ), 0, 0) ∧ FA σ τ ∧ mN τ = mN σ + 1 := by
  have s : mS (wN σ 9 0) (mN σ) = 9 := by rw [mS_wN, if_pos rfl]
  have n0 : nO 9 σ = some (some (mN σ), wN σ 9 0) := if_pos hN
  have hn0 : mN (wN σ 9 0) = mN σ + 1 := rfl
  let m1 := wR (wN σ 9 0) (mN σ) 0 (some (mN σ))
  let m2 := wR m1 (mN σ) 1 (mR m1 (BIG + 200) 0)
  let m3 := wR m2 (mN σ) 2 (mR m2 (BIG + 200) 1)
  let m4 := wR m3 (mN σ) 1 none
  let m5 := wR m4 (mN σ) 3 none
  let m6 := wR m5 (mN σ) 0 none
  let m7 := wR m6 (mN σ) 2 none
  obtain ⟨τ, hw, hs, hf, hn⟩ : ∃ τ, FX3_wrong h0 σ = some (some (mN σ), τ) ∧ mS τ (mN σ) = 9 ∧ FA σ τ ∧ mN τ = mN σ + 1 := by
    refine ⟨m7, ?_, s, ?_, rfl⟩
    · unfold FX3_wrong FX9_init FJ13_init_2 FJ12_init_3
      rw [n0, Option.bind_some]
      dsimp only
      rw [rv_s s, Option.bind_some, ck_s s, ck_s s, pR_s s, Option.bind_some, pR_s (show mS m1 (mN σ) = 9 from s), Option.bind_some, pR_s (show mS m2 (mN σ) = 9 from s), Option.bind_some, if_pos rfl, pR_s (show mS m3 (mN σ) = 9 from s), Option.bind_some, pR_s (show mS m4 (mN σ) = 9 from s), Option.bind_some, pR_s (show mS m5 (mN σ) = 9 from s), Option.bind_some, if_pos rfl, pR_s (show mS m6 (mN σ) = 9 from s), Option.bind_some, Option.bind_some, Option.bind_some, Option.bind_some]
    · have a0 := Nat.le_refl (mN σ)
      have a1 : mN σ < mN σ + 1 := Nat.lt_succ_self _
      exact FA_wR (FA_wR (FA_wR (FA_wR (FA_wR (FA_wR (FA_wR (FA_wN hN) a0 a1) a0 a1) a0 a1) a0 a1) a0 a1) a0 a1) a0 a1
  refine ⟨τ, ?_, ?_, ?_, hf, hn⟩
  all_goals
    rw [hw, Option.bind_some]
    unfold thrd
    rw [Option.bind_some, if_pos hs]
/-! a word is put together -/
theorem aL_s {t q n : Nat} {σ : Mm} (hs : mS σ q = t) (hl : mL σ q = n) : aL t (some q) σ = some (N n) := by
  simp only [aL, Option.bind_some]; rw [if_pos hs, hl]; rfl
theorem sh0 {a : Nat} (h : a < 2147483648) : N a >>> ((0 : Int32) &&& 31) = N a := by
  rw [show ((0 : Int32) &&& 31) = (N 0 &&& N 31) from rfl, N_shr h (by omega)]; rfl
theorem shl0 {x : Int32} : x <<< ((0 : Int32) &&& 31) = x := by
  rw [show ((0 : Int32) &&& 31) = 0 by decide]; exact Int32.shiftLeft_zero
theorem subN_le {a b : Nat} (ha : a < 1000000) (hb : b < 1000000) : (N a - N b ≤ 0) = (a ≤ b) := by
  rw [Int32.le_iff_toInt_le, Int32.toInt_sub, N_int (by omega), N_int (by omega), Int.bmod_eq_of_le (by omega) (by omega)]
  show ((a : Int) - (b : Int) ≤ 0) = (a ≤ b)
  apply propext; omega
theorem sB_N {q n a t : Nat} {σ : Mm} (hs : mS σ q = 101) (hl : mL σ q = n) (ha : a < n) (hn : n < 2147483648) (ht : t < 128) : sB (some q) (N a) (N t) σ = some (wA σ q (up1 (mI σ q) a (N t))) := by
  have e : ∀ t, t < 128 → (N t).toInt8.toInt32 = N t := by decide +kernel
  simp only [sB, Option.bind_some]
  rw [if_pos ⟨hs, hl ▸ ix_ok ha hn⟩, N_idx (by omega), wI_wA, e t ht]
theorem fitN : ∀ t, t < 128 → fits .byte (.int (N t)) = true := by decide +kernel
def SBI (σ0 τ : Mm) (sb a n cap : Nat) (f : Nat → Nat) : Prop := (mS τ sb = 19 ∧ mR τ sb 0 = some a ∧ mI τ sb 1 = N 0 ∧ mI τ sb 3 = N n) ∧ (mS τ a = 101 ∧ mL τ a = cap ∧ n ≤ cap ∧ 16 ≤ cap ∧ cap < 3000) ∧ (∀ i, i < n → mI τ a i = N (f i) ∧ f i < 128) ∧ (mN σ0 ≤ sb ∧ mN σ0 ≤ a ∧ sb ≠ a ∧ sb < mN τ ∧ a < mN τ) ∧ FA σ0 τ
theorem J_ens {σ0 τ : Mm} {sb a n cap : Nat} {f : Nat → Nat} (h : SBI σ0 τ sb a n cap f) (hn : n < 1000) (hN : mN τ < BIG) : ∃ τ' a' cap' c z, FJ4_ensureCapacityInternal sb (N (n + 1)) τ = some (.inl τ', c, z) ∧ SBI σ0 τ' sb a' n cap' f ∧ n < cap' ∧ ((cap' = cap ∧ c = 0 ∧ z = 0 ∧ mN τ' = mN τ) ∨ (n = cap ∧ cap' = 2 * cap + 2 ∧ c = 1 ∧ z = cap' ∧ mN τ' = mN τ + 1)) := by
  have h' := h
  obtain ⟨⟨h1, h2, h3, h4⟩, ⟨h5, h6, h7, h8, h9⟩, h10, ⟨h11, h12, h13, h14, h15⟩, h16⟩ := h
  have gv : gR 19 0 (some sb) τ = some (some a) := gR_s h1 h2
  have gc : gI 19 1 (some sb) τ = some (N 0) := (gI_s h1).trans (by rw [h3])
  by_cases hc : n < cap
  · refine ⟨τ, a, cap, 0, 0, ?_, h', hc, Or.inl ⟨rfl, rfl, rfl, rfl⟩⟩
    unfold FJ4_ensureCapacityInternal
    rw [gv, Option.bind_some, aL_s h5 h6, Option.bind_some, gc, Option.bind_some]
    show (if N (n + 1) - N cap >>> ((0 : Int32) &&& 31) ≤ 0 then _ else _) = _
    rw [sh0 (by omega), if_pos (by rw [subN_le (by omega) (by omega)]; omega)]
    rfl
  · have e : n = cap := by omega
    subst e
    have c1 : FJ4_newCapacity sb (N (n + 1)) τ = some (N (2 * n + 2), τ) := by
      have e1 : N (n + 1) <<< ((0 : Int32) &&& 31) - N n = N 1 := by rw [shl0, N_sub (by omega), show n + 1 - n = 1 by omega]
      have e2 : N n + 2 <<< ((0 : Int32) &&& 31) = N (n + 2) := by rw [shl0, l2_, N_add]
      have e3 : imax (N 1) (N (n + 2)) = N (n + 2) := by rw [imax_n (by omega) (by omega), show max 1 (n + 2) = n + 2 by omega]
      have e4 : FJ8_newLength (N n) (N 1) (N (n + 2)) τ = some (N (2 * n + 2), τ) := by
        unfold FJ8_newLength jn
        dsimp only
        rw [e3, N_add, show n + (n + 2) = 2 * n + 2 by omega, if_neg (by rw [l0_, N_le (by omega) (by omega)]; omega), if_neg (by rw [show (2147483639 : Int32) = N 2147483639 from rfl, N_lt (by omega) (by omega)]; omega)]
      unfold FJ4_newCapacity
      rw [gv, Option.bind_some, aL_s h5 h6, Option.bind_some, gc, Option.bind_some, Option.bind_some]
      show ((FJ8_newLength (N n) (N (n + 1) <<< ((0 : Int32) &&& 31) - N n) (N n + 2 <<< ((0 : Int32) &&& 31)) τ).bind _) = _
      rw [e1, e2, e4, Option.bind_some]
      dsimp only
      rw [if_neg (by rw [show (2147483647 : Int32) = N 2147483647 from rfl, N_inj (by omega) (by omega)]; omega), gc, Option.bind_some]
      show some (N (2 * n + 2) >>> ((0 : Int32) &&& 31), τ) = _
      rw [sh0 (by omega)]
    have hw : mN (wN τ 101 (2 * n + 2)) = mN τ + 1 := rfl
    have ea : a ≠ mN τ := by omega
    have es : sb ≠ mN τ := by omega
    have hS : mS (wN τ 101 (2 * n + 2)) a = 101 := by rw [mS_wN, if_neg ea]; exact h5
    have hL : mL (wN τ 101 (2 * n + 2)) a = n := by rw [mL_wN, if_neg ea]; exact h6
    have hI : mI (wN τ 101 (2 * n + 2)) a = mI τ a := by rw [mI_wN, if_neg ea]
    have hS2 : mS (wN τ 101 (2 * n + 2)) (mN τ) = 101 := by rw [mS_wN, if_pos rfl]
    have hL2 : mL (wN τ 101 (2 * n + 2)) (mN τ) = 2 * n + 2 := by rw [mL_wN, if_pos rfl]
    have cp : cpI 101 (some a) 0 (some (mN τ)) 0 (imin (N n) (N (2 * n + 2))) (wN τ 101 (2 * n + 2)) = some (wA (wN τ 101 (2 * n + 2)) (mN τ) (va_cpy (mI τ a) (mI (wN τ 101 (2 * n + 2)) (mN τ)) 0 0 n)) := by
      rw [imin_n (by omega) (by omega), show min n (2 * n + 2) = n by omega]
      have z0 : (0 : Int32).toNatClampNeg = 0 := by decide
      simp only [cpI, Option.bind_some]
      rw [N_idx (by omega), z0, if_pos ⟨hS, hS2, by decide, by decide, by rw [l0_, N_lt (by omega) (by omega)]; omega, by rw [hL]; omega, by rw [hL2]; omega, fun _ i hi => by rw [hI, Nat.zero_add, (h10 i hi).1]; exact fitN _ (h10 i hi).2⟩, hI]
    have co : FJ0_copyOf (some a) (N (2 * n + 2)) τ = some (.inl (some (mN τ), wA (wN τ 101 (2 * n + 2)) (mN τ) (va_cpy (mI τ a) (mI (wN τ 101 (2 * n + 2)) (mN τ)) 0 0 n)), 1, 2 * n + 2) := by
      unfold FJ0_copyOf
      rw [aL_s h5 h6, Option.bind_some, if_neg (by rw [N_inj (by omega) (by omega)]; omega), nA_s hN (by omega), Option.bind_some]
      dsimp only
      rw [aL_s hS hL, Option.bind_some, cp, Option.bind_some, N_idx (by omega)]
      rfl
    refine ⟨wR (wA (wN τ 101 (2 * n + 2)) (mN τ) (va_cpy (mI τ a) (mI (wN τ 101 (2 * n + 2)) (mN τ)) 0 0 n)) sb 0 (some (mN τ)), mN τ, 2 * n + 2, 1, 2 * n + 2, ?_, ?_, by omega, Or.inr ⟨rfl, rfl, rfl, rfl, rfl⟩⟩
    · unfold FJ4_ensureCapacityInternal
      rw [gv, Option.bind_some, aL_s h5 h6, Option.bind_some, gc, Option.bind_some]
      show (if N (n + 1) - N n >>> ((0 : Int32) &&& 31) ≤ 0 then _ else _) = _
      rw [sh0 (by omega), if_neg (by rw [subN_le (by omega) (by omega)]; omega), Option.bind_some, ck_s h1, c1, Option.bind_some]
      dsimp only
      rw [gc, Option.bind_some]
      show db (FJ0_copyOf (some a) (N (2 * n + 2) <<< ((0 : Int32) &&& 31)) τ) _ = _
      rw [shl0, co, db_in]
      dsimp only
      rw [pR_s (show mS (wA (wN τ 101 (2 * n + 2)) (mN τ) _) sb = 19 from by show mS (wN τ 101 (2 * n + 2)) sb = 19; rw [mS_wN, if_neg es]; exact h1), Option.bind_some]
      rfl
    · have r0 : ∀ p, p ≠ sb → mR (wR (wA (wN τ 101 (2 * n + 2)) (mN τ) (va_cpy (mI τ a) (mI (wN τ 101 (2 * n + 2)) (mN τ)) 0 0 n)) sb 0 (some (mN τ))) p = mR (wN τ 101 (2 * n + 2)) p := fun p hp => by
        funext j; exact mR_wR_n (Or.inl hp)
      have i0 : ∀ p, p ≠ mN τ → mI (wR (wA (wN τ 101 (2 * n + 2)) (mN τ) (va_cpy (mI τ a) (mI (wN τ 101 (2 * n + 2)) (mN τ)) 0 0 n)) sb 0 (some (mN τ))) p = mI τ p := fun p hp => by
        rw [mI_wR, mI_wA, if_neg hp, mI_wN, if_neg hp]
      refine ⟨⟨?_, ?_, ?_, ?_⟩, ⟨?_, ?_, by omega, by omega, by omega⟩, fun i hi => ?_, ⟨h11, by have := h16.1; omega, es, ?_, ?_⟩, ?_⟩
      · show mS (wN τ 101 (2 * n + 2)) sb = 19
        rw [mS_wN, if_neg es]; exact h1
      · rw [mR_wR, if_pos rfl, if_pos rfl]
      · rw [i0 sb es]; exact h3
      · rw [i0 sb es]; exact h4
      · exact hS2
      · exact hL2
      · refine ⟨?_, (h10 i hi).2⟩
        rw [mI_wR, mI_wA, if_pos rfl]
        unfold va_cpy
        rw [if_pos ⟨by omega, by omega⟩, show 0 + (i - 0) = i by omega]
        exact (h10 i hi).1
      · show sb < mN τ + 1; omega
      · show mN τ < mN τ + 1; omega
      · exact FA_wR (FA_wA (h16.trans (FA_wN hN)) (by have := h16.1; omega) (by omega)) h11 (by show sb < mN τ + 1; omega)
theorem J_app {σ0 τ : Mm} {sb a n cap t : Nat} {f : Nat → Nat} (h : SBI σ0 τ sb a n cap f) (hn : n < 1000) (hN : mN τ < BIG) (hf : f n = t) (ht : t < 128) : ∃ τ' a' cap' c z, FJ5_append sb (N t) τ = some (.inl (some sb, τ'), c, z) ∧ SBI σ0 τ' sb a' (n + 1) cap' f ∧ ((cap' = cap ∧ c = 0 ∧ z = 0 ∧ mN τ' = mN τ) ∨ (n = cap ∧ cap' = 2 * cap + 2 ∧ c = 1 ∧ z = cap' ∧ mN τ' = mN τ + 1)) := by
  obtain ⟨τ1, a1, cap1, c, z, e1, e2, e3, e4⟩ := J_ens h hn hN
  obtain ⟨⟨g1, g2, g3, g4⟩, -⟩ := h
  obtain ⟨⟨h1, h2, h3, h4⟩, ⟨h5, h6, h7, h8, h9⟩, h10, ⟨h11, h12, h13, h14, h15⟩, h16⟩ := e2
  have cc : ∀ t, t < 128 → (N t).toInt8.toInt32 = N t := by decide +kernel
  have la : ∀ {β : Type} (F : Int32 × Mm → Option β), (FJ4_isLatin1 sb τ1).bind F = F (N 1, τ1) := fun F => by
    unfold FJ4_isLatin1
    rw [if_neg (by decide), gI_s h1, Option.bind_some, h3, if_pos (show (N 0 : Int32) = 0 from rfl), l1_, rZ_1, Option.bind_some]
  refine ⟨wA (wA τ1 sb (up1 (mI τ1 sb) 3 (N (n + 1)))) a1 (up1 (mI τ1 a1) n (N t)), a1, cap1, c, z, ?_, ⟨⟨h1, h2, ?_, ?_⟩, ⟨h5, h6, by omega, h8, h9⟩, fun i hi => ?_, ⟨h11, h12, h13, h14, h15⟩, FA_wA (FA_wA h16 h11 h14) h12 h15⟩, e4⟩
  · unfold FJ5_append FJ4_append jn
    dsimp only
    rw [ck_s g1, gI_s g1, Option.bind_some, g4, ck_s g1, l1_, N_add, e1, db_in, ck_s h1, la]
    dsimp only
    rw [if_neg (show ¬ (N 1 : Int32) = 0 by decide)]
    unfold FJ10_canEncode
    rw [if_neg (by rw [l255_, N_lt (by omega) (by omega)]; omega), l1_, rZ_1, Option.bind_some]
    dsimp only
    rw [if_neg (show ¬ (N 1 : Int32) = 0 by decide), gR_s h1 h2, Option.bind_some, gI_s h1, Option.bind_some, h4, N_add, pI_s h1, Option.bind_some, cc t ht]
    have s2 : sB (some a1) (N n) (N t) (wA τ1 sb (up1 (mI τ1 sb) 3 (N (n + 1)))) = some (wA (wA τ1 sb (up1 (mI τ1 sb) 3 (N (n + 1)))) a1 (up1 (mI τ1 a1) n (N t))) := by
      rw [sB_N (σ := wA τ1 sb (up1 (mI τ1 sb) 3 (N (n + 1)))) (n := cap1) h5 h6 e3 (by omega) ht, mI_wA, if_neg (Ne.symm h13)]
    rw [s2, Option.bind_some]
    simp [db, rt, pay]
  · rw [mI_wA, if_neg h13, mI_wA, if_pos rfl, up1_app, if_neg (by omega)]; exact h3
  · rw [mI_wA, if_neg h13, mI_wA, if_pos rfl, up1_app, if_pos rfl]
  · rw [mI_wA, if_pos rfl, up1_app]
    by_cases e : i = n
    · rw [if_pos e, e, hf]; exact ⟨rfl, ht⟩
    · rw [if_neg e]; exact h10 i (by omega)
