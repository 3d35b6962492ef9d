/-! THE PLAIN LAW, 59: words, numbers -/
set_option maxRecDepth 100000
/-- a String at q: n letters f -/
def STR (q v n : Nat) (f : Nat → Nat) (τ : Mm) : Prop := (mS τ q = 20 ∧ mR τ q 0 = some v ∧ mI τ q 1 = N 0 ∧ mI τ q 2 = N 0 ∧ mI τ q 3 = N 0) ∧ mS τ v = 101 ∧ mL τ v = n ∧ ∀ i, i < n → mI τ v i = N (f i) ∧ f i < 128
theorem cb_ch : ∀ t, t < 128 → ((cb t).toUInt32 % 65536).toInt32 = N t := by decide +kernel
theorem J_str {σ0 τ : Mm} {sb a n cap : Nat} {f : Nat → Nat} (h : SBI σ0 τ sb a n cap f) (hn : n < 1000) (hN : mN τ + 2 ≤ BIG) : ∃ q v τ' c z, FJ5_toString sb τ = some (.inl (some q, τ'), c, z) ∧ STR q v n f τ' ∧ FA σ0 τ' ∧ mN τ' = mN τ + 2 ∧ c = 2 ∧ z = 4 + n ∧ mN σ0 ≤ q ∧ q < mN τ' ∧ mN σ0 ≤ v ∧ v < mN τ' ∧ q ≠ v := by
  obtain ⟨⟨h1, h2, h3, h4⟩, ⟨h5, h6, h7, h8, h9⟩, h10, ⟨h11, h12, h13, h14, h15⟩, h16⟩ := h
  have n0 : nO 20 τ = some (some (mN τ), wN τ 20 0) := if_pos (by omega)
  have w1 : mN (wN τ 20 0) = mN τ + 1 := rfl
  have eq : ∀ p, p < mN τ → mS (wN τ 20 0) p = mS τ p ∧ mL (wN τ 20 0) p = mL τ p ∧ mI (wN τ 20 0) p = mI τ p ∧ mR (wN τ 20 0) p = mR τ p := fun p hp => by
    rw [mS_wN, mL_wN, mI_wN, mR_wN, if_neg (by omega), if_neg (by omega), if_neg (by omega), if_neg (by omega)]; exact ⟨rfl, rfl, rfl, rfl⟩
  have sq : mS (wN τ 20 0) (mN τ) = 20 := by rw [mS_wN, if_pos rfl]
  have s1 : mS (wN τ 20 0) sb = 19 := by rw [(eq sb h14).1]; exact h1
  have r1 : mR (wN τ 20 0) sb 0 = some a := by rw [(eq sb h14).2.2.2]; exact h2
  have i1 : mI (wN τ 20 0) sb 1 = N 0 := by rw [(eq sb h14).2.2.1]; exact h3
  have i3 : mI (wN τ 20 0) sb 3 = N n := by rw [(eq sb h14).2.2.1]; exact h4
  -- the coder
  obtain ⟨μ, hμ⟩ : ∃ μ, μ = wA (wN τ 20 0) (mN τ) (up1 (mI (wN τ 20 0) (mN τ)) 1 0) := ⟨_, rfl⟩
  have pz : pZ 20 1 (some (mN τ)) 0 (wN τ 20 0) = some μ := by rw [pZ_s sq (Or.inl rfl), hμ]
  have mu : ∀ p, p ≠ mN τ → mI μ p = mI (wN τ 20 0) p := fun p hp => by rw [hμ, mI_wA, if_neg hp]
  have muS : mS μ = mS (wN τ 20 0) := by rw [hμ]; rfl
  have muL : mL μ = mL (wN τ 20 0) := by rw [hμ]; rfl
  have muR : mR μ = mR (wN τ 20 0) := by rw [hμ]; rfl
  have muN : mN μ = mN τ + 1 := by rw [hμ]; rfl
  have muq : mI μ (mN τ) = fun _ => N 0 := by
    rw [hμ, mI_wA, if_pos rfl, mI_wN, if_pos rfl]
    funext j; unfold up1; split <;> rfl
  have ua : mS μ a = 101 ∧ mL μ a = cap ∧ mI μ a = mI τ a := by
    rw [muS, muL, mu a (by omega), (eq a h15).1, (eq a h15).2.1, (eq a h15).2.2.1]; exact ⟨h5, h6, rfl⟩
  have fa1 : FA σ0 μ := by rw [hμ]; exact FA_wA (h16.trans (FA_wN (by omega))) (by have := h16.1; omega) (by omega)
  obtain ⟨ν, hr, nS, nL, nI, nR, nN, nF⟩ : ∃ ν, FJ0_copyOfRange (some a) 0 (N n) μ = some (.inl (some (mN μ), ν), 1, n) ∧ mS ν (mN μ) = 101 ∧ mL ν (mN μ) = n ∧ (∀ i, i < n → mI ν (mN μ) i = mI τ a i) ∧ mR ν (mN τ) = mR μ (mN τ) ∧ mN ν = mN μ + 1 ∧ (FA σ0 ν ∧ ∀ p, p < mN μ → mS ν p = mS μ p ∧ mI ν p = mI μ p) := by
    by_cases hc : n = cap
    · refine ⟨wA (wN μ 101 cap) (mN μ) (mI μ a), ?_, ?_, ?_, fun i hi => ?_, ?_, rfl, FA_wA (fa1.trans (FA_wN (by omega))) fa1.1 (Nat.lt_succ_self _), fun p hp => ?_⟩
      · unfold FJ0_copyOfRange jn
        dsimp only
        have cl : clB (some a) μ = some (some (mN μ), wA (wN μ 101 cap) (mN μ) (mI μ a)) := by
          have hall : ((List.range (mL μ a)).all fun i => fits .byte (.int (mI μ a i))) = true := by
            rw [List.all_eq_true, ua.2.1]
            intro i hi
            have hi' := List.mem_range.mp hi
            rw [ua.2.2, (h10 i (by omega)).1]
            exact fitN _ (h10 i (by omega)).2
          simp only [clB, Option.bind_some]
          rw [if_pos ⟨ua.1, by omega, hall⟩, ua.2.1]
        have s2 : mS (wA (wN μ 101 cap) (mN μ) (mI μ a)) (mN μ) = 101 := by show mS (wN μ 101 cap) (mN μ) = 101; rw [mS_wN, if_pos rfl]
        rw [if_pos rfl, aL_s ua.1 ua.2.1, Option.bind_some, if_pos (by rw [hc]), cl, Option.bind_some]
        dsimp only
        rw [rv_s s2, Option.bind_some]
        show pay 1 (mL μ a) _ = _
        rw [ua.2.1, ← hc]; rfl
      · show mS (wN μ 101 cap) (mN μ) = 101; rw [mS_wN, if_pos rfl]
      · show mL (wN μ 101 cap) (mN μ) = n; rw [mL_wN, if_pos rfl, hc]
      · rw [mI_wA, if_pos rfl, ua.2.2]
      · show mR (wN μ 101 cap) (mN τ) = _; rw [mR_wN, if_neg (by omega)]
      · refine ⟨?_, ?_⟩
        · show mS (wN μ 101 cap) p = _; rw [mS_wN, if_neg (by omega)]
        · rw [mI_wA, if_neg (by omega), mI_wN, if_neg (by omega)]
    · have hS : mS (wN μ 101 n) a = 101 := by rw [mS_wN, if_neg (by omega)]; exact ua.1
      have hL : mL (wN μ 101 n) a = cap := by rw [mL_wN, if_neg (by omega)]; exact ua.2.1
      have hI : mI (wN μ 101 n) a = mI τ a := by rw [mI_wN, if_neg (by omega)]; exact ua.2.2
      have hS2 : mS (wN μ 101 n) (mN μ) = 101 := by rw [mS_wN, if_pos rfl]
      have hL2 : mL (wN μ 101 n) (mN μ) = n := by rw [mL_wN, if_pos rfl]
      have sz : ∀ x : Int32, x - 0 = x := fun x => by simp
      have cp : cpI 101 (some a) 0 (some (mN μ)) 0 (imin (N cap - 0) (N n - 0)) (wN μ 101 n) = some (wA (wN μ 101 n) (mN μ) (va_cpy (mI τ a) (mI (wN μ 101 n) (mN μ)) 0 0 n)) := by
        rw [sz, sz, imin_n (by omega) (by omega), show min cap n = n by omega]
        have z0 : (0 : Int32).toNatClampNeg = 0 := by decide
        simp only [cpI, Option.bind_some]
        rw [N_idx (by omega), z0, if_pos ⟨hS, hS2, by decide, by decide, by rw [l0_, N_lt (by omega) (by omega)]; omega, by rw [hL]; omega, by rw [hL2]; omega, fun _ i hi => by rw [hI, Nat.zero_add, (h10 i hi).1]; exact fitN _ (h10 i hi).2⟩, hI]
      refine ⟨wA (wN μ 101 n) (mN μ) (va_cpy (mI τ a) (mI (wN μ 101 n) (mN μ)) 0 0 n), ?_, hS2, hL2, fun i hi => ?_, ?_, rfl, FA_wA (fa1.trans (FA_wN (by omega))) fa1.1 (Nat.lt_succ_self _), fun p hp => ?_⟩
      · unfold FJ0_copyOfRange FJ0_copyOfRangeByte FJ0_checkLength jn
        dsimp only
        rw [if_pos rfl, aL_s ua.1 ua.2.1, Option.bind_some, if_neg (by rw [N_inj (by omega) (by omega)]; exact hc), if_pos (by rw [l0_, N_le (by omega) (by omega)]; omega), Option.bind_some]
        show db (pay 1 (N n - 0).toNatClampNeg ((nA 101 (N n - 0) μ).bind _)) _ = _
        rw [sz (N n), nA_s (by omega) (by omega), Option.bind_some]
        dsimp only
        rw [aL_s hS hL, Option.bind_some]
        have cp' := cp
        rw [sz (N n)] at cp'
        rw [cp', Option.bind_some, N_idx (by omega)]
        simp [db, rt, pay]
      · rw [mI_wA, if_pos rfl]
        unfold va_cpy
        rw [if_pos ⟨by omega, by omega⟩, show 0 + (i - 0) = i by omega]
      · show mR (wN μ 101 n) (mN τ) = _; rw [mR_wN, if_neg (by omega)]
      · refine ⟨?_, ?_⟩
        · show mS (wN μ 101 n) p = _; rw [mS_wN, if_neg (by omega)]
        · rw [mI_wA, if_neg (by omega), mI_wN, if_neg (by omega)]
  have sν : mS ν (mN τ) = 20 := by rw [(nF.2 (mN τ) (by omega)).1, muS]; exact sq
  have iν : mI ν (mN τ) = fun _ => N 0 := by rw [(nF.2 (mN τ) (by omega)).2, muq]
  refine ⟨mN τ, mN μ, wR ν (mN τ) 0 (some (mN μ)), 2, 4 + n, ?_, ⟨⟨sν, ?_, ?_, ?_, ?_⟩, nS, nL, fun i hi => ⟨(nI i hi).trans (h10 i hi).1, (h10 i hi).2⟩⟩, FA_wR nF.1 (by have := h16.1; omega) (by omega), by show mN ν = _; omega, rfl, rfl, by have := h16.1; omega, by show mN τ < mN ν; omega, by have := h16.1; omega, by show mN μ < mN ν; omega, by omega⟩
  · unfold FJ5_toString FJ6_init FJ6_init_2
    rw [n0, Option.bind_some]
    dsimp only
    rw [rv_s sq, Option.bind_some, ck_s sq, rv_s s1, Option.bind_some]
    unfold FJ4_getValue FJ5_length FJ4_length FJ4_isLatin1
    rw [gR_s s1 r1, Option.bind_some, Option.bind_some]
    dsimp only
    rw [rv_s s1, Option.bind_some, ck_s s1, gI_s s1, Option.bind_some, Option.bind_some, Option.bind_some]
    dsimp only
    rw [rv_s s1, Option.bind_some, if_neg (by decide), gI_s s1, Option.bind_some, i1, l0_, if_pos rfl, l1_, rZ_1, Option.bind_some]
    dsimp only
    rw [if_neg (show ¬ (N 1 : Int32) = N 0 by decide), ← l0_, pz, Option.bind_some, i3, hr, db_in]
    dsimp only
    rw [pR_s sν, Option.bind_some]
    simp [db, rt, pay]
  · rw [mR_wR, if_pos rfl, if_pos rfl]
  · rw [mI_wR, iν]
  · rw [mI_wR, iν]
  · rw [mI_wR, iν]
theorem pay_db {α β : Type} (c z : Nat) (m : DX α) (f : α → DX β) : db (pay c z m) f = pay c z (db m f) := db_pay c z m f
theorem J_new {σ : Mm} (hN : mN σ + 2 ≤ BIG) : ∃ τ, (nO 19 σ) = some (some (mN σ), wN σ 19 0) ∧ rv 19 (some (mN σ)) (wN σ 19 0) = some (mN σ) ∧ FJ5_init (mN σ) (wN σ 19 0) = some (.inl τ, 1, 16) ∧ SBI σ τ (mN σ) (mN σ + 1) 0 16 (fun _ => 0) ∧ mN τ = mN σ + 2 := by
  have s : mS (wN σ 19 0) (mN σ) = 19 := by rw [mS_wN, if_pos rfl]
  have w1 : mN (wN σ 19 0) = mN σ + 1 := rfl
  have s2 : mS (wN (wN σ 19 0) 101 16) (mN σ) = 19 := by rw [mS_wN, if_neg (by omega)]; exact s
  refine ⟨wA (wR (wN (wN σ 19 0) 101 16) (mN σ) 0 (some (mN σ + 1))) (mN σ) (up1 (mI (wN (wN σ 19 0) 101 16) (mN σ)) 1 0), if_pos (by omega), rv_s s, ?_, ⟨⟨s2, ?_, ?_, ?_⟩, ⟨?_, ?_, by omega, by omega, by omega⟩, fun i hi => by omega, ⟨Nat.le_refl _, by omega, by omega, ?_, ?_⟩, ?_⟩, rfl⟩
  · unfold FJ5_init FJ4_init
    rw [ck_s s, if_neg (by decide), show (16 : Int32) = N 16 from rfl, N_idx (by omega), nA_s (by omega) (by omega), Option.bind_some]
    dsimp only
    rw [pR_s s2, Option.bind_some, pZ_s (show mS (wR (wN (wN σ 19 0) 101 16) (mN σ) 0 (some (mN (wN σ 19 0)))) (mN σ) = 19 from s2) (Or.inl rfl), Option.bind_some]
    rfl
  · show mR (wR (wN (wN σ 19 0) 101 16) (mN σ) 0 (some (mN σ + 1))) (mN σ) 0 = _
    rw [mR_wR, if_pos rfl, if_pos rfl]
  · rw [mI_wA, if_pos rfl, up1_app, if_pos rfl]; rfl
  · rw [mI_wA, if_pos rfl, up1_app, if_neg (by omega), mI_wN, if_neg (by omega), mI_wN, if_pos rfl]; rfl
  · show mS (wN (wN σ 19 0) 101 16) (mN σ + 1) = 101
    rw [mS_wN, if_pos w1.symm]
  · show mL (wN (wN σ 19 0) 101 16) (mN σ + 1) = 16
    rw [mL_wN, if_pos w1.symm]
  · show mN σ < mN σ + 1 + 1; omega
  · show mN σ + 1 < mN σ + 1 + 1; omega
  · exact FA_wA (FA_wR ((FA_wN (by omega)).trans (FA_wN (by omega))) (Nat.le_refl _) (by show mN σ < mN σ + 1 + 1; omega)) (Nat.le_refl _) (by show mN σ < mN σ + 1 + 1; omega)
section
variable {T : Nat → Nat} {e : Nat} {σ : Mm} {a b d x : Int32} {k : Nat}
theorem C_word_48 {σ0 : Mm} {k1 k2 sb : Nat} (hT : TX T e) (hC : FC σ0) (h3 : mI σ0 37 3 = N k2) (hb : ∀ j, j < e → mI σ0 38 j = cb (T j)) (h0 : 76 ≤ mN σ0) (hk2 : k2 ≤ e) (hw : ∀ i, k1 ≤ i → i < k2 → T i < 128) (kx : Mm → DX (Option Nat × Mm)) : ∀ (j i m : Nat) (τ : Mm) (a cap : Nat), k1 + i + j = k2 → j < m → SBI σ0 τ sb a i cap (fun i => T (k1 + i)) → mN τ + j ≤ BIG → ∃ τ' a' cap' c z, FX3_word_48 37 (some sb) m (N (k1 + i)) τ kx = pay c z (kx τ') ∧ SBI σ0 τ' sb a' (i + j) cap' (fun i => T (k1 + i)) ∧ mN τ' = mN τ + c ∧ c ≤ j ∧ ∀ Z, Z + 32 ≤ 2 * cap → (cap = 16 ∨ cap ≤ 2 * i) → Z + z + 32 ≤ 2 * cap' ∧ (cap' = 16 ∨ cap' ≤ 2 * (i + j)) := by
  have he := hT.1
  intro j
  induction j with
  | zero =>
    intro i m τ a cap hi hm hS hN
    obtain ⟨m, rfl⟩ : ∃ m', m = m' + 1 := ⟨m - 1, by omega⟩
    have hF := hS.2.2.2.2
    have hCτ := hF.fc h0 hC
    have e3 : mI τ 37 3 = N k2 := by rw [(hF.2.2.1 37 (by omega)).2.2.1]; exact h3
    refine ⟨τ, a, cap, 0, 0, ?_, hS, rfl, Nat.le_refl _, fun Z h1 h2 => ⟨h1, h2⟩⟩
    rw [FX3_word_48, fc_gI37 hCτ, Option.bind_some, e3, if_pos (by rw [N_le (by omega) (by omega)]; omega), pay_0]
  | succ j ih =>
    intro i m τ a cap hi hm hS hN
    obtain ⟨m, rfl⟩ : ∃ m', m = m' + 1 := ⟨m - 1, by omega⟩
    have hF := hS.2.2.2.2
    have hCτ := hF.fc h0 hC
    have e3 : mI τ 37 3 = N k2 := by rw [(hF.2.2.1 37 (by omega)).2.2.1]; exact h3
    have ht := hw (k1 + i) (by omega) (by omega)
    obtain ⟨τ1, a1, cap1, c, z, g1, g2, g3⟩ := J_app (t := T (k1 + i)) hS (by omega) (by omega) rfl ht
    have hN1 : mN τ1 = mN τ + c := by rcases g3 with ⟨_, q, _, r⟩ | ⟨_, _, q, _, r⟩ <;> omega
    have hc1 : c ≤ 1 := by rcases g3 with ⟨_, q, _, r⟩ | ⟨_, _, q, _, r⟩ <;> omega
    obtain ⟨τ', a', cap', c', z', f1, f2, f3, f4, f5⟩ := ih (i + 1) m τ1 a1 cap1 (by omega) (by omega) g2 (by omega)
    refine ⟨τ', a', cap', c + c', z + z', ?_, by rw [show i + (j + 1) = i + 1 + j by omega]; exact f2, by omega, by omega, fun Z h1 h2 => ?_⟩
    · rw [FX3_word_48, fc_gI37 hCτ, Option.bind_some, e3, if_neg (by rw [N_le (by omega) (by omega)]; omega), fc_gR37_0 hCτ, Option.bind_some, fc_rd38 hCτ (by omega), Option.bind_some, (hF.2.2.1 38 (by omega)).2.2.1, hb _ (by omega), rv_s hS.1.1, Option.bind_some, cb_ch _ ht, g1, db_in]
      dsimp only
      rw [l1_, N_add, Nat.add_assoc k1 i 1, f1, pay_pay]
    · have h3 : Z + z + 32 ≤ 2 * cap1 ∧ (cap1 = 16 ∨ cap1 ≤ 2 * (i + 1)) := by
        rcases g3 with ⟨q1, q2, q3, q4⟩ | ⟨q1, q2, q3, q4, q5⟩ <;> omega
      have h4 := f5 (Z + z) h3.1 h3.2
      rw [show i + (j + 1) = i + 1 + j by omega]
      omega
theorem C_word (hT : TX T e) (h : RT T e σ) (h0 : 76 ≤ mN σ) (hN : mN σ + 500 ≤ BIG) (hk : k ≤ e) : ∃ q v τ c z, FX3_word 37 (rs σ (N k) b d) = some (.inl (some q, rs τ (N (wd T e (sk T e k))) (N (sk T e k)) d), c, z) ∧ FA σ τ ∧ STR q v (wd T e (sk T e k) - sk T e k) (fun i => T (sk T e k + i)) τ ∧ (mN σ ≤ q ∧ q < mN τ ∧ mN σ ≤ v ∧ v < mN τ ∧ q ≠ v) ∧ mN τ = mN σ + c ∧ c ≤ 4 + (wd T e (sk T e k) - sk T e k) ∧ z ≤ 24 + 5 * (wd T e (sk T e k) - sk T e k) := by
  have he := hT.1
  have h1 := sk_le (T := T) hk
  have h2 := wd_ge (T := T) (e := e) (k := sk T e k)
  have h3 := wd_le (T := T) h1
  have hw : ∀ i, sk T e k ≤ i → i < wd T e (sk T e k) → T i < 128 := fun i a b => by have := wd_in (T := T) (e := e) a b; omega
  unfold FX3_word
  rw [c_ck h.1, C_blanks hT h (by omega), Option.bind_some, C_word_4 hT h _ (e - sk T e k) (sk T e k) fu (by omega) rfl (by unfold fu; omega)]
  show ∃ q v τ c z, (pay 1 4 <| (nO 19 (rs σ (N (wd T e (sk T e k))) (N (sk T e k)) d)).bind _) = _ ∧ _
  generalize sk T e k = k1 at *
  generalize wd T e k1 = k2 at *
  obtain ⟨σ0, hσ0⟩ : ∃ σ0, σ0 = rs σ (N k2) (N k1) d := ⟨_, rfl⟩
  have n0 : mN σ0 = mN σ := by rw [hσ0]; rfl
  have hC0 : FC σ0 := by rw [hσ0]; exact FC_rs h.1
  have e3 : mI σ0 37 3 = N k2 := by rw [hσ0]; rfl
  have e4 : mI σ0 37 4 = N k1 := by rw [hσ0]; rfl
  have hb : ∀ j, j < e → mI σ0 38 j = cb (T j) := by rw [hσ0, rs_q (by omega)]; exact h.2.2
  rw [← hσ0]
  obtain ⟨τ1, g1, g2, g3, g4, g5⟩ := J_new (σ := σ0) (by omega)
  have hS1 : SBI σ0 τ1 (mN σ0) (mN σ0 + 1) 0 16 (fun i => T (k1 + i)) := ⟨g4.1, g4.2.1, fun i hi => by omega, g4.2.2.2⟩
  have hC1 := g4.2.2.2.2.fc (by omega) hC0
  have e41 : mI τ1 37 4 = N k1 := by rw [(g4.2.2.2.2.2.2.1 37 (by omega)).2.2.1]; exact e4
  obtain ⟨τ2, a2, cap2, c2, z2, f1, f2, f3, f4, f5⟩ := C_word_48 (k1 := k1) (k2 := k2) (sb := mN σ0) hT hC0 e3 hb (by omega) h3 hw (fun (σ : Mm) => (rv 19 (some (mN σ0)) σ).bind fun q46 => db (FJ5_toString q46 σ) fun (x48, σ49) => rt (x48, σ49)) (k2 - k1) 0 fu τ1 (mN σ0 + 1) 16 (by omega) (by unfold fu; omega) hS1 (by omega)
  have f6 := f5 0 (by omega) (Or.inl rfl)
  rw [Nat.zero_add] at f2
  obtain ⟨q, v, ν, c3, z3, s1, s2, s3, s4, s5, s6, s7, s8, s9, s10, s11⟩ := J_str f2 (by omega) (by omega)
  rw [hσ0] at s3
  obtain ⟨τ, t1, t2, t3, t4, t5, t6, t7⟩ := FA_rs (by omega) s3
  refine ⟨q, v, τ, 1 + (1 + (c2 + (c3 + 0))), 4 + (16 + (z2 + (z3 + 0))), ?_, t2, ?_, ⟨by omega, by omega, by omega, by omega, s11⟩, ?_, ?_, ?_⟩
  · rw [g1, Option.bind_some]
    dsimp only
    rw [g2, Option.bind_some, g3, db_in, fc_gI37 hC1, Option.bind_some, e41]
    rw [Nat.add_zero] at f1
    rw [f1, rv_s f2.1.1, Option.bind_some, s1, db_in]
    dsimp only
    rw [pay_rt, ← t1]
    rfl
  · obtain ⟨⟨x1, x2, x3, x4, x5⟩, x6, x7, x8⟩ := s2
    refine ⟨⟨by rw [t4]; exact x1, by rw [t6]; exact x2, by rw [t7 q (by omega)]; exact x3, by rw [t7 q (by omega)]; exact x4, by rw [t7 q (by omega)]; exact x5⟩, by rw [t4]; exact x6, by rw [t5]; exact x7, fun i hi => by rw [t7 v (by omega)]; exact x8 i hi⟩
  · show mN τ = mN σ + (1 + (1 + (c2 + (c3 + 0))))
    omega
  · show 1 + (1 + (c2 + (c3 + 0))) ≤ _
    omega
  · show 4 + (16 + (z2 + (z3 + 0))) ≤ _
    omega
/-- a word is held against a constant one -/
theorem E_k01 {q v cq n : Nat} {f : Nat → Nat} {w : List Nat} {τ : Mm} (hS : STR q v n f τ) (hK : KW cq w τ) (hq : q < BIG) (hcq : BIG ≤ cq) (hk : kS cq = 520) (hn : n < 1000) : FJ6_equalsk01 q (some cq) τ = some (bN (decide (n = w.length ∧ ∀ i, i < w.length → f i = w.getD i 0)), τ) := by
  obtain ⟨⟨s1, s2, s3, s4, s5⟩, s6, s7, s8⟩ := hS
  obtain ⟨k1, k2, k3, k4, k5, k6, k7⟩ := hK
  have hd : dif q (some cq) = true := by
    unfold dif
    simp [hq, hcq, hk]
  have lp : ∀ (kx ky : Mm → Option (Int32 × Mm)), n = w.length → ∀ (j i m : Nat), i + j = n → j < m → FJ10_equalsk01_9 (some v) (some (cq + 1)) m (N i) τ kx ky = if ∀ i', i' < n → i ≤ i' → f i' = w.getD i' 0 then kx τ else ky τ := fun kx ky hnw j => by
    induction j with
    | zero =>
      intro i m hi hm
      obtain ⟨m, rfl⟩ : ∃ m', m = m' + 1 := ⟨m - 1, by omega⟩
      rw [FJ10_equalsk01_9, aL_s s6 s7, Option.bind_some, if_pos (by rw [N_le (by omega) (by omega)]; omega), if_pos (fun i' h1 h2 => by omega)]
    | succ j ih =>
      intro i m hi hm
      obtain ⟨m, rfl⟩ : ∃ m', m = m' + 1 := ⟨m - 1, by omega⟩
      have a1 := s8 i (by omega)
      have a2 := k7 i (by omega)
      rw [FJ10_equalsk01_9, aL_s s6 s7, Option.bind_some, if_neg (by rw [N_le (by omega) (by omega)]; omega), aI_N s6 s7 (by omega) (by omega), Option.bind_some, aI_N k4 k5 (by omega) (by omega), Option.bind_some, a1.1, a2.1]
      by_cases h3 : f i = w.getD i 0
      · rw [if_pos (by rw [h3]), l1_, N_add, ih (i + 1) m (by omega) (by omega)]
        by_cases h4 : ∀ i', i' < n → i + 1 ≤ i' → f i' = w.getD i' 0
        · rw [if_pos h4, if_pos (fun i' h1 h2 => by
            by_cases e1 : i' = i
            · rw [e1]; exact h3
            · exact h4 i' (by omega) (by omega))]
        · rw [if_neg h4, if_neg (fun h5 => h4 fun i' h1 h2 => h5 i' (by omega) (by omega))]
      · rw [if_neg (by rw [N_inj (by omega) (by omega)]; exact h3), if_neg (fun h5 => h3 (h5 i (by omega) (by omega)))]
  unfold FJ6_equalsk01 jn FJ10_equalsk01
  dsimp only
  rw [if_pos hd, rv_s k1, Option.bind_some, if_neg (by decide), Option.bind_some, if_neg (by decide), gI_s s1, Option.bind_some, gI_s k1, Option.bind_some, s3, k3, if_pos rfl, gR_s s1 s2, Option.bind_some, gR_s k1 k2, Option.bind_some, aL_s s6 s7, Option.bind_some, aL_s k4 k5, Option.bind_some]
  by_cases hnw : n = w.length
  · rw [if_pos (by rw [hnw]), l0_, lp _ _ hnw n 0 fu (by omega) (by unfold fu; omega)]
    by_cases h4 : ∀ i', i' < n → 0 ≤ i' → f i' = w.getD i' 0
    · rw [if_pos h4, decide_eq_true ⟨hnw, fun i hi => h4 i (by omega) (by omega)⟩, l1_, rZ_1, Option.bind_some]
      exact (if_neg (show ¬ (N 1 : Int32) = N 0 by decide)).trans (rZ_1 _)
    · rw [if_neg h4, decide_eq_false (fun h5 => h4 fun i hi _ => h5.2 i (by omega)), rZ_0, Option.bind_some]
      exact (if_pos rfl).trans (rZ_0 _)
  · rw [if_neg (by rw [N_inj (by omega) (by omega)]; exact hnw), decide_eq_false (fun h5 => hnw h5.1), l0_, rZ_0, Option.bind_some]
    exact (if_pos rfl).trans (rZ_0 _)
theorem isW_dec {k : Nat} {w : List Nat} : decide (wd T e k - k = w.length ∧ ∀ i, i < w.length → T (k + i) = w.getD i 0) = isW T e k w := by
  cases h : isW T e k w
  · exact decide_eq_false fun z => by rw [isW_iff.mpr z] at h; cases h
  · exact decide_eq_true (isW_iff.mp h)
theorem C_passes {cq : Nat} {w : List Nat} (hT : TX T e) (h : RT T e σ) (h0 : 76 ≤ mN σ) (hN : mN σ + 500 ≤ BIG) (hk : k ≤ e) (hcq : BIG ≤ cq) (hkc : kS cq = 520) (hK : ∀ τ, KS τ → KW cq w τ) (hS : KS σ) : ∃ τ c z, FX3_passesk01 37 (some cq) (rs σ (N k) b d) = some (.inl (bN (isW T e (sk T e k) w), rs τ (N (if isW T e (sk T e k) w = true then wd T e (sk T e k) else sk T e k)) (N (sk T e k)) d), c, z) ∧ FA σ τ ∧ mN τ = mN σ + c ∧ c ≤ 4 + (wd T e (sk T e k) - sk T e k) ∧ z ≤ 24 + 5 * (wd T e (sk T e k) - sk T e k) := by
  have hB : BIG = 1000000 := rfl
  have he := hT.1
  have h1 := sk_le (T := T) hk
  have h3 := wd_le (T := T) h1
  obtain ⟨q, v, τ, c, z, g1, g2, g3, g4, g5, g6, g7⟩ := C_word (b := b) (d := d) hT h h0 hN hk
  have hC : FC τ := g2.fc h0 h.1
  have hKτ : KS τ := g2.ks hS
  have hKr : KS (rs τ (N (wd T e (sk T e k))) (N (sk T e k)) d) := KS_wA (by omega) hKτ
  have hSr : STR q v (wd T e (sk T e k) - sk T e k) (fun i => T (sk T e k + i)) (rs τ (N (wd T e (sk T e k))) (N (sk T e k)) d) := by
    obtain ⟨⟨x1, x2, x3, x4, x5⟩, x6, x7, x8⟩ := g3
    refine ⟨⟨x1, x2, ?_, ?_, ?_⟩, x6, x7, ?_⟩
    · rw [rs_q (by omega)]; exact x3
    · rw [rs_q (by omega)]; exact x4
    · rw [rs_q (by omega)]; exact x5
    · rw [rs_q (by omega)]; exact x8
  have ee := E_k01 hSr (hK _ hKr) (by omega) hcq hkc (by omega)
  rw [isW_dec] at ee
  refine ⟨τ, c, z, ?_, g2, g5, g6, g7⟩
  unfold FX3_passesk01
  rw [c_ck h.1, g1, db_in]
  dsimp only
  rw [rv_s hSr.1.1, Option.bind_some, ee, Option.bind_some]
  dsimp only
  cases isW T e (sk T e k) w
  · rw [if_pos (show (bN false : Int32) = 0 from rfl), c_g4 hC, Option.bind_some, c_p3 hC, Option.bind_some, l0_, rZd_0, if_neg (by decide), pay_rt]
    rfl
  · rw [if_neg (show ¬ (bN true : Int32) = 0 by decide), if_pos rfl, l1_, rZd_1, pay_rt]
    rfl
end
