/-! THE PLAIN LAW, 26: an ArrayList: one more -/
set_option maxRecDepth 100000
/-- an ArrayList at l: n things, in the array e -/
def AL (l n e : Nat) (σ : Mm) : Prop := mS σ l = 17 ∧ mI σ l 2 = N n ∧ mR σ l 1 = some e ∧ n < 100000 ∧ ((e = BIG + 122 ∧ n = 0) ∨ (e < mN σ ∧ mS σ e = 102 ∧ n ≤ mL σ e ∧ 10 ≤ mL σ e ∧ mL σ e < 60000)) ∧ (e ≠ l ∧ l < mN σ) ∧ ∀ i, i < n → ∃ q, mR σ e i = some q ∧ q < mN σ ∧ obj σ q = true
theorem obj_e {σ τ : Mm} {q : Nat} (h : mS τ q = mS σ q) : obj τ q = obj σ q := by unfold obj; rw [h]
theorem aLo_s {t q n : Nat} {σ : Mm} (hs : mS σ q = t ∨ mS σ q = t + 500) (hl : mL σ q = n) : aLo t (some q) σ = some (N n) := by
  simp only [aLo, Option.bind_some]; rw [if_pos hs, hl]; rfl
theorem sR_N {q n a : Nat} {x : Option Nat} {σ : Mm} (hs : mS σ q = 102) (hl : mL σ q = n) (ha : a < n) (hn : n < 2147483648) (hx : xok σ x = true) : sR (some q) (N a) x σ = some (wR σ q a x) := by
  simp only [sR, Option.bind_some]
  rw [if_pos ⟨hs, hl ▸ ix_ok ha hn, hx⟩, N_idx (by omega)]
theorem pR_s {c k q : Nat} {x : Option Nat} {σ : Mm} (hs : mS σ q = c) : pR c k (some q) x σ = some (wR σ q k x) := by
  simp only [pR, Option.bind_some]; rw [if_pos hs]
theorem nA_s {t n : Nat} {σ : Mm} (h : mN σ < BIG) (hn : n ≤ 100000) : nA t (N n) σ = some (some (mN σ), wN σ t n) := by
  unfold nA; rw [if_pos ⟨h, by rw [l0_, N_lt (by omega) (by omega)]; omega, by rw [N_idx (by omega)]; exact hn⟩, N_idx (by omega)]
/-- its end: the thing comes behind -/
def alE (σ : Mm) (l e n b : Nat) : Mm := wA (wR σ e n (some b)) l (up1 (mI σ l) 2 (N (n + 1)))
theorem J_add_e {l e n b : Nat} {σ : Mm} {x : Int32} (hx : x = N (n + 1)) (hl : mS σ l = 17) (he : mS σ e = 102) (hn : n < mL σ e) (hm : mL σ e < 100000) (hb : obj σ b = true) : ((sR (some e) (N n) (some b) σ).bind fun σ23 => (pI 17 2 (some l) x σ23).bind fun σ24 => (rt σ24 : DX Mm)) = rt (alE σ l e n b) := by
  subst hx
  rw [sR_N (x := some b) he rfl hn (by omega) hb, Option.bind_some, pI_s (show mS (wR σ e n (some b)) l = 17 from hl), Option.bind_some]
  rfl
/-- all but the list's object and its array e is as it was -/
def LF (l e : Nat) (σ σ' : Mm) : Prop := mN σ ≤ mN σ' ∧ mN σ' ≤ mN σ + 1 ∧ (∀ q, q ≠ mN σ → mS σ' q = mS σ q ∧ mL σ' q = mL σ q) ∧ (∀ q, q ≠ e → q ≠ l → mI σ' q = mI σ q ∧ mR σ' q = mR σ q) ∧ ∀ k, k ≠ 1 → mR σ' l k = mR σ l k
theorem alE_AL {l e n b : Nat} {σ : Mm} (hl : mS σ l = 17) (he : mS σ e = 102) (he' : e < mN σ) (hr : mR σ l 1 = some e) (hle : e ≠ l ∧ l < mN σ) (hn : n < mL σ e) (h10 : 10 ≤ mL σ e) (hm : mL σ e < 60000) (hb : obj σ b = true) (hb' : b < mN σ) (ho : ∀ i, i < n → ∃ q, mR σ e i = some q ∧ q < mN σ ∧ obj σ q = true) : AL l (n + 1) e (alE σ l e n b) := by
  refine ⟨hl, (congrFun (if_pos rfl) 2).trans (if_pos rfl), ?_, by omega, Or.inr ⟨he', he, hn, h10, hm⟩, hle, fun i hi => ?_⟩
  · show mR (wR σ e n (some b)) l 1 = _
    rw [mR_wR, if_neg (by omega), hr]
  · show ∃ q, mR (wR σ e n (some b)) e i = some q ∧ _
    rw [mR_wR, if_pos rfl]
    by_cases h : i = n
    · rw [if_pos h]; exact ⟨b, rfl, hb', hb⟩
    · rw [if_neg h]; exact ho i (by omega)
theorem alE_i {l e n b i : Nat} {σ : Mm} : mR (alE σ l e n b) e i = if i = n then some b else mR σ e i := by
  show mR (wR σ e n (some b)) e i = _
  rw [mR_wR, if_pos rfl]
theorem alE_LF {l e n b : Nat} {σ : Mm} (hle : e ≠ l) : LF l e σ (alE σ l e n b) := by
  refine ⟨Nat.le_refl _, Nat.le_succ _, fun q hq => ⟨rfl, rfl⟩, fun q h1 h2 => ⟨if_neg h2, ?_⟩, fun k hk => ?_⟩
  · funext j
    show mR (wR σ e n (some b)) q j = _
    rw [mR_wR, if_neg h1]
  · show mR (wR σ e n (some b)) l k = _
    rw [mR_wR, if_neg (by omega)]
theorem imax_n {a b : Nat} (ha : a < 2147483648) (hb : b < 2147483648) : imax (N a) (N b) = N (max a b) := by
  unfold imax
  by_cases h : a < b
  · rw [if_pos (by rw [N_lt ha hb]; exact h), Nat.max_eq_right (by omega)]
  · rw [if_neg (by rw [N_lt ha hb]; exact h), Nat.max_eq_left (by omega)]
theorem imin_n {a b : Nat} (ha : a < 2147483648) (hb : b < 2147483648) : imin (N a) (N b) = N (min a b) := by
  unfold imin
  by_cases h : b < a
  · rw [if_pos (by rw [N_lt hb ha]; exact h), Nat.min_eq_right (by omega)]
  · rw [if_neg (by rw [N_lt hb ha]; exact h), Nat.min_eq_left (by omega)]
def grN (n : Nat) : Nat := n + max 1 (n / 2)
theorem J_newL {n : Nat} {σ : Mm} (h : n < 1000000) : FJ8_newLength (N n) (N (n + 1) - N n) (N n >>> (N 1 &&& N 31)) σ = some (N (grN n), σ) := by
  have e1 : N (n + 1) - N n = N 1 := by rw [N_sub (by omega)]; congr 1; omega
  have e2 : N n >>> (N 1 &&& N 31) = N (n / 2) := by rw [N_shr (by omega) (by omega), Nat.shiftRight_eq_div_pow]
  have hm : max 1 (n / 2) ≤ n + 1 := by omega
  unfold FJ8_newLength jn
  dsimp only
  rw [e1, e2, imax_n (by omega) (by omega), N_add, l0_, show (2147483639 : Int32) = N 2147483639 from rfl, if_neg (by rw [N_le (by omega) (by omega)]; omega), if_neg (by rw [N_lt (by omega) (by omega)]; omega)]
  rfl
theorem J_add {l n e b : Nat} {σ : Mm} (hK : KS σ) (h : AL l n e σ) (hb : obj σ b = true) (hb' : b < mN σ) (hN : mN σ < BIG) (hn : n < 30000) : ∃ e' σ' c z, FJ3_add l (some b) σ = some (.inl (N 1, σ'), c, z) ∧ c ≤ 1 ∧ z ≤ 10 + 2 * n ∧ AL l (n + 1) e' σ' ∧ (∀ i, i < n → mR σ' e' i = mR σ e i) ∧ mR σ' e' n = some b ∧ LF l e' σ σ' ∧ (e' = e ∨ e' = mN σ) := by
  have hB : BIG = 1000000 := rfl
  obtain ⟨h1, h2, h3, h4, h5, ⟨h6, h6'⟩, h7⟩ := h
  -- the count of changes
  have a1 : gI 17 0 (some l) σ = some (mI σ l 0) := gI_s h1
  have a2 : pI 17 0 (some l) (mI σ l 0 + N 1) σ = some (wA σ l (up1 (mI σ l) 0 (mI σ l 0 + N 1))) := pI_s h1
  obtain ⟨τ, ht⟩ : ∃ τ, τ = wA σ l (up1 (mI σ l) 0 (mI σ l 0 + N 1)) := ⟨_, rfl⟩
  rw [← ht] at a2
  have tS : mS τ = mS σ := by rw [ht]; rfl
  have tL : mL τ = mL σ := by rw [ht]; rfl
  have tR : mR τ = mR σ := by rw [ht]; rfl
  have tN : mN τ = mN σ := by rw [ht]; rfl
  have tI : ∀ q, q ≠ l → mI τ q = mI σ q := fun q hq => by rw [ht]; exact if_neg hq
  have t2 : mI τ l 2 = N n := by rw [ht, mI_wA, if_pos rfl, up1_app, if_neg (by omega)]; exact h2
  have a3 : gR 17 1 (some l) τ = some (some e) := gR_s (by rw [tS]; exact h1) (by rw [tR]; exact h3)
  have a4 : gI 17 2 (some l) τ = some (N n) := by rw [gI_s (by rw [tS]; exact h1), t2]
  have a5 : ∀ {β : Type} {k : Option β}, ck 17 l τ k = k := ck_s (by rw [tS]; exact h1)
  have hl : mS τ l = 17 := by rw [tS]; exact h1
  have key : ∀ e' τ' c z, (FJ3_add_2 l (some b) (some e) (N n) τ = some (.inl (alE τ' l e' n b), c, z)) → c ≤ 1 → z ≤ 10 + 2 * n → mS τ' l = 17 → mS τ' e' = 102 → e' < mN τ' → mR τ' l 1 = some e' → e' ≠ l → l < mN τ' → n < mL τ' e' → 10 ≤ mL τ' e' → mL τ' e' < 60000 → obj τ' b = true → b < mN τ' → (∀ i, i < n → mR τ' e' i = mR σ e i) → (∀ i, i < n → ∃ q, mR τ' e' i = some q ∧ q < mN τ' ∧ obj τ' q = true) → LF l e' σ τ' → (e' = e ∨ e' = mN σ) → ∃ e' σ' c z, FJ3_add l (some b) σ = some (.inl (N 1, σ'), c, z) ∧ c ≤ 1 ∧ z ≤ 10 + 2 * n ∧ AL l (n + 1) e' σ' ∧ (∀ i, i < n → mR σ' e' i = mR σ e i) ∧ mR σ' e' n = some b ∧ LF l e' σ σ' ∧ (e' = e ∨ e' = mN σ) := by
    intro e' τ' c z k1 k2 k3 k4 k5 k6 k7 k8 k8' k9 k10 k11 k12 k13 k14 k15 k16 k17
    refine ⟨e', alE τ' l e' n b, c, z, ?_, k2, k3, alE_AL k4 k5 k6 k7 ⟨k8, k8'⟩ k9 k10 k11 k12 k13 k15, fun i hi => ?_, ?_, ?_, k17⟩
    · unfold FJ3_add
      rw [a1, Option.bind_some, l1_, a2, Option.bind_some, a3, Option.bind_some, a4, Option.bind_some, a5, k1]
      show pay c z (rZd (N 1) (alE τ' l e' n b)) = _
      rw [rZd_1]; rfl
    · rw [alE_i, if_neg (by omega)]; exact k14 i hi
    · rw [alE_i, if_pos rfl]
    · obtain ⟨f1, f2, f3, f4, f5⟩ := k16
      obtain ⟨g1, g2, g3, g4, g5⟩ := alE_LF (n := n) (b := b) (σ := τ') k8
      exact ⟨f1, f2, fun q hq => ⟨(show mS (alE τ' l e' n b) q = mS τ' q from rfl).trans (f3 q hq).1, (show mL (alE τ' l e' n b) q = mL τ' q from rfl).trans (f3 q hq).2⟩, fun q hq hq' => ⟨(g4 q hq hq').1.trans (f4 q hq hq').1, (g4 q hq hq').2.trans (f4 q hq hq').2⟩, fun k hk => (g5 k hk).trans (f5 k hk)⟩
  rcases h5 with ⟨rfl, rfl⟩ | ⟨e1, e2, e3, e4, e5⟩
  · -- the first thing: an array of ten
    have s1 : mS τ (BIG + 122) = 602 := by rw [tS]; exact (hK.1 (BIG + 122) (by omega)).1.trans (by decide)
    have s2 : mL τ (BIG + 122) = 0 := by rw [tL]; exact (hK.1 (BIG + 122) (by omega)).2.1.trans (by decide)
    have gx : imax 10 (N 0 + N 1) = N 10 := by decide
    refine key (mN σ) (wR (wN τ 102 10) l 1 (some (mN σ))) 1 10 ?_ (by omega) (by omega) ?_ ?_ ?_ ?_ (by omega) ?_ ?_ ?_ ?_ ?_ ?_ (fun i hi => by omega) (fun i hi => by omega) ?_ (Or.inr rfl)
    · unfold FJ3_add_2 jn
      dsimp only
      rw [aLo_s (Or.inr s1) s2, Option.bind_some, if_pos rfl, a5]
      unfold FJ3_grow
      rw [a4, Option.bind_some, a5]
      unfold FJ3_grow_2 jn
      dsimp only
      rw [a3, Option.bind_some, aLo_s (Or.inr s1) s2, Option.bind_some, l0_, if_neg (by decide), Option.bind_some, if_pos rfl, l1_, gx, show (N 10).toNatClampNeg = 10 from by decide, nA_s (by rw [tN]; exact hN) (by omega), Option.bind_some]
      dsimp only
      rw [pR_s (show mS (wN τ 102 10) l = 17 by rw [mS_wN, if_neg (by omega)]; exact hl), Option.bind_some, db_pay, db_rt]
      dsimp only
      rw [db_pay, db_rt]
      dsimp only
      rw [tN, J_add_e (l := l) (e := mN σ) (n := 0) (b := b) (by rw [N_add]) (by rw [mS_wR, mS_wN, if_neg (by omega)]; exact hl) (by rw [mS_wR, mS_wN, if_pos tN.symm]) (by rw [mL_wR, mL_wN, if_pos tN.symm]; omega) (by rw [mL_wR, mL_wN, if_pos tN.symm]; omega) ((obj_e (by rw [mS_wR, mS_wN, if_neg (by omega), tS])).trans hb)]
      rfl
    · rw [mS_wR, mS_wN, if_neg (by omega)]; exact hl
    · rw [mS_wR, mS_wN, if_pos tN.symm]
    · rw [mN_wR, mN_wN]; omega
    · rw [mR_wR, if_pos rfl, if_pos rfl]
    · rw [mN_wR, mN_wN]; omega
    · rw [mL_wR, mL_wN, if_pos tN.symm]; omega
    · rw [mL_wR, mL_wN, if_pos tN.symm]; omega
    · rw [mL_wR, mL_wN, if_pos tN.symm]; omega
    · exact (obj_e (by rw [mS_wR, mS_wN, if_neg (by omega), tS])).trans hb
    · rw [mN_wR, mN_wN]; omega
    · refine ⟨by rw [mN_wR, mN_wN]; omega, by rw [mN_wR, mN_wN]; omega, fun q hq => ⟨by rw [mS_wR, mS_wN, if_neg (by omega), tS], by rw [mL_wR, mL_wN, if_neg (by omega), tL]⟩, fun q h8 h9 => ⟨by rw [mI_wR, mI_wN, if_neg (by omega), tI q h9], ?_⟩, fun k hk => ?_⟩
      · funext j; rw [mR_wR, if_neg h9, mR_wN, if_neg (by omega), tR]
      · rw [mR_wR_n (Or.inr hk), mR_wN, if_neg (by omega), tR]
  · have hs : mS τ e = 102 := by rw [tS]; exact e2
    by_cases hc : n = mL σ e
    · -- the array is full
      have hg : n < grN n ∧ 10 ≤ grN n ∧ grN n < 60000 ∧ grN n ≤ 10 + 2 * n := by unfold grN; omega
      refine key (mN σ) (wR (wB (wN τ 102 (grN n)) (mN σ) (va_cpy (mR τ e) (fun _ => none) 0 0 n)) l 1 (some (mN σ))) 1 (grN n) ?_ (by omega) (by omega) ?_ ?_ ?_ ?_ (by omega) ?_ ?_ ?_ ?_ ?_ ?_ (fun i hi => ?_) (fun i hi => ?_) ?_ (Or.inr rfl)
      · unfold FJ3_add_2 jn
        dsimp only
        rw [aLo_s (Or.inl hs) (by rw [tL, ← hc]), Option.bind_some, if_pos rfl, a5]
        unfold FJ3_grow
        rw [a4, Option.bind_some, a5]
        unfold FJ3_grow_2 jn
        dsimp only
        have hgt : (0 : Int32) < N n := by rw [l0_, N_lt (by omega) (by omega)]; omega
        rw [a3, Option.bind_some, aLo_s (Or.inl hs) (by rw [tL, ← hc]), Option.bind_some, if_pos hgt, l1_, N_add, show (31 : Int32) = N 31 from rfl, J_newL (by omega), Option.bind_some]
        dsimp only
        rw [a3, Option.bind_some]
        unfold FJ0_copyOf_2 FJ0_copyOf_3
        have ec : cpR (some e) (N 0) (some (mN σ)) (N 0) (N n) (wN τ 102 (grN n)) = some (wB (wN τ 102 (grN n)) (mN σ) (va_cpy (mR τ e) (fun _ => none) 0 0 n)) := by
          have q1 : mR (wN τ 102 (grN n)) e = mR τ e := by rw [mR_wN, if_neg (by omega)]
          have q2 : mR (wN τ 102 (grN n)) (mN σ) = fun _ => none := by rw [mR_wN, if_pos tN.symm]
          simp only [cpR, Option.bind_some]
          rw [if_pos, q1, q2, N_idx (by omega), N_idx (by omega)]
          refine ⟨by rw [mS_wN, if_neg (by omega)]; exact hs, by rw [mS_wN, if_pos tN.symm], by decide, by decide, by rw [l0_, N_lt (by omega) (by omega)]; omega, by rw [N_idx (by omega), N_idx (by omega), mL_wN, if_neg (by omega), tL]; omega, by rw [N_idx (by omega), N_idx (by omega), mL_wN, if_pos tN.symm]; omega, ?_⟩
          rw [List.all_eq_true]
          intro i hi
          rw [N_idx (by omega), List.mem_range] at hi
          obtain ⟨q, g1, g2, g3⟩ := h7 i hi
          rw [N_idx (by omega), Nat.zero_add, q1, tR, g1]
          exact (obj_e (by rw [mS_wN, if_neg (by omega), tS])).trans g3
        rw [rv_s hs, Option.bind_some, if_pos rfl, N_idx (by omega), nA_s (by rw [tN]; exact hN) (by omega), Option.bind_some]
        dsimp only
        rw [aLo_s (Or.inl (show mS (wN τ 102 (grN n)) e = 102 by rw [mS_wN, if_neg (by omega)]; exact hs)) (show mL (wN τ 102 (grN n)) e = n by rw [mL_wN, if_neg (by omega), tL, ← hc]), Option.bind_some, imin_n (by omega) (by omega), Nat.min_eq_left (by omega), l0_, tN, ec, Option.bind_some, db_pay, db_rt]
        dsimp only
        rw [db_pay, db_rt]
        dsimp only
        rw [pR_s (show mS (wB (wN τ 102 (grN n)) (mN σ) (va_cpy (mR τ e) (fun _ => none) 0 0 n)) l = 17 by show mS (wN τ 102 (grN n)) l = 17; rw [mS_wN, if_neg (by omega)]; exact hl), Option.bind_some, db_pay, db_rt]
        dsimp only
        rw [db_pay, db_rt]
        dsimp only
        rw [J_add_e (l := l) (e := mN σ) (n := n) (b := b) rfl (by show mS (wN τ 102 (grN n)) l = 17; rw [mS_wN, if_neg (by omega)]; exact hl) (by show mS (wN τ 102 (grN n)) (mN σ) = 102; rw [mS_wN, if_pos tN.symm]) (by show n < mL (wN τ 102 (grN n)) (mN σ); rw [mL_wN, if_pos tN.symm]; omega) (by show mL (wN τ 102 (grN n)) (mN σ) < _; rw [mL_wN, if_pos tN.symm]; omega) ((obj_e (by show mS (wN τ 102 (grN n)) b = _; rw [mS_wN, if_neg (by omega), tS])).trans hb)]
        rfl
      · show mS (wN τ 102 (grN n)) l = 17; rw [mS_wN, if_neg (by omega)]; exact hl
      · show mS (wN τ 102 (grN n)) (mN σ) = 102; rw [mS_wN, if_pos tN.symm]
      · show mN σ < mN τ + 1; omega
      · rw [mR_wR, if_pos rfl, if_pos rfl]
      · show l < mN τ + 1; omega
      · show n < mL (wN τ 102 (grN n)) (mN σ); rw [mL_wN, if_pos tN.symm]; omega
      · show 10 ≤ mL (wN τ 102 (grN n)) (mN σ); rw [mL_wN, if_pos tN.symm]; omega
      · show mL (wN τ 102 (grN n)) (mN σ) < _; rw [mL_wN, if_pos tN.symm]; omega
      · exact (obj_e (by show mS (wN τ 102 (grN n)) b = _; rw [mS_wN, if_neg (by omega), tS])).trans hb
      · show b < mN τ + 1; omega
      · rw [mR_wR, if_neg (by omega)]
        show up1 _ (mN σ) (va_cpy (mR τ e) (fun _ => none) 0 0 n) (mN σ) i = _
        rw [up1_app, if_pos rfl, pk_cpy_in (Nat.zero_le _) (by omega), tR]
        congr 1; omega
      · obtain ⟨q, g1, g2, g3⟩ := h7 i hi
        refine ⟨q, ?_, by show q < mN τ + 1; omega, (obj_e (by show mS (wN τ 102 (grN n)) q = _; rw [mS_wN, if_neg (by omega), tS])).trans g3⟩
        rw [mR_wR, if_neg (by omega)]
        show up1 _ (mN σ) (va_cpy (mR τ e) (fun _ => none) 0 0 n) (mN σ) i = _
        rw [up1_app, if_pos rfl, pk_cpy_in (Nat.zero_le _) (by omega), tR, ← g1]
        congr 1; omega
      · refine ⟨by show mN σ ≤ mN τ + 1; omega, by show mN τ + 1 ≤ _; omega, fun q hq => ⟨by show mS (wN τ 102 (grN n)) q = _; rw [mS_wN, if_neg (by omega), tS], by show mL (wN τ 102 (grN n)) q = _; rw [mL_wN, if_neg (by omega), tL]⟩, fun q h8 h9 => ⟨by show mI (wN τ 102 (grN n)) q = _; rw [mI_wN, if_neg (by omega), tI q h9], ?_⟩, fun k hk => ?_⟩
        · funext j; rw [mR_wR, if_neg h9]; show up1 _ (mN σ) (va_cpy (mR τ e) (fun _ => none) 0 0 n) q j = _
          rw [up1_app, if_neg h8]
          show mR (wN τ 102 (grN n)) q j = _
          rw [mR_wN, if_neg (by omega), tR]
        · rw [mR_wR_n (Or.inr hk)]; show up1 _ (mN σ) (va_cpy (mR τ e) (fun _ => none) 0 0 n) l k = _
          rw [up1_app, if_neg (by omega)]
          show mR (wN τ 102 (grN n)) l k = _
          rw [mR_wN, if_neg (by omega), tR]
    · refine key e τ 0 0 ?_ (by omega) (by omega) hl hs (by omega) (by rw [tR]; exact h3) h6 (by omega) (by rw [tL]; omega) (by rw [tL]; omega) (by rw [tL]; omega) ((obj_e (by rw [tS])).trans hb) (by omega) (fun i hi => by rw [tR]) (fun i hi => ?_) ?_ (Or.inl rfl)
      · unfold FJ3_add_2 jn
        dsimp only
        rw [aLo_s (Or.inl hs) rfl, Option.bind_some, if_neg (by rw [N_inj (by omega) (by rw [tL]; omega), tL]; exact hc), J_add_e (by rw [l1_, N_add]) hl hs (by rw [tL]; omega) (by rw [tL]; omega) ((obj_e (by rw [tS])).trans hb)]
        rfl
      · obtain ⟨q, g1, g2, g3⟩ := h7 i hi
        exact ⟨q, by rw [tR]; exact g1, by omega, (obj_e (by rw [tS])).trans g3⟩
      · exact ⟨by omega, by omega, fun q _ => ⟨by rw [tS], by rw [tL]⟩, fun q _ h9 => ⟨tI q h9, by rw [tR]⟩, fun k _ => by rw [tR]⟩
