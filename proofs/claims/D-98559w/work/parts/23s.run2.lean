/-! THE PLAIN LAW, 122: the trades, the component's walk -/
set_option maxRecDepth 100000
section
variable {np nh : Nat} {σ : Mm} {D : Nat → List Nat}
theorem TK.co {τ : Mm} (h : TK σ τ) (K : Co np nh σ) : Co np nh τ := Co_kp h.kp K
theorem TK.e {τ : Mm} (h : TK σ τ) {p : Nat} (hp : p < 41 ∨ 43 < p) : mI τ p = mI σ p := h.2.2.2.2 p (by omega) (by omega) (by omega)
theorem C_run_15 (K : Co np nh σ) (Kx : Mm → Option (Option Nat × Mm)) : ∀ (k v n : Nat) (τ : Mm), v + k = np → k < n → TK σ τ → ∃ τ', FX5_run_15 41 n (N v) τ Kx = Kx τ' ∧ TK σ τ' ∧ mI τ' 41 2 = fd (lfS (mI σ 63)) v k (mI τ 41 2) ∧ mI τ' 42 = mI τ 42 := by
  have hn0 := K.n0
  intro k
  induction k with
  | zero =>
    intro v n τ hv hn hT
    obtain ⟨n, rfl⟩ : ∃ m, n = m + 1 := ⟨n - 1, by omega⟩
    have K' := hT.co K
    have hC := K'.c
    refine ⟨τ, ?_, hT, rfl, rfl⟩
    rw [FX5_run_15, fc_gR41_3 hC, Option.bind_some, fc_gR0_0 hC, Option.bind_some, fw_gI hC.1, Option.bind_some, rw1 K'.r, K'.n, if_pos (by rw [N_le (by omega) (by omega)]; omega)]
  | succ k ih =>
    intro v n τ hv hn hT
    obtain ⟨n, rfl⟩ : ∃ m, n = m + 1 := ⟨n - 1, by omega⟩
    have K' := hT.co K
    have hC := K'.c
    have e63 := hT.e (p := 63) (by omega)
    have go : ∀ z : Int32, z = (if PA (mI σ 63) v 2 = M1 then N 0 else bt v) → ∃ τ', ((pI 5 2 (some 41) (mI τ 41 2 ||| z) τ).bind fun σ33 => FX5_run_15 41 n (N v + 1) σ33 Kx) = Kx τ' ∧ TK σ τ' ∧ mI τ' 41 2 = fd (lfS (mI σ 63)) v (k + 1) (mI τ 41 2) ∧ mI τ' 42 = mI τ 42 := fun z hz => by
      obtain ⟨τ', t1, t2, t3, t4⟩ := ih (v + 1) n (wA τ 41 (up1 (mI τ 41) 2 (mI τ 41 2 ||| z))) (by omega) (by omega) (hT.w (by omega))
      refine ⟨τ', ?_, t2, ?_, by rw [t4, mI_wA, if_neg (by omega)]⟩
      · rw [fc_pI41 hC, Option.bind_some, l1_, N_add, t1]
      · rw [t3, fd, mI_wA, if_pos rfl, up1_app, if_pos rfl, hz]; rfl
    rw [FX5_run_15, fc_gR41_3 hC, Option.bind_some, fc_gR0_0 hC, Option.bind_some, fw_gI hC.1, Option.bind_some, rw1 K'.r, K'.n, if_neg (by rw [N_le (by omega) (by omega)]; omega), fc_gI41 hC, Option.bind_some, Option.bind_some, fc_gR0_0 hC, Option.bind_some, fw_gR10 hC.1, Option.bind_some, fw_rd3 hC.1 (by omega), Option.bind_some, rwW K'.r (by omega), e63]
    unfold jn
    try dsimp only
    by_cases c : PA (mI σ 63) v 2 = M1
    · rw [if_pos (show PA (mI σ 63) v 2 = -1 from c)]
      exact go 0 (by rw [if_pos c]; rfl)
    · rw [if_neg (show ¬ PA (mI σ 63) v 2 = -1 from c)]
      exact go _ (by rw [if_neg c]; rfl)
theorem C_run_76 {s : Nat} (K : Co np nh σ) (hD : ∀ p, p < np → WL np (mI σ 63) (mI σ (1 + 8)) p (D p)) (hs : s < 1024) (hw : hWS (mI σ 63) np s) (Kx : Mm → Option (Option Nat × Mm)) : ∀ (k v n : Nat) (τ : Mm), v + k = np → k < n → TK σ τ → mI τ 41 2 = N s → ∃ τ', FX5_run_76 41 n (N v) τ Kx = Kx τ' ∧ TK σ τ' ∧ mI τ' 41 2 = N s ∧ mI τ' 42 = mI τ 42 ∧ (∀ j, v ≤ j → j < np → s.testBit j = true → mI τ' 43 j = N (dst (mI σ 63) D np s j)) ∧ ∀ j, j < v → mI τ' 43 j = mI τ 43 j := by
  have hn0 := K.n0
  intro k
  induction k with
  | zero =>
    intro v n τ hv hn hT h41
    obtain ⟨n, rfl⟩ : ∃ m, n = m + 1 := ⟨n - 1, by omega⟩
    have K' := hT.co K
    have hC := K'.c
    refine ⟨τ, ?_, hT, h41, rfl, fun j h1 h2 => by omega, fun _ _ => rfl⟩
    rw [FX5_run_76, fc_gR41_3 hC, Option.bind_some, fc_gR0_0 hC, Option.bind_some, fw_gI hC.1, Option.bind_some, rw1 K'.r, K'.n, if_pos (by rw [N_le (by omega) (by omega)]; omega)]
  | succ k ih =>
    intro v n τ hv hn hT h41
    obtain ⟨n, rfl⟩ : ∃ m, n = m + 1 := ⟨n - 1, by omega⟩
    have K' := hT.co K
    have hC := K'.c
    have e63 := hT.e (p := 63) (by omega)
    have e9 : mI τ (1 + 8) = mI σ (1 + 8) := hT.e (by omega)
    have go : ∀ z : Int32, (s.testBit v = true → z = N (dst (mI σ 63) D np s v)) → ∃ τ', ((sI (some 43) (N v) z τ).bind fun σ45 => FX5_run_76 41 n (N v + 1) σ45 Kx) = Kx τ' ∧ TK σ τ' ∧ mI τ' 41 2 = N s ∧ mI τ' 42 = mI τ 42 ∧ (∀ j, v ≤ j → j < np → s.testBit j = true → mI τ' 43 j = N (dst (mI σ 63) D np s j)) ∧ ∀ j, j < v → mI τ' 43 j = mI τ 43 j := fun z hz => by
      obtain ⟨τ', t1, t2, t3, t4, t5, t6⟩ := ih (v + 1) n (wA τ 43 (up1 (mI τ 43) v z)) (by omega) (by omega) (hT.w (by omega)) (by rw [mI_wA, if_neg (by omega)]; exact h41)
      refine ⟨τ', ?_, t2, t3, ?_, fun j h1 h2 h3 => ?_, fun j hj => ?_⟩
      · rw [fc_wr43 hC (by omega), Option.bind_some, l1_, N_add, t1]
      · rw [t4, mI_wA, if_neg (by omega)]
      · by_cases e : j = v
        · subst e
          rw [t6 j (by omega), mI_wA, if_pos rfl, up1_app, if_pos rfl, hz h3]
        · exact t5 j (by omega) h2 h3
      · rw [t6 j (by omega), mI_wA, if_pos rfl, up1_app, if_neg (by omega)]
    rw [FX5_run_76, fc_gR41_3 hC, Option.bind_some, fc_gR0_0 hC, Option.bind_some, fw_gI hC.1, Option.bind_some, rw1 K'.r, K'.n, if_neg (by rw [N_le (by omega) (by omega)]; omega), fc_gR41_1 hC, Option.bind_some, fc_gI41 hC, Option.bind_some, h41, C_has, Option.bind_some]
    unfold jn
    try dsimp only
    simp (disch := omega) only [tb_N]
    by_cases c : s.testBit v = true
    · rw [if_pos c, if_neg (show ¬ N 1 = 0 by decide), fc_ck41 hC, C_dearest (s := s) K' (by rw [e63, e9]; exact hD) hs h41 (by rw [e63]; exact hw) (by omega) ⟨v, by omega, c⟩, Option.bind_some, e63]
      exact go _ (fun _ => rfl)
    · rw [if_neg c, if_pos (show N 0 = 0 from rfl)]
      exact go _ (fun h => absurd h c)
theorem C_ring_10 {s : Nat} {w : Nat → Nat} {τ : Mm} (hn0 : np ≤ 10) (hC : FC τ) (hc : cls np s w) (h43 : ∀ j, j < np → s.testBit j = true → mI τ 43 j = N (w j)) (Kx : Int32 → Mm → Option (Int32 × Mm)) : ∀ (k v n : Nat), k ≤ 10 → k < n → v < np → s.testBit v = true → FX5_ring_10 41 n (N v) (N (10 - k)) τ Kx = Kx (N (itr w k v)) τ := by
  intro k
  induction k with
  | zero =>
    intro v n _ hn hv ht
    obtain ⟨n, rfl⟩ : ∃ m, n = m + 1 := ⟨n - 1, by omega⟩
    rw [FX5_ring_10, if_pos (show (10 : Int32) ≤ N (10 - 0) by decide), itr]
  | succ k ih =>
    intro v n hk hn hv ht
    obtain ⟨n, rfl⟩ : ∃ m, n = m + 1 := ⟨n - 1, by omega⟩
    rw [FX5_ring_10, if_neg (show ¬ (10 : Int32) ≤ N (10 - (k + 1)) by rw [l10_, N_le (by omega) (by omega)]; omega), fc_gR41_1 hC, Option.bind_some, fc_rd43 hC (by omega), Option.bind_some, h43 v hv ht, l1_, N_add, show 10 - (k + 1) + 1 = 10 - k by omega, ih _ n (by omega) (by omega) (hc v hv ht).1 (hc v hv ht).2, itr]
theorem C_ring_31 {s : Nat} {w : Nat → Nat} {τ : Mm} (hn0 : np ≤ 10) (hC : FC τ) (hc : cls np s w) (h43 : ∀ j, j < np → s.testBit j = true → mI τ 43 j = N (w j)) (Kx : Int32 → Mm → Option (Int32 × Mm)) : ∀ (m S v n : Nat), cnt S < m → m ≤ n → S < 1024 → v < np → s.testBit v = true → FX5_ring_31 41 n (N v) (N S) τ Kx = Kx (N (rgo w m S v)) τ := by
  intro m
  induction m with
  | zero => intro S v n h; omega
  | succ m ih =>
    intro S v n hm hn hS hv ht
    obtain ⟨n, rfl⟩ : ∃ m, n = m + 1 := ⟨n - 1, by omega⟩
    rw [FX5_ring_31, C_has, Option.bind_some, rgo]
    try dsimp only
    simp (disch := omega) only [tb_N]
    by_cases c : S.testBit v = true
    · rw [if_pos c, if_pos c, if_neg (show ¬ N 1 = 0 by decide)]
    · have := cnt_lt S hS v (by omega) (Bool.eq_false_iff.mpr c)
      have eo : N S ||| (1 <<< (N v &&& 31)) = N (S ||| 2 ^ v) := bt_or (by omega)
      rw [if_neg c, if_neg c, if_pos (show N 0 = 0 from rfl), fc_gR41_1 hC, Option.bind_some, fc_rd43 hC (by omega), Option.bind_some, h43 v hv ht, eo, ih _ _ n (by omega) (by omega) (or_lt hS (by omega)) (hc v hv ht).1 (hc v hv ht).2]
theorem C_ringR {s : Nat} {A : Nat → Int32} {τ : Mm} (hn0 : np ≤ 10) (hC : FC τ) (hs : s < 2 ^ np) (h0 : s ≠ 0) (h41 : mI τ 41 2 = N s) (h43 : ∀ j, j < np → s.testBit j = true → mI τ 43 j = N (dst A D np s j)) : FX5_ring 41 τ = some (N (rgS A D np s), τ) := by
  have hs2 := p1024 hn0 hs
  obtain ⟨l1, l2, l3, l4, l5⟩ := rgS_ok (A := A) (D := D) hn0 hs h0
  obtain ⟨i1, i2⟩ := itr_in (dst_cls (A := A) (D := D) (np := np) (s := s)) 10 (lb s) l1 l2
  unfold FX5_ring
  rw [fc_gI41 hC, Option.bind_some, h41, J_ntz hs2, Option.bind_some]
  refine (C_ring_10 hn0 hC dst_cls h43 _ 10 (lb s) fu (by omega) (by unfold fu; omega) l1 l2).trans ?_
  have := cnt_le 0 (by omega)
  exact C_ring_31 hn0 hC dst_cls h43 _ 11 0 _ fu (by omega) (by unfold fu; omega) (by omega) i1 i2
theorem C_run_129 {s R : Nat} {w : Nat → Nat} (K : Co np nh σ) (hs : s < 1024) (hR : R < 1024) (hRs : ∀ j, R.testBit j = true → s.testBit j = true) (hc : cls np s w) (Kx : Mm → Option (Option Nat × Mm)) : ∀ (k v n : Nat) (τ : Mm), v + k = np → k < n → TK σ τ → (∀ j, j < np → s.testBit j = true → mI τ 43 j = N (w j)) → ∃ τ', FX5_run_129 41 (N R) n (N v) τ Kx = Kx τ' ∧ TK σ τ' ∧ mI τ' 41 = mI τ 41 ∧ mI τ' 43 = mI τ 43 ∧ (∀ j, v ≤ j → j < np → mI τ' 42 j = if R.testBit j then PA (mI σ 63) (w j) 2 else mI τ 42 j) ∧ ∀ j, j < v → mI τ' 42 j = mI τ 42 j := by
  have hn0 := K.n0
  intro k
  induction k with
  | zero =>
    intro v n τ hv hn hT h43
    obtain ⟨n, rfl⟩ : ∃ m, n = m + 1 := ⟨n - 1, by omega⟩
    have K' := hT.co K
    have hC := K'.c
    refine ⟨τ, ?_, hT, rfl, rfl, fun j h1 h2 => by omega, fun _ _ => rfl⟩
    rw [FX5_run_129, fc_gR41_3 hC, Option.bind_some, fc_gR0_0 hC, Option.bind_some, fw_gI hC.1, Option.bind_some, rw1 K'.r, K'.n, if_pos (by rw [N_le (by omega) (by omega)]; omega)]
  | succ k ih =>
    intro v n τ hv hn hT h43
    obtain ⟨n, rfl⟩ : ∃ m, n = m + 1 := ⟨n - 1, by omega⟩
    have K' := hT.co K
    have hC := K'.c
    have e63 := hT.e (p := 63) (by omega)
    rw [FX5_run_129, fc_gR41_3 hC, Option.bind_some, fc_gR0_0 hC, Option.bind_some, fw_gI hC.1, Option.bind_some, rw1 K'.r, K'.n, if_neg (by rw [N_le (by omega) (by omega)]; omega), C_has, Option.bind_some]
    try dsimp only
    simp (disch := omega) only [tb_N]
    by_cases c : R.testBit v = true
    · have ew := h43 v (by omega) (hRs v c)
      obtain ⟨w1, w2⟩ := hc v (by omega) (hRs v c)
      obtain ⟨τ', t1, t2, t3, t4, t5, t6⟩ := ih (v + 1) n (wA τ 42 (up1 (mI τ 42) v (PA (mI σ 63) (w v) 2))) (by omega) (by omega) (hT.w (by omega)) (by rw [mI_wA, if_neg (by omega)]; exact h43)
      refine ⟨τ', ?_, t2, ?_, ?_, fun j h1 h2 => ?_, fun j hj => ?_⟩
      · rw [if_pos c, if_neg (show ¬ N 1 = 0 by decide), fc_gR41_0 hC, Option.bind_some, fc_gR41_3 hC, Option.bind_some, fc_gR0_0 hC, Option.bind_some, fw_gR10 hC.1, Option.bind_some, fc_gR41_1 hC, Option.bind_some, fc_rd43 hC (by omega), Option.bind_some, ew, fw_rd3 hC.1 (by omega), Option.bind_some, rwW K'.r (by omega), e63, fc_wr42 hC (by omega), Option.bind_some, l1_, N_add, t1]
      · rw [t3, mI_wA, if_neg (by omega)]
      · rw [t4, mI_wA, if_neg (by omega)]
      · by_cases e : j = v
        · subst e
          rw [t6 j (by omega), mI_wA, if_pos rfl, up1_app, if_pos rfl, if_pos c]
        · rw [t5 j (by omega) h2, mI_wA, if_pos rfl, up1_app, if_neg e]
      · rw [t6 j (by omega), mI_wA, if_pos rfl, up1_app, if_neg (by omega)]
    · obtain ⟨τ', t1, t2, t3, t4, t5, t6⟩ := ih (v + 1) n τ (by omega) (by omega) hT h43
      refine ⟨τ', ?_, t2, t3, t4, fun j h1 h2 => ?_, fun j hj => t6 j (by omega)⟩
      · rw [if_neg c, if_pos (show N 0 = 0 from rfl), l1_, N_add, t1]
      · by_cases e : j = v
        · subst e
          rw [t6 j (by omega), if_neg c]
        · exact t5 j (by omega) h2
theorem C_run_67 (K : Co np nh σ) (hD : ∀ p, p < np → WL np (mI σ 63) (mI σ (1 + 8)) p (D p)) (Kx : Mm → Option (Option Nat × Mm)) : ∀ (m n s : Nat) (τ : Mm), s < m → m ≤ n → s < 2 ^ np → hWS (mI σ 63) np s → TK σ τ → mI τ 41 2 = N s → ∃ τ', FX5_run_67 41 n τ Kx = Kx τ' ∧ TK σ τ' ∧ ∀ v, v < np → mI τ' 42 v = ttc (mI σ 63) D np m s (mI τ 42) v := by
  have hn0 := K.n0
  intro m
  induction m with
  | zero => intro n s τ hs; omega
  | succ m ih =>
    intro n s τ hs hn hs1 hw hT h41
    obtain ⟨n, rfl⟩ : ∃ m, n = m + 1 := ⟨n - 1, by omega⟩
    have hs2 := p1024 hn0 hs1
    have hC := (hT.co K).c
    rw [FX5_run_67, fc_gI41 hC, Option.bind_some, h41]
    by_cases h0 : s = 0
    · refine ⟨τ, by rw [if_pos (by rw [h0]; rfl)], hT, fun v hv => by rw [ttc, if_pos h0]⟩
    · obtain ⟨r1, r2, r3, r4, r5⟩ := rgS_ok (A := mI σ 63) (D := D) hn0 hs1 h0
      rw [if_neg (by rw [l0_, N_inj (by omega) (by omega)]; exact h0), l0_]
      obtain ⟨τ1, a1, a2, a3, a4, a5, -⟩ := C_run_76 K hD hs2 hw (fun (σ : Mm) => (
    ck 5 41 σ <|
    (FX5_ring 41 σ).bind fun (x52, σ53) =>
    FX5_run_129 41 x52 fu (N 0) σ53 (fun (σ : Mm) => (
    (gI 5 2 (some 41) σ).bind fun x69 =>
    (pI 5 2 (some 41) (x69 &&& (x52 ^^^ (-1))) σ).bind fun σ70 =>
    FX5_run_67 41 n σ70 Kx)))) np 0 fu τ (by omega) (by unfold fu; omega) hT h41
      have hC1 := (a2.co K).c
      have h43 : ∀ j, j < np → s.testBit j = true → mI τ1 43 j = N (dst (mI σ 63) D np s j) := fun j hj ht => a5 j (by omega) hj ht
      obtain ⟨τ2, b1, b2, b3, b4, b5, -⟩ := C_run_129 K hs2 r3 r4 dst_cls (fun (ρ : Mm) => (
    (gI 5 2 (some 41) ρ).bind fun x69 =>
    (pI 5 2 (some 41) (x69 &&& (N (rgS (mI σ 63) D np s) ^^^ (-1))) ρ).bind fun σ70 =>
    FX5_run_67 41 n σ70 Kx)) np 0 fu τ1 (by omega) (by unfold fu; omega) a2 h43
      have hC2 := (b2.co K).c
      have e63 := b2.e (p := 63) (by omega)
      obtain ⟨τ3, c1, c2, c3⟩ := ih n (s &&& (1023 ^^^ rgS (mI σ 63) D np s)) (wA τ2 41 (up1 (mI τ2 41) 2 (N (s &&& (1023 ^^^ rgS (mI σ 63) D np s))))) (by omega) (by omega) (by omega) (hw.le fun j hj => by rw [Nat.testBit_and, Bool.and_eq_true] at hj; exact hj.1) (b2.w (by omega)) (by rw [mI_wA, if_pos rfl, up1_app, if_pos rfl])
      refine ⟨τ3, ?_, c2, fun v hv => ?_⟩
      · refine a1.trans ?_
        rw [fc_ck41 hC1, C_ringR hn0 hC1 hs1 h0 a3 h43, Option.bind_some]
        try dsimp only
        refine b1.trans ?_
        try dsimp only
        rw [fc_gI41 hC2, Option.bind_some, fc_pI41 hC2, Option.bind_some, show mI τ2 41 2 = N s by rw [b3]; exact a3, m1_, rm_R hs2 r3, c1]
      · rw [c3 v hv, ttc, if_neg h0]
        refine ttc_congr _ _ _ _ (fun u hu => ?_) v hv
        rw [mI_wA, if_neg (by omega), b5 u (by omega) hu, a4]
end
