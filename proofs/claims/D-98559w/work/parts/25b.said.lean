/-! THE PLAIN LAW, 132: what is said on the tape -/
set_option maxRecDepth 100000
def EW (σ τ : Mm) : Prop := mS τ = mS σ ∧ mL τ = mL σ ∧ mR τ = mR σ ∧ mN τ = mN σ ∧ (∀ p, p ≠ 37 → p ≠ 45 → p ≠ 46 → p ≠ 62 → p ≠ 69 → p ≠ 70 → p ≠ 71 → p ≠ 75 → mI τ p = mI σ p) ∧ mI τ 37 5 = mI σ 37 5 ∧ ∀ k, k ≠ 0 → k ≠ 8 → k ≠ 20 → mI τ 62 k = mI σ 62 k
theorem EW.rf {σ : Mm} : EW σ σ := ⟨rfl, rfl, rfl, rfl, fun _ _ _ _ _ _ _ _ _ => rfl, rfl, fun _ _ _ _ => rfl⟩
theorem EW.tr {σ τ υ : Mm} (h : EW σ τ) (g : EW τ υ) : EW σ υ := by
  obtain ⟨h1, h2, h3, h4, h5, h6, h7⟩ := h
  obtain ⟨g1, g2, g3, g4, g5, g6, g7⟩ := g
  exact ⟨g1.trans h1, g2.trans h2, g3.trans h3, g4.trans h4, fun p a b c d e f i j => (g5 p a b c d e f i j).trans (h5 p a b c d e f i j), g6.trans h6, fun k a b c => (g7 k a b c).trans (h7 k a b c)⟩
theorem EW.w {σ : Mm} {p : Nat} {f : Nat → Int32} (hp : p = 45 ∨ p = 46 ∨ p = 69 ∨ p = 70 ∨ p = 71 ∨ p = 75) : EW σ (wA σ p f) := by
  refine ⟨rfl, rfl, rfl, rfl, fun q a b c d e f i j => ?_, ?_, fun k _ _ _ => ?_⟩
  · rw [mI_wA, if_neg (by omega)]
  · rw [mI_wA, if_neg (by omega)]
  · rw [mI_wA, if_neg (by omega)]
theorem EW.w37 {σ : Mm} {f : Nat → Int32} (hf : f 5 = mI σ 37 5) : EW σ (wA σ 37 f) := by
  refine ⟨rfl, rfl, rfl, rfl, fun q a b c d e f i j => ?_, ?_, fun k _ _ _ => ?_⟩
  · rw [mI_wA, if_neg a]
  · rw [mI_wA, if_pos rfl]; exact hf
  · rw [mI_wA, if_neg (by omega)]
theorem EW.w62 {σ : Mm} {k : Nat} {x : Int32} (hk : k = 0 ∨ k = 8 ∨ k = 20) : EW σ (wA σ 62 (up1 (mI σ 62) k x)) := by
  refine ⟨rfl, rfl, rfl, rfl, fun q a b c d e f i j => ?_, ?_, fun j _ _ _ => ?_⟩
  · rw [mI_wA, if_neg d]
  · rw [mI_wA, if_neg (by omega)]
  · rw [mI_wA, if_pos rfl, up1_app, if_neg (by omega)]
theorem EW.kr {σ τ : Mm} {np nh n : Nat} (h : EW σ τ) (K : KR np nh n σ) : KR np nh n τ := by
  obtain ⟨h1, h2, h3, h4, h5, h6, h7⟩ := h
  exact KR_fr K h1 h2 h4 (fun q k _ => by rw [h3]) (fun q hq => h5 q (by omega) (by omega) (by omega) (by omega) (by omega) (by omega) (by omega) (by omega)) (h7 6 (by omega) (by omega) (by omega))
theorem EW.e {σ τ : Mm} (h : EW σ τ) {p : Nat} (hp : p ≠ 37 ∧ p ≠ 45 ∧ p ≠ 46 ∧ p ≠ 62 ∧ p ≠ 69 ∧ p ≠ 70 ∧ p ≠ 71 ∧ p ≠ 75) : mI τ p = mI σ p := h.2.2.2.2.1 p hp.1 hp.2.1 hp.2.2.1 hp.2.2.2.1 hp.2.2.2.2.1 hp.2.2.2.2.2.1 hp.2.2.2.2.2.2.1 hp.2.2.2.2.2.2.2
theorem Inv_ew {σ τ : Mm} {np nh n L : Nat} (I : Inv np nh n L σ) (h : EW σ τ) (t1 : mI τ 37 1 = N 0) (t2 : mI τ 62 8 = N 0) : Inv np nh n 0 τ := by
  obtain ⟨K, hLW, -, hIM, hF, hB6⟩ := I
  have K' := h.kr K
  obtain ⟨h1, h2, h3, h4, h5, h6, h7⟩ := h
  have hI : ∀ p, p < 37 ∨ p = 63 ∨ p = 64 ∨ 76 ≤ p → mI τ p = mI σ p := fun p hp => h5 p (by omega) (by omega) (by omega) (by omega) (by omega) (by omega) (by omega) (by omega)
  have fr : ∀ {v A}, LW v A σ → LW v A τ := fun hl => LW_fr (by omega) (fun p _ _ => by rw [h1, h2]; exact ⟨rfl, rfl⟩) (fun p p1 p2 _ => ⟨hI p (by omega), by rw [h3]⟩) (by rw [h3]) hl
  refine ⟨K', ?_, ⟨by omega, t1, t2, fun k hk => by omega⟩, ⟨?_, ?_⟩, ?_, B62_eq ⟨h7 15 (by omega) (by omega) (by omega), h7 16 (by omega) (by omega) (by omega), h7 17 (by omega) (by omega) (by omega), h7 18 (by omega) (by omega) (by omega)⟩ hB6⟩
  · rw [h3, hI 63 (by omega)]; exact fr hLW
  · rw [hI 0 (by omega), h7 3 (by omega) (by omega) (by omega)]; exact hIM.1
  · rw [hI 0 (by omega), hI 64 (by omega), h3]
    rcases hIM.2 with z | ⟨z, mp, mh, z1, z2, z3⟩
    · exact Or.inl z
    · exact Or.inr ⟨z, mp, mh, z1, RW_eq (fun k hk => hI _ (by omega)) z2, fr z3⟩
  · rw [h6, h7 12 (by omega) (by omega) (by omega)]; exact hF
/-! good bytes -/
def bo (T : Nat → Nat) (np v : Nat) : Bool := if v % 3 = 2 then decide (T v < 2) else decide (T v < np)
def bl (T : Nat → Nat) (np : Nat) : Nat → Nat → Bool
  | 0, _ => true
  | k + 1, v => bo T np v && bl T np k (v + 1)
theorem bl_at {T : Nat → Nat} {np : Nat} : ∀ k v, bl T np k v = true → ∀ j, v ≤ j → j < v + k → bo T np j = true := by
  intro k
  induction k with
  | zero => intro v _ j h1 h2; omega
  | succ k ih =>
    intro v h j h1 h2
    rw [bl, Bool.and_eq_true] at h
    by_cases e : j = v
    · rw [e]; exact h.1
    · exact ih (v + 1) h.2 j (by omega) (by omega)
def sdOk (T : Nat → Nat) (np L : Nat) : Bool := decide (L % 3 = 0) && (decide (L ≤ 36) && bl T np L 0)
theorem cb_in : ∀ t, t < 256 → ∀ n, n ≤ 10 → ((cb t < N 0 ∨ N n - N 1 < cb t) ↔ ¬ t < n) := by decide +kernel
theorem C_in_cb {σ : Mm} {t n : Nat} (ht : t < 256) (hn : n ≤ 10) : FX1_in (cb t) (N 0) (N n - N 1) σ = some (bN (decide (t < n)), σ) := by
  have k := cb_in t ht n hn
  unfold FX1_in
  by_cases c : t < n
  · have h1 : ¬ cb t < N 0 := fun z => k.mp (Or.inl z) c
    have h2 : ¬ N n - N 1 < cb t := fun z => k.mp (Or.inr z) c
    rw [if_neg h1, if_neg h2, l1_, rZ_1, decide_eq_true c]; rfl
  · rw [decide_eq_false c]
    rcases k.mpr c with h | h
    · rw [if_pos h, l0_, rZ_0]; rfl
    · by_cases h1 : cb t < N 0
      · rw [if_pos h1, l0_, rZ_0]; rfl
      · rw [if_neg h1, if_pos h, l0_, rZ_0]; rfl
theorem div3 : ∀ L, L < 401 → N L / N 3 = N (L / 3) := by decide +kernel
theorem dv_3 {L : Nat} (hL : L ≤ 400) : dv (N L) 3 = some (N (L / 3)) := by
  rw [← div3 L (by omega)]
  exact dv_N (x := N L) (j := 2) (by omega)
theorem rm_3 {L : Nat} (hL : L ≤ 400) : rm_ (N L) 3 = some (N (L % 3)) := rm_N (m := 3) (by omega) (by omega) (by omega)
section
variable {np nh L : Nat} {σ : Mm} {T : Nat → Nat}
theorem C_said_37 {τ : Mm} (K : Co np nh τ) (hL : L ≤ 400) (h2 : mI τ 37 2 = N L) (h3 : L % 3 = 0) (hT : ∀ k, k < L → T k < 256 ∧ mI τ 38 k = cb (T k)) (Kx : Mm → DX (Int32 × Mm)) : ∀ (q i n : Nat), i + q = L / 3 → q < n → FX1_saidAll_37 0 (some 37) n (N (3 * i)) τ Kx = if bl T np (3 * q) (3 * i) then Kx τ else thw 3 τ := by
  have hC := K.c; have hn0 := K.n0
  intro q
  induction q with
  | zero =>
    intro i n hi hn
    obtain ⟨n, rfl⟩ : ∃ m, n = m + 1 := ⟨n - 1, by omega⟩
    rw [FX1_saidAll_37, fc_gI37 hC, Option.bind_some, h2, if_pos (by rw [N_le (by omega) (by omega)]; omega), show 3 * 0 = 0 from rfl, bl, if_pos rfl]
  | succ q ih =>
    intro i n hi hn
    obtain ⟨n, rfl⟩ : ∃ m, n = m + 1 := ⟨n - 1, by omega⟩
    obtain ⟨a1, a2⟩ := hT (3 * i) (by omega)
    obtain ⟨b1, b2⟩ := hT (3 * i + 1) (by omega)
    obtain ⟨c1, c2⟩ := hT (3 * i + 2) (by omega)
    have ih' := ih (i + 1) n (by omega) (by omega)
    have e : bl T np (3 * (q + 1)) (3 * i) = (decide (T (3 * i) < np) && (decide (T (3 * i + 1) < np) && (decide (T (3 * i + 2) < 2) && bl T np (3 * q) (3 * (i + 1))))) := by
      rw [show 3 * (q + 1) = 3 * q + 1 + 1 + 1 by omega, bl, bl, bl, show 3 * i + 1 + 1 = 3 * i + 2 by omega, show 3 * i + 2 + 1 = 3 * (i + 1) by omega]
      unfold bo
      rw [if_neg (by omega), if_neg (by omega), if_pos (by omega)]
    have l11 : N 1 = N 2 - N 1 := by decide
    rw [FX1_saidAll_37, fc_gI37 hC, Option.bind_some, h2, if_neg (by rw [N_le (by omega) (by omega)]; omega), fc_gR37_0 hC, Option.bind_some, fc_rd38 hC (by omega), Option.bind_some, a2, fc_gR0_0 hC, Option.bind_some, fw_gI hC.1, Option.bind_some, rw1 K.r, K.n, l0_, l1_, l2_, l3_, C_in_cb a1 hn0, Option.bind_some]
    unfold jn
    try dsimp only
    rw [e]
    by_cases d0 : T (3 * i) < np
    · rw [decide_eq_true d0, Bool.true_and, if_neg (show ¬ bN true = N 0 by decide), fc_gR37_0 hC, Option.bind_some, N_add, fc_rd38 hC (by omega), Option.bind_some, b2, fc_gR0_0 hC, Option.bind_some, fw_gI hC.1, Option.bind_some, rw1 K.r, K.n, C_in_cb b1 hn0, Option.bind_some]
      try dsimp only
      by_cases d1 : T (3 * i + 1) < np
      · have ci : FX1_in (cb (T (3 * i + 2))) (N 0) (N 1) τ = some (bN (decide (T (3 * i + 2) < 2)), τ) := by
          rw [l11]; exact C_in_cb c1 (by omega)
        rw [decide_eq_true d1, Bool.true_and, if_neg (show ¬ bN true = N 0 by decide), fc_gR37_0 hC, Option.bind_some, N_add, fc_rd38 hC (by omega), Option.bind_some, c2, ci, Option.bind_some]
        try dsimp only
        by_cases d2 : T (3 * i + 2) < 2
        · rw [decide_eq_true d2, Bool.true_and, if_neg (show ¬ bN true = N 0 by decide), C_dem_1, db_rt, N_add, show 3 * i + 3 = 3 * (i + 1) by omega, ih']
        · rw [decide_eq_false d2, Bool.false_and, if_pos (show bN false = N 0 from rfl), C_dem_0, db_thw, if_neg Bool.false_ne_true]
      · rw [decide_eq_false d1, Bool.false_and, if_pos (show bN false = N 0 from rfl), C_dem_0, db_thw, if_neg Bool.false_ne_true]
    · rw [decide_eq_false d0, Bool.false_and, if_pos (show bN false = N 0 from rfl), C_dem_0, db_thw, if_neg Bool.false_ne_true]
theorem C_said {n : Nat} (K : KR np nh n σ) (hL : L ≤ 400) (h1 : mI σ 37 1 = N L) (hT : ∀ k, k < L → T k < 256 ∧ mI σ 38 k = cb (T k)) : ∃ τ, EW σ τ ∧ mI τ 37 1 = N 0 ∧ mI τ 37 2 = N L ∧ mI τ 62 = mI σ 62 ∧ FX3_begins 37 σ = some τ ∧ FX1_saidAll 0 σ = if sdOk T np L then rt (N (2 ^ (L / 3) - 1), τ) else thw 3 τ := by
  have hC := K.1.c; have hn0 := K.1.n0
  obtain ⟨g, g1, g2, g3, g4, g5, g6⟩ := C_begins hC h1
  have hE : EW σ (wA σ 37 g) := EW.w37 g6
  have K' := (hE.kr K).1
  have hC' := K'.c
  have e2 : mI (wA σ 37 g) 37 2 = N L := by rw [mI_wA, if_pos rfl]; exact g3
  refine ⟨wA σ 37 g, hE, by rw [mI_wA, if_pos rfl]; exact g2, e2, by rw [mI_wA, if_neg (by omega)], g1, ?_⟩
  have fin : ∀ z : Int32, (z = N 0 ∧ sdOk T np L = false) ∨ (z = N 1 ∧ sdOk T np L = bl T np L 0 ∧ L % 3 = 0 ∧ L ≤ 36) → (db (FX1_demand z (wA σ 37 g)) fun σ28 => FX1_saidAll_37 0 (some 37) fu (N 0) σ28 (fun (σ : Mm) => (gI 3 2 (some 37) σ).bind fun x52 => (dv x52 3).bind fun x53 => rt (((1 <<< (x53 &&& 31)) - 1), σ))) = if sdOk T np L then rt (N (2 ^ (L / 3) - 1), wA σ 37 g) else thw 3 (wA σ 37 g) := fun z hz => by
    rcases hz with ⟨z1, z2⟩ | ⟨z1, z2, z3, z4⟩
    · rw [z1, C_dem_0, db_thw, z2, if_neg Bool.false_ne_true]
    · have f := C_said_37 K' hL e2 z3 (fun k hk => ⟨(hT k hk).1, by rw [mI_wA, if_neg (by omega)]; exact (hT k hk).2⟩) (fun (σ : Mm) => (gI 3 2 (some 37) σ).bind fun x52 => (dv x52 3).bind fun x53 => rt (((1 <<< (x53 &&& 31)) - 1), σ)) (L / 3) 0 fu (by omega) (by unfold fu; omega)
      rw [show 3 * (L / 3) = L by omega, show 3 * 0 = 0 from rfl] at f
      rw [z1, C_dem_1, db_rt, f, z2]
      cases bl T np L 0
      · rw [if_neg Bool.false_ne_true, if_neg Bool.false_ne_true]
      · have p12 : (1 <<< (N (L / 3) &&& 31)) - 1 = N (2 ^ (L / 3) - 1) := by
          have : ∀ k, k < 13 → (N 1 <<< (N k &&& N 31)) - N 1 = N (2 ^ k - 1) := by decide +kernel
          exact this _ (by omega)
        rw [if_pos rfl, if_pos rfl, fc_gI37 hC', Option.bind_some, e2, dv_3 hL, Option.bind_some, p12]
  unfold FX1_saidAll
  rw [fc_gR0_4 hC, Option.bind_some, fc_rv37 hC, Option.bind_some, g1, Option.bind_some, fc_gI37 hC', Option.bind_some, e2, rm_3 hL, Option.bind_some, l0_]
  unfold jn
  try dsimp only
  by_cases c1 : L % 3 = 0
  · rw [if_pos (by rw [c1]), Option.bind_some]
    by_cases c2 : L ≤ 36
    · rw [if_neg (show ¬ (36 : Int32) < N L by show ¬ N 36 < N L; rw [N_lt (by omega) (by omega)]; omega), l1_]
      exact fin _ (Or.inr ⟨rfl, by unfold sdOk; rw [decide_eq_true c1, decide_eq_true c2, Bool.true_and, Bool.true_and], c1, c2⟩)
    · rw [if_pos (show (36 : Int32) < N L by show N 36 < N L; rw [N_lt (by omega) (by omega)]; omega)]
      exact fin _ (Or.inl ⟨rfl, by unfold sdOk; rw [decide_eq_false c2, Bool.false_and, Bool.and_false]⟩)
  · rw [if_neg (by rw [N_inj (by omega) (by omega)]; exact c1)]
    exact fin _ (Or.inl ⟨rfl, by unfold sdOk; rw [decide_eq_false c1, Bool.false_and]⟩)
theorem M_hears_30 {τ : Mm} (h : FM τ) (hnn : mI τ 63 3 = N np) (hn0 : np ≤ 10) (hL : L ≤ 400) (hT : ∀ k, k < L → T k < 256 ∧ mI τ 67 k = N (T k)) (Kx : Int32 → Mm → Option (Int32 × Mm)) : ∀ (k v n : Nat) (f : Bool), v + k = L → k < n → FX8_hears_30 62 (N L) n (bN f) (N v) τ Kx = Kx (bN (f && bl T np k v)) τ := by
  intro k
  induction k with
  | zero =>
    intro v n f hv hn
    obtain ⟨n, rfl⟩ : ∃ m, n = m + 1 := ⟨n - 1, by omega⟩
    rw [FX8_hears_30, if_pos (by rw [N_le (by omega) (by omega)]; omega), bl, Bool.and_true]
  | succ k ih =>
    intro v n f hv hn
    obtain ⟨n, rfl⟩ : ∃ m, n = m + 1 := ⟨n - 1, by omega⟩
    obtain ⟨a1, a2⟩ := hT v (by omega)
    have iht := ih (v + 1) n true (by omega) (by omega)
    have ihf := ih (v + 1) n false (by omega) (by omega)
    rw [show bN true = N 1 from rfl] at iht
    rw [show bN false = N 0 from rfl] at ihf
    rw [FX8_hears_30, if_neg (by rw [N_le (by omega) (by omega)]; omega), l0_]
    unfold jn
    try dsimp only
    cases f with
    | false => rw [if_pos (show bN false = N 0 from rfl), Bool.false_and]
    | true =>
      rw [if_neg (show ¬ bN true = N 0 by decide), rm_3 (by omega), Option.bind_some, bl, l1_, l2_, N_add]
      unfold bo
      by_cases c : v % 3 = 2
      · rw [if_pos (by rw [N_le (by omega) (by omega)]; omega), if_pos c, fm_gR7 h, Option.bind_some, fm_rd67 h (by omega), Option.bind_some, a2]
        by_cases d : T v < 2
        · rw [if_neg (by rw [N_le (by omega) (by omega)]; omega), iht, decide_eq_true d, Bool.true_and, Bool.true_and]
        · rw [if_pos (by rw [N_le (by omega) (by omega)]; omega), ihf, decide_eq_false d, Bool.false_and, Bool.true_and]
      · rw [if_neg (by rw [N_le (by omega) (by omega)]; omega), if_neg c, fm_gR7 h, Option.bind_some, fm_rd67 h (by omega), Option.bind_some, a2, fm_gR1 h, Option.bind_some, l3_, fm_rd63 h (by omega), Option.bind_some, hnn]
        by_cases d : T v < np
        · rw [if_neg (by rw [N_le (by omega) (by omega)]; omega), iht, decide_eq_true d, Bool.true_and, Bool.true_and]
        · rw [if_pos (by rw [N_le (by omega) (by omega)]; omega), ihf, decide_eq_false d, Bool.false_and, Bool.true_and]
theorem M_hears_93 {τ : Mm} (h : FM τ) (hL : L ≤ 36) (hT : ∀ k, k < L → mI τ 67 k = N (T k)) (Kx : Mm → Option (Int32 × Mm)) : ∀ (k v n : Nat) (g : Nat → Int32), v + k = L → k < n → ∃ g', FX8_hears_93 62 (N L) (N 1) n (N v) (wA τ 69 g) Kx = Kx (wA τ 69 g') ∧ (∀ j, v ≤ j → j < L → g' j = N (T j)) ∧ ∀ j, j < v → g' j = g j := by
  intro k
  induction k with
  | zero =>
    intro v n g hv hn
    obtain ⟨n, rfl⟩ : ∃ m, n = m + 1 := ⟨n - 1, by omega⟩
    exact ⟨g, by rw [FX8_hears_93, if_pos (by rw [N_le (by omega) (by omega)]; omega)], fun j h1 h2 => by omega, fun _ _ => rfl⟩
  | succ k ih =>
    intro v n g hv hn
    obtain ⟨n, rfl⟩ : ∃ m, n = m + 1 := ⟨n - 1, by omega⟩
    have h' : FM (wA τ 69 g) := FM_w h
    obtain ⟨g', t1, t2, t3⟩ := ih (v + 1) n (up1 g v (N (T v))) (by omega) (by omega)
    refine ⟨g', ?_, fun j h1 h2 => ?_, fun j hj => ?_⟩
    · rw [FX8_hears_93, if_neg (by rw [N_le (by omega) (by omega)]; omega), if_neg (show ¬ N 1 = 0 by decide), fm_gR19 h', Option.bind_some, fm_gR7 h', Option.bind_some, fm_rd67 h' (by omega), Option.bind_some, show mI (wA τ 69 g) 67 v = N (T v) from hT v (by omega), fm_wr69 h' (by omega), Option.bind_some, mI_wA, if_pos rfl, wA_wA, l1_, N_add, t1]
    · by_cases e : j = v
      · subst e; rw [t3 j (by omega), up1_app, if_pos rfl]
      · exact t2 j (by omega) h2
    · rw [t3 j (by omega), up1_app, if_neg (by omega)]
theorem M_hears {n : Nat} (K : KR np nh n σ) (hL : L ≤ 400) (h8 : mI σ 62 8 = N L) (hT : ∀ k, k < L → T k < 256 ∧ mI σ 67 k = N (T k)) : ∃ τ, EW σ τ ∧ mI τ 62 8 = N 0 ∧ mI τ 62 20 = N (L / 3) ∧ (mI τ 37 = mI σ 37 ∧ mI τ 75 = mI σ 75) ∧ (sdOk T np L = true → ∀ v, v < L → mI τ 69 v = N (T v)) ∧ FX8_hears 62 σ = some (bN (sdOk T np L), τ) := by
  have h := K.1.m; have hn0 := K.1.n0
  obtain ⟨υ, hυ⟩ : ∃ υ, υ = wA σ 62 (up1 (mI σ 62) 8 (N 0)) := ⟨_, rfl⟩
  have h' : FM υ := by rw [hυ]; exact FM_w h
  have eυ : EW σ υ := by rw [hυ]; exact EW.w62 (by omega)
  have u63 : mI υ 63 = mI σ 63 := eυ.e (by omega)
  have u67 : mI υ 67 = mI σ 67 := eυ.e (by omega)
  have hT' : ∀ k, k < L → T k < 256 ∧ mI υ 67 k = N (T k) := by rw [u67]; exact hT
  have fin : ∀ (g : Nat → Int32) (b : Bool), ((dv (N L) 3).bind fun x45 => (pI 8 20 (some 62) x45 (wA υ 69 g)).bind fun σ46 => rZ (bN b) σ46) = some (bN b, wA (wA υ 69 g) 62 (up1 (mI υ 62) 20 (N (L / 3)))) := fun g b => by
    rw [dv_3 hL, Option.bind_some, fm_pI (FM_w h'), Option.bind_some, rZ_b, mI_wA, if_neg (by omega)]
  have e8 : mI υ 62 8 = N 0 := by rw [hυ, mI_wA, if_pos rfl, up1_app, if_pos rfl]
  have e37 : mI υ 37 = mI σ 37 ∧ mI υ 75 = mI σ 75 := by
    rw [hυ, mI_wA, if_neg (by omega), mI_wA, if_neg (by omega)]; exact ⟨rfl, rfl⟩
  have main : ∀ z : Int32, (z = N 0 ∧ sdOk T np L = false) ∨ (z = N 1 ∧ sdOk T np L = bl T np L 0 ∧ L % 3 = 0 ∧ L ≤ 36) → ∃ g, FX8_hears_30 62 (N L) fu z (N 0) υ (fun (x38 : Int32) (σ : Mm) => FX8_hears_93 62 (N L) x38 fu (N 0) σ (fun (σ : Mm) => (dv (N L) 3).bind fun x45 => (pI 8 20 (some 62) x45 σ).bind fun σ46 => rZ x38 σ46)) = some (bN (sdOk T np L), wA (wA υ 69 g) 62 (up1 (mI υ 62) 20 (N (L / 3)))) ∧ (sdOk T np L = true → ∀ v, v < L → g v = N (T v)) := fun z hz => by
    have no : ∀ b : Bool, b = false → sdOk T np L = false → FX8_hears_93 62 (N L) (bN b) fu (N 0) υ (fun (σ : Mm) => (dv (N L) 3).bind fun x45 => (pI 8 20 (some 62) x45 σ).bind fun σ46 => rZ (bN b) σ46) = some (bN (sdOk T np L), wA (wA υ 69 (mI υ 69)) 62 (up1 (mI υ 62) 20 (N (L / 3)))) := fun b hb hs => by
      have f := fin (mI υ 69) false
      rw [hb, hs, show fu = 99999 + 1 from rfl, FX8_hears_93]
      rw [wA_self] at f ⊢
      by_cases c : N L ≤ N 0
      · rw [if_pos c]; exact f
      · rw [if_neg c, if_pos (show bN false = (0 : Int32) from rfl)]; exact f
    rcases hz with ⟨z1, z2⟩ | ⟨z1, z2, z3, z4⟩
    · refine ⟨mI υ 69, ?_, fun hh => by rw [z2] at hh; cases hh⟩
      have f := M_hears_30 h' (by rw [u63]; exact K.1.n) hn0 hL hT' (fun (x38 : Int32) (σ : Mm) => FX8_hears_93 62 (N L) x38 fu (N 0) σ (fun (σ : Mm) => (dv (N L) 3).bind fun x45 => (pI 8 20 (some 62) x45 σ).bind fun σ46 => rZ x38 σ46)) L 0 fu false (by omega) (by unfold fu; omega)
      rw [z1]
      refine f.trans ?_
      exact no _ (Bool.false_and _) z2
    · have f := M_hears_30 h' (by rw [u63]; exact K.1.n) hn0 hL hT' (fun (x38 : Int32) (σ : Mm) => FX8_hears_93 62 (N L) x38 fu (N 0) σ (fun (σ : Mm) => (dv (N L) 3).bind fun x45 => (pI 8 20 (some 62) x45 σ).bind fun σ46 => rZ x38 σ46)) L 0 fu true (by omega) (by unfold fu; omega)
      rw [Bool.true_and] at f
      cases hb : bl T np L 0 with
      | false =>
        refine ⟨mI υ 69, ?_, fun hh => by rw [z2, hb] at hh; cases hh⟩
        rw [z1]
        refine f.trans ?_
        exact no _ hb (z2.trans hb)
      | true =>
        obtain ⟨g, g1, g2, -⟩ := M_hears_93 h' z4 (fun k hk => (hT' k hk).2) (fun (σ : Mm) => (dv (N L) 3).bind fun x45 => (pI 8 20 (some 62) x45 σ).bind fun σ46 => rZ (bN true) σ46) L 0 fu (mI υ 69) (by omega) (by unfold fu; omega)
        rw [wA_self] at g1
        refine ⟨g, ?_, fun _ v hv => g2 v (by omega) hv⟩
        rw [z1]
        refine f.trans ?_
        rw [hb, z2, hb]
        exact g1.trans (fin g true)
  have go : ∀ z : Int32, (z = N 0 ∧ sdOk T np L = false) ∨ (z = N 1 ∧ sdOk T np L = bl T np L 0 ∧ L % 3 = 0 ∧ L ≤ 36) → FX8_hears 62 σ = FX8_hears_30 62 (N L) fu z (N 0) υ (fun (x38 : Int32) (σ : Mm) => FX8_hears_93 62 (N L) x38 fu (N 0) σ (fun (σ : Mm) => (dv (N L) 3).bind fun x45 => (pI 8 20 (some 62) x45 σ).bind fun σ46 => rZ x38 σ46)) → ∃ τ, EW σ τ ∧ mI τ 62 8 = N 0 ∧ mI τ 62 20 = N (L / 3) ∧ (mI τ 37 = mI σ 37 ∧ mI τ 75 = mI σ 75) ∧ (sdOk T np L = true → ∀ v, v < L → mI τ 69 v = N (T v)) ∧ FX8_hears 62 σ = some (bN (sdOk T np L), τ) := fun z hz he => by
    obtain ⟨g, g1, g2⟩ := main z hz
    have ew : EW (wA υ 69 g) (wA (wA υ 69 g) 62 (up1 (mI υ 62) 20 (N (L / 3)))) := EW.w62 (σ := wA υ 69 g) (k := 20) (by omega)
    refine ⟨_, (eυ.tr (EW.w (by omega))).tr ew, ?_, ?_, ?_, fun hs v hv => ?_, he.trans g1⟩
    · rw [mI_wA, if_pos rfl, up1_app, if_neg (by omega)]; exact e8
    · rw [mI_wA, if_pos rfl, up1_app, if_pos rfl]
    · refine ⟨?_, ?_⟩
      · rw [mI_wA, if_neg (by omega), mI_wA, if_neg (by omega)]; exact e37.1
      · rw [mI_wA, if_neg (by omega), mI_wA, if_neg (by omega)]; exact e37.2
    · rw [mI_wA, if_neg (by omega), mI_wA, if_pos rfl]; exact g2 hs v hv
  by_cases c1 : L % 3 = 0
  · by_cases c2 : L ≤ 36
    · refine go (N 1) (Or.inr ⟨rfl, by unfold sdOk; rw [decide_eq_true c1, decide_eq_true c2, Bool.true_and, Bool.true_and], c1, c2⟩) ?_
      unfold FX8_hears jn
      rw [fm_gI h, Option.bind_some, h8, l0_, fm_pI h, Option.bind_some, rm_3 hL, Option.bind_some, ← hυ]
      try dsimp only
      rw [if_pos (by rw [c1]), if_neg (show ¬ (36 : Int32) < N L by show ¬ N 36 < N L; rw [N_lt (by omega) (by omega)]; omega)]
      rfl
    · refine go (N 0) (Or.inl ⟨rfl, by unfold sdOk; rw [decide_eq_false c2, Bool.false_and, Bool.and_false]⟩) ?_
      unfold FX8_hears jn
      rw [fm_gI h, Option.bind_some, h8, l0_, fm_pI h, Option.bind_some, rm_3 hL, Option.bind_some, ← hυ]
      try dsimp only
      rw [if_pos (by rw [c1]), if_pos (show (36 : Int32) < N L by show N 36 < N L; rw [N_lt (by omega) (by omega)]; omega)]
  · refine go (N 0) (Or.inl ⟨rfl, by unfold sdOk; rw [decide_eq_false c1, Bool.false_and]⟩) ?_
    unfold FX8_hears jn
    rw [fm_gI h, Option.bind_some, h8, l0_, fm_pI h, Option.bind_some, rm_3 hL, Option.bind_some, ← hυ]
    try dsimp only
    rw [if_neg (by rw [N_inj (by omega) (by omega)]; exact c1)]
end
