/-! THE PLAIN LAW, 117: block, asked of both -/
set_option maxRecDepth 100000
/-- do all of the set wear something? -/
def blO (A : Nat → Int32) (s : Nat) : Nat → Nat → Bool
  | 0, _ => true
  | k + 1, v => (!s.testBit v || !decide (PA A v 2 = M1)) && blO A s k (v + 1)
theorem blO_all {A : Nat → Int32} {s : Nat} : ∀ k v, blO A s k v = true → ∀ j, v ≤ j → j < v + k → s.testBit j = true → PA A j 2 ≠ M1 := by
  intro k
  induction k with
  | zero => intro v _ j h1 h2; omega
  | succ k ih =>
    intro v h j h1 h2 h3
    rw [blO, Bool.and_eq_true] at h
    by_cases e : j = v
    · subst e
      have := h.1
      rw [h3] at this
      intro e
      rw [e] at this
      simp at this
    · exact ih (v + 1) h.2 j (by omega) (by omega) h3
section
variable {np nh : Nat} {σ : Mm} {D : Nat → List Nat} {A W : Nat → Int32}
theorem C_block_12 {s : Nat} (K : Co np nh σ) (hs : s < 1024) (Kx : Mm → DX (Int32 × Mm)) : ∀ (k v n : Nat), v + k = np → k < n → FX1_block_12 0 (N s) n (N v) σ Kx = if blO (mI σ 63) s k v then Kx σ else thw 4 σ := by
  have hC := K.c; have hr := K.r; have hn0 := K.n0
  intro k
  induction k with
  | zero =>
    intro v n hv hn
    obtain ⟨n, rfl⟩ : ∃ m, n = m + 1 := ⟨n - 1, by omega⟩
    rw [FX1_block_12, fc_gR0_0 hC, Option.bind_some, fw_gI hC.1, Option.bind_some, rw1 hr, K.n, if_pos (by rw [N_le (by omega) (by omega)]; omega), blO, if_pos rfl]
  | succ k ih =>
    intro v n hv hn
    obtain ⟨n, rfl⟩ : ∃ m, n = m + 1 := ⟨n - 1, by omega⟩
    have ih0 := ih (v + 1) n (by omega) (by omega)
    rw [FX1_block_12, fc_gR0_0 hC, Option.bind_some, fw_gI hC.1, Option.bind_some, rw1 hr, K.n, if_neg (by rw [N_le (by omega) (by omega)]; omega), m1_, l1_, N_add, C_has, Option.bind_some, blO]
    unfold jn
    try dsimp only
    simp (disch := omega) only [tb_N]
    by_cases cs : s.testBit v = true
    · rw [if_pos cs, if_neg (show ¬ N 1 = 0 by decide), fc_gR0_0 hC, Option.bind_some, fw_gR10 hC.1, Option.bind_some, fw_rd3 hC.1 (by omega), Option.bind_some, rwW hr (by omega), cs]
      by_cases cw : PA (mI σ 63) v 2 = M1
      · rw [if_pos cw, l0_, C_can_0, db_thw, decide_eq_true cw, if_neg (show ¬ ((!true || !true) && blO (mI σ 63) s k (v + 1)) = true from Bool.false_ne_true)]
      · rw [if_neg cw, C_can_1, db_rt, ih0, decide_eq_false cw]
        rfl
    · rw [if_neg cs, if_pos (show N 0 = 0 from rfl), C_can_1, db_rt, ih0, Bool.eq_false_iff.mpr cs]
      rfl
theorem M_block_18 {s : Nat} (h : FM σ) (hA : mI σ 63 = A) (hnn : A 3 = N np) (hn0 : np ≤ 10) (hs : s < 1024) (Kx : Int32 → Mm → Option (Int32 × Mm)) : ∀ (k v n : Nat) (c : Bool), v + k = np → k < n → FX8_block_18 62 (N s) n (bN c) (N v) σ Kx = Kx (bN (c && blO A s k v)) σ := by
  intro k
  induction k with
  | zero =>
    intro v n c hv hn
    obtain ⟨n, rfl⟩ : ∃ m, n = m + 1 := ⟨n - 1, by omega⟩
    rw [FX8_block_18, fm_gR1 h, Option.bind_some, l3_, fm_rd63 h (by omega), Option.bind_some, hA, hnn, if_pos (by rw [N_le (by omega) (by omega)]; omega), blO, Bool.and_true]
  | succ k ih =>
    intro v n c hv hn
    obtain ⟨n, rfl⟩ : ∃ m, n = m + 1 := ⟨n - 1, by omega⟩
    have iht := ih (v + 1) n true (by omega) (by omega)
    have ihf := ih (v + 1) n false (by omega) (by omega)
    rw [show bN true = N 1 from rfl] at iht
    rw [show bN false = N 0 from rfl] at ihf
    rw [FX8_block_18, fm_gR1 h, Option.bind_some, l3_, fm_rd63 h (by omega), Option.bind_some, hA, hnn, if_neg (by rw [N_le (by omega) (by omega)]; omega), m1_, l1_, N_add, blO]
    unfold jn
    try dsimp only
    cases c with
    | false => rw [if_pos (show bN false = (0 : Int32) from rfl), l0_, ihf, Bool.false_and, Bool.false_and]
    | true =>
      rw [if_neg (show ¬ bN true = (0 : Int32) by decide), M_isOf, Option.bind_some]
      try dsimp only
      simp (disch := omega) only [tb_N]
      by_cases cs : s.testBit v = true
      · rw [if_pos cs, if_neg (show ¬ N 1 = 0 by decide), fm_ck h, l2_, M_of h (by omega) (by omega), Option.bind_some, hA, cs]
        try dsimp only
        by_cases cw : PA A v 2 = M1
        · rw [if_pos cw, l0_, ihf, decide_eq_true cw]; rfl
        · rw [if_neg cw, iht, decide_eq_false cw]; rfl
      · rw [if_neg cs, if_pos (show N 0 = 0 from rfl), iht, Bool.eq_false_iff.mpr cs]; rfl
theorem q_block (K : Co np nh σ) (x : Int32) : QW (FX0_block (some 0) x (some 75)) (FX8_block 62 x) σ := by
  have hC := K.c; have h := K.m; have hr := K.r; have hn0 := K.n0; have hnn := K.n
  have sl : ∀ v, sL (some 75) (N 0) v σ = some (o75 σ v) := fun v => sL_w hC
  obtain ⟨D, hD⟩ := wishes_of K
  obtain ⟨s, hs0, es⟩ := all_and x hn0
  have hs : s < 1024 := p1024 hn0 hs0
  have es' : x &&& ((1 <<< (N np &&& 31)) - 1) = N s := es
  have c12 := C_block_12 K hs (fun (σ : Mm) => (
  FX1_block_60 0 fu (N s) (-1) σ (fun (x50 : Int32) (σ : Mm) => (
  (if x50 = 0 then (
  rZd 0 σ) else (
  rZd 1 σ)))))) np 0 fu (by omega) (by unfold fu; omega)
  have cst : FX1_block 0 x σ = FX1_block_12 0 (N s) fu (N 0) σ (fun (σ : Mm) => (
  FX1_block_60 0 fu (N s) (-1) σ (fun (x50 : Int32) (σ : Mm) => (
  (if x50 = 0 then (
  rZd 0 σ) else (
  rZd 1 σ)))))) := by
    unfold FX1_block FX2_all
    rw [fc_gR0_0 hC, Option.bind_some, fw_rv hC.1, Option.bind_some, fw_gI hC.1, Option.bind_some, Option.bind_some, rw1 hr, hnn]
    try dsimp only
    rw [es', l0_]
  have mst : ∀ τ, FM τ → mI τ 63 = mI σ 63 → ∀ Kx : Int32 → Int32 → Mm → Option (Int32 × Mm), ((gR 8 1 (some 62) τ).bind fun x21 => (aI 100 x21 3 τ).bind fun x22 => FX8_block_18 62 (x &&& ((1 <<< (x22 &&& 31)) - 1)) fu 1 0 τ (Kx (x &&& ((1 <<< (x22 &&& 31)) - 1)))) = Kx (N s) (bN (blO (mI σ 63) s np 0)) τ := fun τ hτ e63 Kx => by
    have m18 := M_block_18 hτ e63 hnn hn0 hs (Kx (N s)) np 0 fu true (by omega) (by unfold fu; omega)
    rw [Bool.true_and] at m18
    rw [fm_gR1 hτ, Option.bind_some, l3_, fm_rd63 hτ (by omega), Option.bind_some, e63, hnn]
    rw [es']
    exact m18
  cases hb : blO (mI σ 63) s np 0 with
  | false =>
    refine QW_th (k := 1) (σ1 := σ) (σ2 := thr_ σ 1) (b := N 0) (c := 1) (z := 6) (by omega) ?_ (by omega) (by omega) ?_ rfl Kp.rf thr_k
    · unfold FX0_block
      rw [fc_rv0 hC, Option.bind_some, cst, c12, hb, if_neg Bool.false_ne_true, dt_thw, if_pos rfl]
      rfl
    · unfold FX8_block jn
      refine (mst σ h rfl (fun (S x35 : Int32) (σ : Mm) => (if x35 = 0 then ((pI 8 0 (some 62) 1 σ).bind fun σ37 => (gI 8 0 (some 62) σ37).bind fun x38 => (if x38 ≤ 0 then (FX8_block_90 62 fu S 1 σ37 (fun (x52 : Int32) (σ : Mm) => (if x52 = 0 then (rZ 0 σ) else (rZ 1 σ)))) else (rZ 0 σ37))) else ((pI 8 0 (some 62) 0 σ).bind fun σ37 => (gI 8 0 (some 62) σ37).bind fun x38 => (if x38 ≤ 0 then (FX8_block_90 62 fu S 1 σ37 (fun (x52 : Int32) (σ : Mm) => (if x52 = 0 then (rZ 0 σ) else (rZ 1 σ)))) else (rZ 0 σ37)))))).trans ?_
      rw [hb]
      try dsimp only
      rw [if_pos (show bN false = (0 : Int32) from rfl), l1_, fm_pI h, Option.bind_some, thr_w, fm_gI (FM_t h), Option.bind_some, thr_0, if_neg (by decide)]
      exact rZ_0 _
  | true =>
    have hw : hWS (mI σ 63) np s := fun j hj hj2 => by
      have h1 := blO_all np 0 hb j (by omega) (by omega) hj2
      rcases (K.w.2.1 j hj).1 with h2 | ⟨f, h2, h3⟩
      · exact absurd h2 h1
      · exact ⟨f, h2, h3⟩
    obtain ⟨w, hw9⟩ : ∃ w, w = (if N (blR (mI σ 63) D np 1024 s) = 0 then N 0 else N 1) := ⟨_, rfl⟩
    refine QW_ok (σ1 := σ) (σ2 := thr_ (o75 σ w) 0) (v := w) (c := 0) (z := 0) ?_ (by omega) (by omega) ?_ rfl rfl Kp.rf thr_k
    · have f1 := C_block_60 K hD (fun (x50 : Int32) (σ : Mm) => (if x50 = 0 then (rZd 0 σ) else (rZd 1 σ))) 1024 fu s (-1) hs (by unfold fu; omega) hs hw (fun e => by rw [m1_, m1_N (by omega)] at e; exact e)
      unfold FX0_block
      rw [fc_rv0 hC, Option.bind_some, cst, c12, hb, if_pos rfl, f1]
      try dsimp only
      unfold jn
      try dsimp only
      by_cases c : N (blR (mI σ 63) D np 1024 s) = 0
      · rw [if_pos c] at hw9
        rw [if_pos c, l0_, rZd_0, dt_rt, hw9]
        try dsimp only
        rw [if_pos rfl, sl, Option.bind_some]
        rfl
      · rw [if_neg c] at hw9
        rw [if_neg c, l1_, rZd_1, dt_rt, hw9]
        try dsimp only
        rw [if_neg (show ¬ N 1 = 0 by decide), l0_, sl, Option.bind_some]
        rfl
    · have h' : FM (thr_ (o75 σ w) 0) := FM_t (FM_o h)
      have e63 : mI (thr_ (o75 σ w) 0) 63 = mI σ 63 := rfl
      have f1 := M_block_90 h' e63 hnn hn0 hD (fun (x52 : Int32) (σ : Mm) => (if x52 = 0 then (rZ 0 σ) else (rZ 1 σ))) 1024 fu s hs (by unfold fu; omega) hs hw
      unfold FX8_block jn
      refine (mst (o75 σ w) (FM_o h) rfl (fun (S x35 : Int32) (σ : Mm) => (if x35 = 0 then ((pI 8 0 (some 62) 1 σ).bind fun σ37 => (gI 8 0 (some 62) σ37).bind fun x38 => (if x38 ≤ 0 then (FX8_block_90 62 fu S 1 σ37 (fun (x52 : Int32) (σ : Mm) => (if x52 = 0 then (rZ 0 σ) else (rZ 1 σ)))) else (rZ 0 σ37))) else ((pI 8 0 (some 62) 0 σ).bind fun σ37 => (gI 8 0 (some 62) σ37).bind fun x38 => (if x38 ≤ 0 then (FX8_block_90 62 fu S 1 σ37 (fun (x52 : Int32) (σ : Mm) => (if x52 = 0 then (rZ 0 σ) else (rZ 1 σ)))) else (rZ 0 σ37)))))).trans ?_
      rw [hb]
      try dsimp only
      rw [l0_, l1_] at f1
      rw [l0_] at hw9
      rw [if_neg (show ¬ bN true = (0 : Int32) by decide), l0_, fm_pI (FM_o h), Option.bind_some, thr_w, fm_gI h', Option.bind_some, thr_0, if_pos (by decide), l1_, f1]
      by_cases c : N (blR (mI σ 63) D np 1024 s) = N 0
      · rw [if_pos c] at hw9
        rw [if_pos c, rZ_0, hw9]
      · rw [if_neg c] at hw9
        rw [if_neg c, rZ_1, hw9]
end
