/-! THE PLAIN LAW, 119: swaps, asked of both -/
set_option maxRecDepth 100000
def swA (A : Nat → Int32) (np nh v : Nat) : Bool := !lostB A np nh (N v) && !decide (wr A np v = some v)
def swB (A : Nat → Int32) (np v : Nat) : Bool := match wr A np v with
  | none => false
  | some u => !decide (u = v) && (decide (aRing A np v &&& N (2 ^ v - 1) = N 0) && cycB (wr A np) v 10 (some u))
def swS (A : Nat → Int32) (np nh : Nat) (v : Nat) (a : Int32) : Int32 := a + bN (swA A np nh v) - bN (swB A np v)
section
variable {np nh : Nat} {σ : Mm} {A : Nat → Int32}
theorem oN_ne {o : Option Nat} (h : ∀ y, o = some y → y < 10) {y : Nat} (hy : y < 10) : oN o = N y ↔ o = some y := by
  cases o with
  | none =>
    show M1 = N y ↔ _
    rw [m1_N (by omega)]
    exact ⟨False.elim, fun e => by cases e⟩
  | some z =>
    have := h z rfl
    show N z = N y ↔ _
    rw [N_inj (by omega) (by omega)]
    exact ⟨fun e => by rw [e], fun e => Option.some.inj e⟩
theorem C_closed_11 {x : Nat} (K : Co np nh σ) (hx : x < np) (K1 K2 : Mm → Option (Int32 × Mm)) : ∀ (m n : Nat) (o : Option Nat), m ≤ 10 → m < n → (∀ y, o = some y → y < np) → FX1_isClosed_11 0 (N x) n (oN o) (N (10 - m)) σ K1 K2 = if cycB (wr (mI σ 63) np) x m o then K2 σ else K1 σ := by
  have hC := K.c; have hr := K.r; have hn0 := K.n0
  intro m
  induction m with
  | zero =>
    intro n o hm hn ho
    obtain ⟨n, rfl⟩ : ∃ m, n = m + 1 := ⟨n - 1, by omega⟩
    rw [FX1_isClosed_11, if_pos (show (10 : Int32) ≤ N (10 - 0) by decide), cycB, if_neg Bool.false_ne_true]
  | succ m ih =>
    intro n o hm hn ho
    obtain ⟨n, rfl⟩ : ∃ m, n = m + 1 := ⟨n - 1, by omega⟩
    rw [FX1_isClosed_11, if_neg (show ¬ (10 : Int32) ≤ N (10 - (m + 1)) by rw [l10_, N_le (by omega) (by omega)]; omega), m1_]
    cases o with
    | none => rw [if_pos (show oN none = M1 from rfl), cycB, if_neg Bool.false_ne_true]
    | some y =>
      have hy := ho y rfl
      rw [if_neg (show ¬ oN (some y) = M1 by show ¬ N y = M1; rw [N_m1 (by omega)]; exact id), cycB]
      by_cases c : y = x
      · rw [if_pos (show oN (some y) = N x by rw [c]; rfl), if_pos c, if_pos rfl]
      · rw [if_neg (show ¬ oN (some y) = N x by show ¬ N y = N x; rw [N_inj (by omega) (by omega)]; exact c), if_neg c, fc_gR0_0 hC, Option.bind_some, fw_rv hC.1, Option.bind_some, show oN (some y) = N y from rfl, W_wearer hC.1 hr K.n hn0, Option.bind_some, l1_, N_add, show 10 - (m + 1) + 1 = 10 - m by omega]
        exact ih n (wr (mI σ 63) np y) (by omega) (by omega) (fun z hz => wr_lt hz)
theorem C_closed {x : Nat} (K : Co np nh σ) (hx : x < np) : FX1_isClosed 0 (N x) σ = some (bN (cycB (wr (mI σ 63) np) x 10 (wr (mI σ 63) np x)), σ) := by
  have hC := K.c; have hr := K.r; have hn0 := K.n0
  have h := C_closed_11 K hx (fun (σ : Mm) => (rZ 0 σ)) (fun (σ : Mm) => (rZ 1 σ)) 10 fu (wr (mI σ 63) np x) (by omega) (by unfold fu; omega) (fun z hz => wr_lt hz)
  unfold FX1_isClosed
  rw [fc_gR0_0 hC, Option.bind_some, fw_rv hC.1, Option.bind_some, W_wearer hC.1 hr K.n hn0, Option.bind_some]
  refine h.trans ?_
  cases cycB (wr (mI σ 63) np) x 10 (wr (mI σ 63) np x)
  · rw [if_neg Bool.false_ne_true, l0_, rZ_0]; rfl
  · rw [if_pos rfl, l1_, rZ_1]; rfl
theorem M_comes_6 {x : Nat} (h : FM σ) (hA : mI σ 63 = A) (hnn : A 3 = N np) (hn0 : np ≤ 10) (hx : x < np) (Kx : Int32 → Mm → Option (Int32 × Mm)) : ∀ (m n : Nat) (o : Option Nat), m ≤ n → cycT (wr A np) x m o → (∀ y, o = some y → y < np) → FX8_comesRound_6 62 (N x) n (oN o) σ Kx = Kx (if cycB (wr A np) x m o then N x else M1) σ := by
  intro m
  induction m with
  | zero => intro n o _ ht; exact absurd ht id
  | succ m ih =>
    intro n o hm ht ho
    obtain ⟨n, rfl⟩ : ∃ m, n = m + 1 := ⟨n - 1, by omega⟩
    rw [FX8_comesRound_6, m1_]
    cases o with
    | none => rw [if_pos (show oN none = M1 from rfl), cycB, if_neg Bool.false_ne_true]; rfl
    | some y =>
      have hy := ho y rfl
      rw [if_neg (show ¬ oN (some y) = M1 by show ¬ N y = M1; rw [N_m1 (by omega)]; exact id), cycB]
      by_cases c : y = x
      · rw [if_pos (show oN (some y) = N x by rw [c]; rfl), if_pos c, if_pos rfl, c]; rfl
      · rw [if_neg (show ¬ oN (some y) = N x by show ¬ N y = N x; rw [N_inj (by omega) (by omega)]; exact c), if_neg c, fm_ck h, show oN (some y) = N y from rfl, M_wearer h (by rw [hA]; exact hnn) hn0, Option.bind_some, hA]
        exact ih n (wr A np y) (by omega) (ht.resolve_left c) (fun z hz => wr_lt hz)
theorem M_comes {x : Nat} (h : FM σ) (hA : mI σ 63 = A) (hw : WF A np nh) (hx : x < np) : FX8_comesRound 62 (N x) σ = some (bN (cycB (wr A np) x 10 (wr A np x)), σ) := by
  have hn0 := hw.1.2.1
  have f := M_comes_6 h hA hw.1.1 hn0 hx (fun (x29 : Int32) (σ : Mm) => (if x29 = N x then (rZ 1 σ) else (rZ 0 σ))) 10 fu (wr A np x) (by unfold fu; omega) (wr_cycT hw hx) (fun z hz => wr_lt hz)
  unfold FX8_comesRound
  rw [fm_ck h, M_wearer h (by rw [hA]; exact hw.1.1) hn0, Option.bind_some, hA]
  refine f.trans ?_
  cases cycB (wr A np) x 10 (wr A np x)
  · rw [if_neg Bool.false_ne_true, if_neg (by rw [m1_N (by omega)]; exact id), l0_, rZ_0]; rfl
  · rw [if_pos rfl, if_pos rfl, l1_, rZ_1]; rfl
theorem C_begs {v : Nat} (K : Co np nh σ) (hv : v < np) : FX1_begins 0 (N v) σ = some (bN (swB (mI σ 63) np v), σ) := by
  have hC := K.c; have hr := K.r; have hn0 := K.n0
  have p0 : 2 ^ v < 1024 := Nat.pow_lt_pow_right (n := 10) (by omega) (by omega)
  have one : wr (mI σ 63) np v = none ∨ wr (mI σ 63) np v = some v → swB (mI σ 63) np v = false → FX1_begins 0 (N v) σ = some (bN (swB (mI σ 63) np v), σ) := fun h e => by
    unfold FX1_begins
    rw [fc_ck0 hC, C_ring hC hr K.n hn0 (by omega), Option.bind_some, ring_one hn0 (by omega) h]
    try dsimp only
    rw [J_bitCount (by omega), Option.bind_some, pc_p2 v (by omega)]
    try dsimp only
    rw [if_pos (show N 1 ≤ 1 by decide), l0_, rZ_0, e]; rfl
  cases hu : wr (mI σ 63) np v with
  | none => exact one (Or.inl hu) (by unfold swB; rw [hu])
  | some u =>
    by_cases huv : u = v
    · exact one (Or.inr (by rw [hu, huv])) (by unfold swB; rw [hu]; show (!decide (u = v) && _) = false; rw [decide_eq_true huv]; rfl)
    · have hu10 := wr_lt hu
      obtain ⟨R, h1, h2, h3, h4⟩ := ring_two hn0 (by omega) hu huv
      have p2 := pc_2 h1 (show u < 10 by omega) (show v < 10 by omega) huv h3 h4
      have p3 := pc_10 R h1
      have ll := lb_low R h1 v (by omega) h3
      have lR : lb R < 2147483648 := by
        unfold lb
        cases hf : (List.range 12).find? fun k => R.testBit k with
        | none => rw [Option.getD_none]; omega
        | some a => have := List.mem_range.mp (List.mem_of_find?_eq_some hf); rw [Option.getD_some]; omega
      have eB : swB (mI σ 63) np v = (decide (lb R = v) && cycB (wr (mI σ 63) np) v 10 (wr (mI σ 63) np v)) := by
        unfold swB
        rw [hu]
        try dsimp only
        rw [decide_eq_false huv, h2, N_and]
        have : decide (N (R &&& (2 ^ v - 1)) = N 0) = decide (lb R = v) := by
          have l1 : R &&& (2 ^ v - 1) ≤ R := Nat.and_le_left
          rw [decide_eq_decide, N_inj (by omega) (by omega), ll]
        rw [this]; rfl
      unfold FX1_begins
      rw [fc_ck0 hC, C_ring hC hr K.n hn0 (by omega), Option.bind_some, h2]
      try dsimp only
      rw [J_bitCount (by omega), Option.bind_some]
      try dsimp only
      rw [if_neg (by rw [l1_, N_le (by omega) (by omega)]; omega), J_ntz h1, Option.bind_some]
      try dsimp only
      by_cases c : lb R = v
      · rw [if_pos (by rw [c]), fc_ck0 hC, C_closed K hv, Option.bind_some, eB, decide_eq_true c, Bool.true_and]
        try dsimp only
        cases cycB (wr (mI σ 63) np) v 10 (wr (mI σ 63) np v)
        · rw [if_pos (show bN false = (0 : Int32) from rfl), l0_, rZ_0]; rfl
        · rw [if_neg (show ¬ bN true = (0 : Int32) by decide), l1_, rZ_1]; rfl
      · rw [if_neg (by rw [N_inj (by omega) (by omega)]; exact c), eB, decide_eq_false c, l0_, rZ_0]; rfl
theorem C_swaps_4 (K : Co np nh σ) (Kx : Int32 → Mm → Option (Int32 × Mm)) : ∀ (k v n : Nat) (a : Int32), v + k = np → k < n → FX1_swaps_4 0 n a (N v) σ Kx = Kx (fd (swS (mI σ 63) np nh) v k a) σ := by
  have hC := K.c; have hr := K.r; have hn0 := K.n0
  intro k
  induction k with
  | zero =>
    intro v n a hv hn
    obtain ⟨n, rfl⟩ : ∃ m, n = m + 1 := ⟨n - 1, by omega⟩
    rw [FX1_swaps_4, fc_gR0_0 hC, Option.bind_some, fw_gI hC.1, Option.bind_some, rw1 hr, K.n, if_pos (by rw [N_le (by omega) (by omega)]; omega), fd]
  | succ k ih =>
    intro v n a hv hn
    obtain ⟨n, rfl⟩ : ∃ m, n = m + 1 := ⟨n - 1, by omega⟩
    have fin : ∀ z26 : Int32, z26 = bN (swA (mI σ 63) np nh v) → ((FX1_begins 0 (N v) σ).bind fun (w : Int32 × Mm) => if w.1 = 0 then FX1_swaps_4 0 n ((a + z26) - 0) (N v + 1) w.2 Kx else FX1_swaps_4 0 n ((a + z26) - 1) (N v + 1) w.2 Kx) = Kx (fd (swS (mI σ 63) np nh) v (k + 1) a) σ := fun z26 ez => by
      rw [C_begs K (by omega), Option.bind_some, fd]
      try dsimp only
      have ih' := ih (v + 1) n (swS (mI σ 63) np nh v a) (by omega) (by omega)
      rw [← ih', l1_, N_add, ez]
      unfold swS
      cases swB (mI σ 63) np v
      · rw [if_pos (show bN false = (0 : Int32) from rfl)]; rfl
      · rw [if_neg (show ¬ bN true = (0 : Int32) by decide)]; rfl
    rw [FX1_swaps_4, fc_gR0_0 hC, Option.bind_some, fw_gI hC.1, Option.bind_some, rw1 hr, K.n, if_neg (by rw [N_le (by omega) (by omega)]; omega), fc_ck0 hC, C_isLost hC hr K.n hn0 K.k K.k0, Option.bind_some]
    unfold jn
    try dsimp only
    cases hl : lostB (mI σ 63) np nh (N v)
    · rw [if_pos (show bN false = (0 : Int32) from rfl), fc_gR0_0 hC, Option.bind_some, fw_gR10 hC.1, Option.bind_some, fw_rd3 hC.1 (by omega), Option.bind_some, rwW hr (by omega)]
      by_cases c : PA (mI σ 63) v 2 = N v
      · rw [if_pos c, fc_ck0 hC]
        exact fin 0 (by unfold swA; rw [hl, decide_eq_true ((wr_iff K.w (by omega) (by omega)).mp c)]; rfl)
      · rw [if_neg c, fc_ck0 hC]
        exact fin 1 (by unfold swA; rw [hl, decide_eq_false (fun e => c ((wr_iff K.w (by omega) (by omega)).mpr e))]; rfl)
    · rw [if_neg (show ¬ bN true = (0 : Int32) by decide), fc_ck0 hC]
      exact fin 0 (by unfold swA; rw [hl]; rfl)
theorem M_swaps_9 (h : FM σ) (hA : mI σ 63 = A) (hw : WF A np nh) (Kx : Int32 → Mm → Option (Int32 × Mm)) : ∀ (k v n : Nat) (a : Int32), v + k = np → k < n → FX8_swaps_9 62 n a (N v) σ Kx = Kx (fd (swS A np nh) v k a) σ := by
  have hn0 := hw.1.2.1
  have hnn : mI σ 63 3 = N np := by rw [hA]; exact hw.1.1
  intro k
  induction k with
  | zero =>
    intro v n a hv hn
    obtain ⟨n, rfl⟩ : ∃ m, n = m + 1 := ⟨n - 1, by omega⟩
    rw [FX8_swaps_9, fm_gR1 h, Option.bind_some, l3_, fm_rd63 h (by omega), Option.bind_some, hnn, if_pos (by rw [N_le (by omega) (by omega)]; omega), fd]
  | succ k ih =>
    intro v n a hv hn
    obtain ⟨n, rfl⟩ : ∃ m, n = m + 1 := ⟨n - 1, by omega⟩
    have fin : ∀ z : Int32, z = swS A np nh v a → FX8_swaps_9 62 n z (N v + 1) σ Kx = Kx (fd (swS A np nh) v (k + 1) a) σ := fun z ez => by
      rw [fd, ez, l1_, N_add]
      exact ih (v + 1) n _ (by omega) (by omega)
    have z0 : ∀ x : Int32, x = x + N 0 - N 0 := fun x => by
      show x = x + 0 - 0
      rw [Int32.add_zero, Int32.sub_zero]
    rw [FX8_swaps_9, fm_gR1 h, Option.bind_some, l3_, fm_rd63 h (by omega), Option.bind_some, hnn, if_neg (by rw [N_le (by omega) (by omega)]; omega), fm_ck h, M_isLost h hnn hn0 (by rw [hA]; exact hw.1.2.2.1) hw.1.2.2.2.2.1, Option.bind_some, hA]
    try dsimp only
    cases hl : lostB A np nh (N v)
    · rw [if_pos (show bN false = (0 : Int32) from rfl), fm_ck h, M_wearer h hnn hn0, Option.bind_some, hA, show aWearer A np (N v) = wr A np v from rfl]
      try dsimp only
      by_cases c : wr A np v = some v
      · rw [if_pos (show oN (wr A np v) = N v by rw [c]; rfl)]
        exact fin a (by unfold swS swA swB; rw [hl, c, decide_eq_true rfl]; dsimp only; rw [decide_eq_true rfl]; exact z0 a)
      · have e1 : swA A np nh v = true := by unfold swA; rw [hl, decide_eq_false c]; rfl
        rw [if_neg (fun e => c ((oN_ne (fun y hy => by have := wr_lt hy; omega) (by omega)).mp e)), fm_ck h, M_ring h hnn hn0 (by omega), Option.bind_some, hA]
        try dsimp only
        rw [fm_ck h, M_comes h hA hw (by omega), Option.bind_some]
        try dsimp only
        have e2 : swB A np v = (decide (aRing A np v &&& N (2 ^ v - 1) = N 0) && cycB (wr A np) v 10 (wr A np v)) := by
          unfold swB
          cases hu : wr A np v with
          | none => rw [show cycB (wr A np) v 10 none = false from rfl, Bool.and_false]
          | some u =>
            try dsimp only
            rw [decide_eq_false (fun e => c (by rw [hu, e])), Bool.not_false, Bool.true_and]
        cases hc : cycB (wr A np) v 10 (wr A np v)
        · rw [if_pos (show bN false = (0 : Int32) from rfl)]
          exact fin _ (by unfold swS; rw [e1, e2, hc, Bool.and_false]; show a + 1 = a + 1 - 0; rw [Int32.sub_zero])
        · rw [if_neg (show ¬ bN true = (0 : Int32) by decide)]
          rw [hc, Bool.and_true] at e2
          have e3 : (1 <<< (N v &&& 31)) - 1 = N (2 ^ v - 1) := all_N v (by omega)
          rw [e3, l0_]
          by_cases c2 : aRing A np v &&& N (2 ^ v - 1) = N 0
          · rw [if_pos c2]
            exact fin _ (by unfold swS; rw [e1, e2, decide_eq_true c2]; show a + 1 + (-1) = a + 1 - 1; rw [Int32.sub_eq_add_neg])
          · rw [if_neg c2]
            exact fin _ (by unfold swS; rw [e1, e2, decide_eq_false c2]; show a + 1 = a + 1 - 0; rw [Int32.sub_zero])
    · rw [if_neg (show ¬ bN true = (0 : Int32) by decide)]
      have e0 : wr A np v = none := by
        unfold lostB at hl
        rw [Bool.and_eq_true, Option.isNone_iff_eq_none] at hl
        exact hl.1
      exact fin a (by unfold swS swA swB; rw [hl, e0]; exact z0 a)
theorem q_swaps (K : Co np nh σ) : QN (FX1_swaps 0) (FX8_swaps 62) σ := by
  have h := K.m
  refine ⟨fd (swS (mI σ 63) np nh) 0 np (N 0), σ, thr_ σ 0, ?_, ?_, thr_k⟩
  · unfold FX1_swaps
    rw [l0_, C_swaps_4 K _ np 0 fu (N 0) (by omega) (by have := K.n0; unfold fu; omega)]
  · unfold FX8_swaps
    rw [l0_, fm_pI h, Option.bind_some, thr_w, M_swaps_9 (FM_t h) rfl (by rw [thr_63]; exact K.w) _ np 0 fu (N 0) (by omega) (by have := K.n0; unfold fu; omega), thr_63]
end
