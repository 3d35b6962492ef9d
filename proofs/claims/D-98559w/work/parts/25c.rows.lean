/-! THE PLAIN LAW, 133: what each may wear -/
set_option maxRecDepth 100000
def O2 (a b : Nat) (σ τ : Mm) : Prop := mS τ = mS σ ∧ mL τ = mL σ ∧ mR τ = mR σ ∧ mN τ = mN σ ∧ ∀ p, p ≠ a → p ≠ b → mI τ p = mI σ p
theorem O2.rf {a b : Nat} {σ : Mm} : O2 a b σ σ := ⟨rfl, rfl, rfl, rfl, fun _ _ _ => rfl⟩
theorem O2.tr {a b : Nat} {σ τ υ : Mm} (h : O2 a b σ τ) (g : O2 a b τ υ) : O2 a b σ υ := ⟨g.1.trans h.1, g.2.1.trans h.2.1, g.2.2.1.trans h.2.2.1, g.2.2.2.1.trans h.2.2.2.1, fun p x y => (g.2.2.2.2 p x y).trans (h.2.2.2.2 p x y)⟩
theorem O2.w {a b p : Nat} {σ : Mm} {f : Nat → Int32} (hp : p = a ∨ p = b) : O2 a b σ (wA σ p f) := ⟨rfl, rfl, rfl, rfl, fun q x y => by rw [mI_wA, if_neg (by omega)]⟩
theorem O2.e {a b p : Nat} {σ τ : Mm} (h : O2 a b σ τ) (hp : p ≠ a ∧ p ≠ b) : mI τ p = mI σ p := h.2.2.2.2 p hp.1 hp.2
theorem O2.ewc {σ τ : Mm} (h : O2 45 46 σ τ) : EW σ τ := ⟨h.1, h.2.1, h.2.2.1, h.2.2.2.1, fun p a b c d e f i j => h.2.2.2.2 p b c, by rw [h.e (by omega)], fun k _ _ _ => by rw [h.e (by omega)]⟩
theorem O2.ewm {σ τ : Mm} (h : O2 70 71 σ τ) : EW σ τ := ⟨h.1, h.2.1, h.2.2.1, h.2.2.2.1, fun p a b c d e f i j => h.2.2.2.2 p f i, by rw [h.e (by omega)], fun k _ _ _ => by rw [h.e (by omega)]⟩
def mkS (T : Nat → Nat) (v : Nat) (m : Nat → Nat) : Nat → Nat := up1 m (T (3 * v)) (m (T (3 * v)) &&& (if T (3 * v + 2) = 1 then 2 ^ T (3 * v + 1) else 1023 - 2 ^ T (3 * v + 1)))
def myF (T : Nat → Nat) (S : Nat) : Nat → Nat → (Nat → Nat) → Nat → Nat
  | 0, _, m => m
  | k + 1, v, m => myF T S k (v + 1) (if S.testBit v then mkS T v m else m)
def myR (T : Nat → Nat) (np S q : Nat) : Nat → Nat := myF T S q 0 (fun _ => 2 ^ np - 1)
theorem mkS_le {T : Nat → Nat} {v B : Nat} {m : Nat → Nat} (h : ∀ j, m j < B) : ∀ j, mkS T v m j < B := by
  intro j
  unfold mkS
  rw [up1_app]
  split
  · exact Nat.lt_of_le_of_lt Nat.and_le_left (h _)
  · exact h j
theorem myF_le {T : Nat → Nat} {S B : Nat} : ∀ k v m, (∀ j, m j < B) → ∀ j, myF T S k v m j < B := by
  intro k
  induction k with
  | zero => intro v m h; exact h
  | succ k ih =>
    intro v m h
    rw [myF]
    refine ih _ _ ?_
    split
    · exact mkS_le h
    · exact h
theorem myR_lt {T : Nat → Nat} {np S q : Nat} : ∀ j, myR T np S q j < 2 ^ np := myF_le _ _ _ fun _ => by have := Nat.two_pow_pos np; omega
theorem myF_cg {T : Nat → Nat} {S S' : Nat} : ∀ k v m, (∀ j, v ≤ j → j < v + k → S.testBit j = S'.testBit j) → myF T S k v m = myF T S' k v m := by
  intro k
  induction k with
  | zero => intro v m _; rfl
  | succ k ih =>
    intro v m h
    rw [myF, myF, h v (by omega) (by omega), ih (v + 1) _ fun j h1 h2 => h j (by omega) (by omega)]
theorem cb_N {t : Nat} (h : t < 128) : cb t = N t := by unfold cb; exact if_pos h
theorem and_bt {m b : Nat} (hb : b < 10) : N m &&& (1 <<< (N b &&& 31)) = N (m &&& 2 ^ b) := by
  show N m &&& bt b = _
  rw [bt_N b (by omega), N_and]
section
variable {np nh n L : Nat} {σ : Mm} {T : Nat → Nat} {m : Nat → Nat}
theorem C_sayO {a b c : Nat} {τ : Mm} (hC : FC τ) (ha : a < 10) (hb : b < 10) (hm : m a < 1024) (h45 : mI τ 45 a = N (m a)) : FX6_says 44 (N a) (N b) (N (if c = 1 then 1 else 0)) τ = some (wA τ 45 (up1 (mI τ 45) a (N (m a &&& (if c = 1 then 2 ^ b else 1023 - 2 ^ b))))) := by
  unfold FX6_says jn
  rw [fc_gR44_0 hC, Option.bind_some, fc_rd45 hC ha, Option.bind_some, h45]
  try dsimp only
  by_cases d : c = 1
  · rw [if_pos d, if_pos d, if_neg (show ¬ N 1 = 0 by decide), and_bt hb, fc_wr45 hC ha, Option.bind_some]
  · have e : N (m a) &&& ((1 <<< (N b &&& 31)) ^^^ (-1)) = N (m a &&& (1023 - 2 ^ b)) := nb_and hm hb
    rw [if_neg d, if_neg d, if_pos (show N 0 = 0 from rfl), e, fc_wr45 hC ha, Option.bind_some]
theorem C_by_19 {S : Nat} {y1 : Int32} (K : KR np nh n σ) (h37 : mI σ 37 2 = N L) (hL : L ≤ 36) (h3 : L % 3 = 0) (hT : ∀ k, k < L → bo T np k = true ∧ mI σ 38 k = cb (T k)) (hS : S < 4096) (hy : y1 = N S) (Kx : Mm → Option (Option Nat × Mm)) : ∀ (k v f : Nat) (m : Nat → Nat) (τ : Mm), v + k = L / 3 → k < f → O2 45 46 σ τ → (∀ j, m j < 1024) → (∀ j, j < np → mI τ 45 j = N (m j)) → ∃ τ', FX6_by_19 44 y1 f (N v) τ Kx = Kx τ' ∧ O2 45 46 σ τ' ∧ ∀ j, j < np → mI τ' 45 j = N (myF T S k v m j) := by
  have hn0 := K.1.n0
  intro k
  induction k with
  | zero =>
    intro v f m τ hv hf hO hm h45
    obtain ⟨f, rfl⟩ : ∃ m, f = m + 1 := ⟨f - 1, by omega⟩
    have K' := (hO.ewc.kr K).1
    have hC := K'.c
    refine ⟨τ, ?_, hO, h45⟩
    rw [FX6_by_19, fc_gR44_2 hC, Option.bind_some, fc_gR0_4 hC, Option.bind_some, fc_gI37 hC, Option.bind_some, hO.e (by omega), h37, l3_, N_mul, if_pos (by rw [N_le (by omega) (by omega)]; omega)]
  | succ k ih =>
    intro v f m τ hv hf hO hm h45
    obtain ⟨f, rfl⟩ : ∃ m, f = m + 1 := ⟨f - 1, by omega⟩
    have K' := (hO.ewc.kr K).1
    have hC := K'.c
    have e38 : mI τ 38 = mI σ 38 := hO.e (by omega)
    obtain ⟨a1, a2⟩ := hT (3 * v) (by omega)
    obtain ⟨b1, b2⟩ := hT (3 * v + 1) (by omega)
    obtain ⟨c1, c2⟩ := hT (3 * v + 2) (by omega)
    unfold bo at a1 b1 c1
    rw [if_neg (by omega), decide_eq_true_iff] at a1 b1
    rw [if_pos (by omega), decide_eq_true_iff] at c1
    rw [cb_N (by omega)] at a2 b2 c2
    rw [FX6_by_19, fc_gR44_2 hC, Option.bind_some, fc_gR0_4 hC, Option.bind_some, fc_gI37 hC, Option.bind_some, hO.e (by omega), h37, l3_, N_mul, if_neg (by rw [N_le (by omega) (by omega)]; omega), hy, C_has, Option.bind_some, l1_, N_add]
    try dsimp only
    simp (disch := omega) only [tb_N]
    rw [myF, ← hy]
    by_cases cs : S.testBit v = true
    · obtain ⟨τ', t1, t2, t3⟩ := ih (v + 1) f (mkS T v m) (wA τ 45 (up1 (mI τ 45) (T (3 * v)) (N (m (T (3 * v)) &&& (if T (3 * v + 2) = 1 then 2 ^ T (3 * v + 1) else 1023 - 2 ^ T (3 * v + 1)))))) (by omega) (by omega) (hO.tr (O2.w (by omega))) (mkS_le hm) (fun j hj => by
        rw [mI_wA, if_pos rfl, up1_app]
        unfold mkS
        rw [up1_app]
        by_cases e : j = T (3 * v)
        · rw [if_pos e, if_pos e]
        · rw [if_neg e, if_neg e]; exact h45 j hj)
      rw [if_pos cs, if_pos cs]
      refine ⟨τ', ?_, t2, t3⟩
      have sy := C_sayO (c := T (3 * v + 2)) hC (show T (3 * v) < 10 by omega) (show T (3 * v + 1) < 10 by omega) (hm _) (h45 _ a1)
      rw [if_neg (show ¬ N 1 = 0 by decide), fc_gR44_2 hC, Option.bind_some, fc_gR0_4 hC, Option.bind_some, fc_gR37_0 hC, Option.bind_some, fc_rd38 hC (by omega), Option.bind_some, e38, a2, Option.bind_some, fc_gR0_4 hC, Option.bind_some, fc_gR37_0 hC, Option.bind_some, N_add, fc_rd38 hC (by omega), Option.bind_some, e38, b2, Option.bind_some, fc_gR0_4 hC, Option.bind_some, fc_gR37_0 hC, Option.bind_some, l2_, N_add, fc_rd38 hC (by omega), Option.bind_some, e38, c2]
      unfold jn
      try dsimp only
      by_cases d : T (3 * v + 2) = 1
      · rw [if_pos d] at sy
        rw [if_pos (by rw [d]), fc_ck44 hC, sy, Option.bind_some, t1]
      · rw [if_neg d] at sy
        rw [if_neg (by rw [N_inj (by omega) (by omega)]; exact d), l0_, fc_ck44 hC, sy, Option.bind_some, t1]
    · obtain ⟨τ', t1, t2, t3⟩ := ih (v + 1) f m τ (by omega) (by omega) hO hm h45
      rw [if_neg cs, if_neg cs]
      exact ⟨τ', by rw [if_pos (show N 0 = 0 from rfl), t1], t2, t3⟩
theorem C_byS {S : Nat} (K : KR np nh n σ) (h37 : mI σ 37 2 = N L) (hL : L ≤ 36) (h3 : L % 3 = 0) (hT : ∀ k, k < L → bo T np k = true ∧ mI σ 38 k = cb (T k)) (hS : S < 4096) {τ : Mm} (hO : O2 45 46 σ τ) : ∃ τ', FX6_by 44 (N S) τ = some (some 44, τ') ∧ O2 45 46 σ τ' ∧ ∀ j, j < np → mI τ' 45 j = N (myR T np S (L / 3) j) := by
  have K' := (hO.ewc.kr K).1
  have hC := K'.c; have hn0 := K'.n0
  have p1 := Nat.two_pow_pos np
  have p2 : 2 ^ np ≤ 2 ^ 10 := Nat.pow_le_pow_right (by omega) hn0
  have ea : FX2_all 1 τ = some (N (2 ^ np - 1), τ) := by
    unfold FX2_all
    rw [fw_gI hC.1, Option.bind_some, rw1 K'.r, K'.n]
    exact congrArg (fun x => some (x, τ)) (all_N np hn0)
  have ef : FJ0_fill (some 45) (N (2 ^ np - 1)) τ = some (wA τ 45 (fl (mI τ 45) (fun _ => N (2 ^ np - 1)) 0 10)) := J_fill hC.2.2.2.2.2.2.2.2.2.2.2.2.2.2.1.1 hC.2.2.2.2.2.2.2.2.2.2.2.2.2.2.1.2 (by omega)
  obtain ⟨τ', t1, t2, t3⟩ := C_by_19 (y1 := N S) K h37 hL h3 hT hS rfl (fun (σ : Mm) => some ((some 44), σ)) (L / 3) 0 fu (fun _ => 2 ^ np - 1) (wA τ 45 (fl (mI τ 45) (fun _ => N (2 ^ np - 1)) 0 10)) (by omega) (by unfold fu; omega) (hO.tr (O2.w (by omega))) (fun _ => by omega) (fun j hj => by rw [mI_wA, if_pos rfl]; exact if_pos ⟨by omega, by omega⟩)
  refine ⟨τ', ?_, t2, t3⟩
  unfold FX6_by
  rw [fc_gR44_0 hC, Option.bind_some, fc_gR44_2 hC, Option.bind_some, fc_gR0_0 hC, Option.bind_some, fw_rv hC.1, Option.bind_some, ea, Option.bind_some]
  try dsimp only
  rw [ef, Option.bind_some, l0_, t1]
theorem M_owned_9 {y1 : Int32} (h : FM σ) (hn0 : np ≤ 10) (Kx : Mm → Option (Int32 × Mm)) : ∀ (k v f : Nat) (τ : Mm), v + k = np → k < f → O2 70 71 σ τ → ∃ τ', FX8_owned_9 62 y1 (N np) f (N v) τ Kx = Kx τ' ∧ O2 70 71 σ τ' ∧ (∀ j, v ≤ j → j < np → mI τ' 70 j = N (2 ^ np - 1)) ∧ ∀ j, j < v → mI τ' 70 j = mI τ 70 j := by
  intro k
  induction k with
  | zero =>
    intro v f τ hv hf hO
    obtain ⟨f, rfl⟩ : ∃ m, f = m + 1 := ⟨f - 1, by omega⟩
    exact ⟨τ, by rw [FX8_owned_9, if_pos (by rw [N_le (by omega) (by omega)]; omega)], hO, fun j h1 h2 => by omega, fun _ _ => rfl⟩
  | succ k ih =>
    intro v f τ hv hf hO
    obtain ⟨f, rfl⟩ : ∃ m, f = m + 1 := ⟨f - 1, by omega⟩
    have h' : FM τ := FM_at (fun q _ => by rw [hO.1, hO.2.1]; exact ⟨rfl, rfl⟩) (by rw [hO.2.2.1]) h
    obtain ⟨τ', t1, t2, t3, t4⟩ := ih (v + 1) f (wA τ 70 (up1 (mI τ 70) v (N (2 ^ np - 1)))) (by omega) (by omega) (hO.tr (O2.w (by omega)))
    refine ⟨τ', ?_, t2, fun j h1 h2 => ?_, fun j hj => ?_⟩
    · have e1 : (1 <<< (N np &&& 31)) - 1 = N (2 ^ np - 1) := all_N np hn0
      rw [FX8_owned_9, if_neg (by rw [N_le (by omega) (by omega)]; omega), fm_gR21 h', Option.bind_some, e1, fm_wr70 h' (by omega), Option.bind_some, l1_, N_add, t1]
    · by_cases e : j = v
      · subst e; rw [t4 j (by omega), mI_wA, if_pos rfl, up1_app, if_pos rfl]
      · exact t3 j (by omega) h2
    · rw [t4 j (by omega), mI_wA, if_pos rfl, up1_app, if_neg (by omega)]
theorem M_owned_33 {S : Nat} {y1 : Int32} (h : FM σ) (hn0 : np ≤ 10) (h20 : mI σ 62 20 = N (L / 3)) (hL : L ≤ 36) (h3 : L % 3 = 0) (hT : ∀ k, k < L → bo T np k = true ∧ mI σ 69 k = N (T k)) (hS : S < 4096) (hy : y1 = N S) (Kx : Mm → Option (Int32 × Mm)) : ∀ (k v f : Nat) (m : Nat → Nat) (τ : Mm), v + k = L / 3 → k < f → O2 70 71 σ τ → (∀ j, m j < 1024) → (∀ j, j < np → mI τ 70 j = N (m j)) → ∃ τ', FX8_owned_33 62 y1 f (N v) τ Kx = Kx τ' ∧ O2 70 71 σ τ' ∧ ∀ j, j < np → mI τ' 70 j = N (myF T S k v m j) := by
  intro k
  induction k with
  | zero =>
    intro v f m τ hv hf hO hm h70
    obtain ⟨f, rfl⟩ : ∃ m, f = m + 1 := ⟨f - 1, by omega⟩
    have h' : FM τ := FM_at (fun q _ => by rw [hO.1, hO.2.1]; exact ⟨rfl, rfl⟩) (by rw [hO.2.2.1]) h
    refine ⟨τ, ?_, hO, h70⟩
    rw [FX8_owned_33, fm_gI h', Option.bind_some, hO.e (by omega), h20, if_pos (by rw [N_le (by omega) (by omega)]; omega)]
  | succ k ih =>
    intro v f m τ hv hf hO hm h70
    obtain ⟨f, rfl⟩ : ∃ m, f = m + 1 := ⟨f - 1, by omega⟩
    have h' : FM τ := FM_at (fun q _ => by rw [hO.1, hO.2.1]; exact ⟨rfl, rfl⟩) (by rw [hO.2.2.1]) h
    have e69 : mI τ 69 = mI σ 69 := hO.e (by omega)
    obtain ⟨a1, a2⟩ := hT (3 * v) (by omega)
    obtain ⟨b1, b2⟩ := hT (3 * v + 1) (by omega)
    obtain ⟨c1, c2⟩ := hT (3 * v + 2) (by omega)
    unfold bo at a1 b1 c1
    rw [if_neg (by omega), decide_eq_true_iff] at a1 b1
    rw [if_pos (by omega), decide_eq_true_iff] at c1
    rw [FX8_owned_33, fm_gI h', Option.bind_some, hO.e (by omega), h20, if_neg (by rw [N_le (by omega) (by omega)]; omega), hy, M_isOf, Option.bind_some, m1_, l1_, N_add]
    try dsimp only
    simp (disch := omega) only [tb_N]
    rw [myF, ← hy]
    by_cases cs : S.testBit v = true
    · obtain ⟨τ', t1, t2, t3⟩ := ih (v + 1) f (mkS T v m) (wA τ 70 (up1 (mI τ 70) (T (3 * v)) (N (m (T (3 * v)) &&& (if T (3 * v + 2) = 1 then 2 ^ T (3 * v + 1) else 1023 - 2 ^ T (3 * v + 1)))))) (by omega) (by omega) (hO.tr (O2.w (by omega))) (mkS_le hm) (fun j hj => by
        rw [mI_wA, if_pos rfl, up1_app]
        unfold mkS
        rw [up1_app]
        by_cases e : j = T (3 * v)
        · rw [if_pos e, if_pos e]
        · rw [if_neg e, if_neg e]; exact h70 j hj)
      rw [if_pos cs, if_pos cs]
      refine ⟨τ', ?_, t2, t3⟩
      rw [if_neg (show ¬ N 1 = 0 by decide), fm_gR19 h', Option.bind_some, l3_, N_mul, N_add, fm_rd69 h' (by omega), Option.bind_some, e69, b2, fm_gR21 h', Option.bind_some, Option.bind_some, fm_rd69 h' (by omega), Option.bind_some, e69, a2, fm_rd70 h' (by omega), Option.bind_some, h70 _ a1, Option.bind_some, l2_, N_add, fm_rd69 h' (by omega), Option.bind_some, e69, c2]
      unfold jn
      try dsimp only
      by_cases d : T (3 * v + 2) = 1
      · rw [if_pos d] at t1
        rw [if_pos (by rw [d]), show N (m (T (3 * v))) &&& (N 1 <<< (N (T (3 * v + 1)) &&& 31)) = N (m (T (3 * v)) &&& 2 ^ T (3 * v + 1)) from and_bt (by omega), fm_wr70 h' (by omega), Option.bind_some, t1]
      · have e : N (m (T (3 * v))) &&& ((N 1 <<< (N (T (3 * v + 1)) &&& 31)) ^^^ M1) = N (m (T (3 * v)) &&& (1023 - 2 ^ T (3 * v + 1))) := nb_and (hm _) (by omega)
        rw [if_neg d] at t1
        rw [if_neg (by rw [N_inj (by omega) (by omega)]; exact d), e, fm_wr70 h' (by omega), Option.bind_some, t1]
    · obtain ⟨τ', t1, t2, t3⟩ := ih (v + 1) f m τ (by omega) (by omega) hO hm h70
      rw [if_neg cs, if_neg cs]
      exact ⟨τ', by rw [if_pos (show N 0 = 0 from rfl), t1], t2, t3⟩
end
