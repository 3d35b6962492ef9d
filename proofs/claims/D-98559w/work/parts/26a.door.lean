/-! THE PLAIN LAW, 139: the door's words and marks -/
set_option maxRecDepth 100000
/-- a String whose hash may be known -/
def STW (q v n : Nat) (f : Nat → Nat) (τ : Mm) : Prop := (mS τ q = 20 ∧ mR τ q 0 = some v ∧ mI τ q 1 = N 0) ∧ mS τ v = 101 ∧ mL τ v = n ∧ ∀ i, i < n → mI τ v i = N (f i) ∧ f i < 128
theorem E_k01w {q v cq n : Nat} {f : Nat → Nat} {w : List Nat} {τ : Mm} (hS : STW q v n f τ) (hK : KW cq w τ) (hq : q < BIG) (hcq : BIG ≤ cq) (hk : kS cq = 520) (hn : n < 1000) : FJ6_equalsk01 q (some cq) τ = some (bN (decide (n = w.length ∧ ∀ i, i < w.length → f i = w.getD i 0)), τ) := by
  obtain ⟨⟨s1, s2, s3⟩, s6, s7, s8⟩ := hS
  obtain ⟨k1, k2, k3, k4, k5, k6, k7⟩ := hK
  have hd : dif q (some cq) = true := by
    unfold dif
    simp [hq, hcq, hk]
  have lp : ∀ (kx ky : Mm → Option (Int32 × Mm)), n = w.length → ∀ (j i m : Nat), i + j = n → j < m → FJ10_equalsk01_9 (some v) (some (cq + 1)) m (N i) τ kx ky = if ∀ i', i' < n → i ≤ i' → f i' = w.getD i' 0 then kx τ else ky τ := fun kx ky hnw j => by
    induction j with
    | zero =>
      intro i m hi hm
      obtain ⟨m, rfl⟩ : ∃ m', m = m' + 1 := ⟨m - 1, by omega⟩
      rw [FJ10_equalsk01_9, aL_s s6 s7, Option.bind_some, if_pos (by rw [N_le (by omega) (by omega)]; omega), if_pos (fun i' h1 h2 => by omega)]
    | succ j ih =>
      intro i m hi hm
      obtain ⟨m, rfl⟩ : ∃ m', m = m' + 1 := ⟨m - 1, by omega⟩
      have a1 := s8 i (by omega)
      have a2 := k7 i (by omega)
      rw [FJ10_equalsk01_9, aL_s s6 s7, Option.bind_some, if_neg (by rw [N_le (by omega) (by omega)]; omega), aI_N s6 s7 (by omega) (by omega), Option.bind_some, aI_N k4 k5 (by omega) (by omega), Option.bind_some, a1.1, a2.1]
      by_cases h3 : f i = w.getD i 0
      · rw [if_pos (by rw [h3]), l1_, N_add, ih (i + 1) m (by omega) (by omega)]
        by_cases h4 : ∀ i', i' < n → i + 1 ≤ i' → f i' = w.getD i' 0
        · rw [if_pos h4, if_pos (fun i' h1 h2 => by
            by_cases e1 : i' = i
            · rw [e1]; exact h3
            · exact h4 i' (by omega) (by omega))]
        · rw [if_neg h4, if_neg (fun h5 => h4 fun i' h1 h2 => h5 i' (by omega) (by omega))]
      · rw [if_neg (by rw [N_inj (by omega) (by omega)]; exact h3), if_neg (fun h5 => h3 (h5 i (by omega) (by omega)))]
  unfold FJ6_equalsk01 jn FJ10_equalsk01
  dsimp only
  rw [if_pos hd, rv_s k1, Option.bind_some, if_neg (by decide), Option.bind_some, if_neg (by decide), gI_s s1, Option.bind_some, gI_s k1, Option.bind_some, s3, k3, if_pos rfl, gR_s s1 s2, Option.bind_some, gR_s k1 k2, Option.bind_some, aL_s s6 s7, Option.bind_some, aL_s k4 k5, Option.bind_some]
  by_cases hnw : n = w.length
  · rw [if_pos (by rw [hnw]), l0_, lp _ _ hnw n 0 fu (by omega) (by unfold fu; omega)]
    by_cases h4 : ∀ i', i' < n → 0 ≤ i' → f i' = w.getD i' 0
    · rw [if_pos h4, decide_eq_true ⟨hnw, fun i hi => h4 i (by omega) (by omega)⟩, l1_, rZ_1, Option.bind_some]
      exact (if_neg (show ¬ (N 1 : Int32) = N 0 by decide)).trans (rZ_1 _)
    · rw [if_neg h4, decide_eq_false (fun h5 => h4 fun i hi _ => h5.2 i (by omega)), rZ_0, Option.bind_some]
      exact (if_pos rfl).trans (rZ_0 _)
  · rw [if_neg (by rw [N_inj (by omega) (by omega)]; exact hnw), decide_eq_false (fun h5 => hnw h5.1), l0_, rZ_0, Option.bind_some]
    exact (if_pos rfl).trans (rZ_0 _)

/-! the hash -/
def hsF (f : Nat → Nat) : Nat → Nat → Int32 → Int32
  | 0, _, h => h
  | k + 1, i, h => hsF f k (i + 1) (31 * h + N (f i))
def hsS (n : Nat) (f : Nat → Nat) : Int32 := if n = 1 then N (f 0) else hsF f n 0 0
theorem hsF_cg {f g : Nat → Nat} : ∀ k i h, (∀ j, i ≤ j → j < i + k → f j = g j) → hsF f k i h = hsF g k i h := by
  intro k
  induction k with
  | zero => intro i h _; rfl
  | succ k ih =>
    intro i h hh
    rw [hsF, hsF, hh i (by omega) (by omega)]
    exact ih _ _ fun j h1 h2 => hh j (by omega) (by omega)
theorem and255 : ∀ t, t < 128 → N t &&& 255 = N t := by decide +kernel
theorem J_hash_8 {v n : Nat} {f : Nat → Nat} {τ : Mm} (h1 : mS τ v = 101) (h2 : mL τ v = n) (h3 : ∀ i, i < n → mI τ v i = N (f i) ∧ f i < 128) (hn : n < 1000) (Kx : Int32 → Mm → Option (Int32 × Mm)) : ∀ (k i m : Nat) (h : Int32), i + k = n → k < m → FJ8_signedHashCode_8 (some v) (N n) m h (N i) τ Kx = Kx (hsF f k i h) τ := by
  intro k
  induction k with
  | zero =>
    intro i m h hi hm
    obtain ⟨m, rfl⟩ : ∃ x, m = x + 1 := ⟨m - 1, by omega⟩
    rw [FJ8_signedHashCode_8, if_pos (by rw [N_le (by omega) (by omega)]; omega)]
    rfl
  | succ k ih =>
    intro i m h hi hm
    obtain ⟨m, rfl⟩ : ∃ x, m = x + 1 := ⟨m - 1, by omega⟩
    obtain ⟨a, b⟩ := h3 i (by omega)
    rw [FJ8_signedHashCode_8, if_neg (by rw [N_le (by omega) (by omega)]; omega), aI_N h1 h2 (by omega) (by omega), Option.bind_some, a, and255 _ b, l1_, N_add]
    exact ih (i + 1) m _ (by omega) (by omega)
theorem J_hash {q v n : Nat} {f : Nat → Nat} {τ : Mm} (hS : STR q v n f τ) (hn : n < 1000) (hqv : q ≠ v) : ∃ g, FJ6_hashCode q τ = some (hsS n f, wA τ q g) ∧ STW q v n f (wA τ q g) := by
  obtain ⟨⟨s1, s2, s3, s4, s5⟩, s6, s7, s8⟩ := hS
  have run : FJ10_hashCode (some v) τ = some (hsS n f, τ) := by
    unfold FJ10_hashCode
    rw [aL_s s6 s7, Option.bind_some]
    by_cases n0 : n = 0
    · rw [if_pos (by rw [n0]; rfl)]
      unfold hsS
      rw [if_neg (by omega), n0]; rfl
    · rw [if_neg (by rw [l0_, N_inj (by omega) (by omega)]; exact n0)]
      by_cases n1 : n = 1
      · obtain ⟨a, b⟩ := s8 0 (by omega)
        rw [if_pos (by rw [n1]; rfl), l0_, aI_N s6 s7 (by omega) (by omega), Option.bind_some, a, and255 _ b]
        unfold hsS
        rw [if_pos n1]
      · rw [if_neg (by rw [l1_, N_inj (by omega) (by omega)]; exact n1), Option.bind_some]
        unfold FJ8_vectorizedHashCode FJ8_signedHashCode
        rw [if_pos rfl, rv_s s6, Option.bind_some]
        have e0 : (0 : Int32) + N n = N n := Int32.zero_add _
        have r := J_hash_8 s6 s7 s8 hn (fun (x23 : Int32) (σ : Mm) => some (x23, σ)) n 0 fu 0 (by omega) (by unfold fu; omega)
        rw [e0]
        refine (congrArg (fun o => Option.bind (Option.bind o _) _) r).trans ?_
        unfold hsS
        rw [if_neg n1]
        rfl
  have st : ∀ g : Nat → Int32, g 1 = N 0 → STW q v n f (wA τ q g) := fun g hg => ⟨⟨s1, s2, by rw [mI_wA, if_pos rfl]; exact hg⟩, s6, s7, fun i hi => by rw [mI_wA, if_neg (fun e => hqv e.symm)]; exact s8 i hi⟩
  have hl : FJ6_isLatin1 q τ = some (N 1, τ) := by
    unfold FJ6_isLatin1
    rw [if_neg (by decide), gI_s s1, Option.bind_some, s3, if_pos (show N 0 = 0 from rfl), l1_, rZ_1]
  unfold FJ6_hashCode
  rw [gI_s s1, Option.bind_some, s4, if_pos (show N 0 = 0 from rfl), gI_s s1, Option.bind_some, s5, if_pos (show N 0 = 0 from rfl), ck_s s1, hl, Option.bind_some]
  try dsimp only
  rw [if_neg (show ¬ N 1 = 0 by decide), gR_s s1 s2, Option.bind_some, run, Option.bind_some]
  try dsimp only
  by_cases c : hsS n f = 0
  · refine ⟨up1 (mI τ q) 3 (N 1), ?_, st _ (by rw [up1_app, if_neg (by omega)]; exact s3)⟩
    rw [if_pos c, pZ_s s1 (Or.inr rfl), Option.bind_some]
    rfl
  · refine ⟨up1 (mI τ q) 2 (hsS n f), ?_, st _ (by rw [up1_app, if_neg (by omega)]; exact s3)⟩
    rw [if_neg c, pI_s s1, Option.bind_some]
/-! the marks -/
def mo (T : Nat → Nat) (b : Nat) : Nat → Bool
  | 0 => true
  | i + 1 => mo T b i && (decide (i < 8) && decide (T (b + i) ≤ 49))
def mv (T : Nat → Nat) (b : Nat) : Nat → Nat
  | 0 => 0
  | i + 1 => if (mo T b (i + 1) && decide (T (b + i) = 49)) = true then mv T b i ||| 2 ^ i else mv T b i
theorem mv_lt {T : Nat → Nat} {b : Nat} : ∀ i, mv T b i < 256 := by
  intro i
  induction i with
  | zero => exact (by omega : 0 < 256)
  | succ i ih =>
    rw [mv]
    split
    · next h =>
      rw [mo, Bool.and_eq_true, Bool.and_eq_true, Bool.and_eq_true, decide_eq_true_iff] at h
      exact Nat.or_lt_two_pow (n := 8) ih (Nat.pow_lt_pow_right (by omega) h.1.2.1)
    · exact ih
def markP (T : Nat → Nat) (e k : Nat) : PR Nat :=
  let k1 := sk T e k
  let k2 := dg T e k1
  if (mo T k1 (k2 - k1) && decide (k2 - k1 = 8)) = true then .ok (mv T k1 (k2 - k1), k2) else .error k1
section
variable {T : Nat → Nat} {e k : Nat} {σ : Mm} {b d f : Int32}
/-- a figure's part in the marks -/
theorem mk_step {b0 i : Nat} {α : Type} {F : Int32 → Int32 → α} {z : Int32} (hz : z = bN (mo T b0 (i + 1))) : (if z = 0 then F (N (mv T b0 i)) z else if N (T (b0 + i)) = 49 then F (N (mv T b0 i) ||| (N 1 <<< (N i &&& 31))) z else F (N (mv T b0 i)) z) = F (N (mv T b0 (i + 1))) (bN (mo T b0 (i + 1))) ∨ 256 ≤ T (b0 + i) := by
  by_cases h9 : 256 ≤ T (b0 + i)
  · exact Or.inr h9
  · refine Or.inl ?_
    rw [hz, mv]
    cases h : mo T b0 (i + 1) with
    | false => rw [if_pos (show bN false = (0 : Int32) from rfl), Bool.false_and, if_neg Bool.false_ne_true]
    | true =>
      have h8 : i < 8 := by
        rw [mo, Bool.and_eq_true, Bool.and_eq_true, decide_eq_true_iff] at h
        exact h.2.1
      rw [if_neg (show ¬ bN true = (0 : Int32) by decide), Bool.true_and]
      by_cases c : T (b0 + i) = 49
      · have eo : N (mv T b0 i) ||| (N 1 <<< (N i &&& 31)) = N (mv T b0 i ||| 2 ^ i) := bt_or (by omega)
        rw [if_pos (by rw [c]; rfl), if_pos (decide_eq_true c), eo]
      · rw [if_neg (show ¬ N (T (b0 + i)) = 49 by show ¬ N (T (b0 + i)) = N 49; rw [N_inj (by omega) (by omega)]; exact c), if_neg (by rw [decide_eq_false c]; exact Bool.false_ne_true)]
theorem C_marks_13 (hT : TX T e) (h : RT T e σ) (kx : Int32 → Int32 → Mm → DX (Int32 × Mm)) (b0 : Nat) (hb : b0 ≤ e) : ∀ (j i n : Nat), b0 + i + j = dg T e b0 → j < n → FX1_marksTold_13 (some 37) n (N (mv T b0 i)) (bN (mo T b0 i)) (rs σ (N (b0 + i)) (N b0) d) kx = kx (N (mv T b0 (dg T e b0 - b0))) (bN (mo T b0 (dg T e b0 - b0))) (rs σ (N (dg T e b0)) (N b0) d) := by
  have he := hT.1
  have hd := dg_le (T := T) hb
  have hg := dg_ge (T := T) (e := e) (k := b0)
  have hrv : ∀ a c, rv 3 (some 37) (rs σ a c d) = some 37 := fun a c => fc_rv37 (FC_rs h.1)
  intro j
  induction j with
  | zero =>
    intro i n hi' hn
    obtain ⟨n, rfl⟩ : ∃ n', n = n' + 1 := ⟨n - 1, by omega⟩
    have h5 : ¬ (48 ≤ T (dg T e b0) ∧ T (dg T e b0) ≤ 57) := wh_at (P := fun j => 48 ≤ T j ∧ T j ≤ 57) (e - b0) b0 (by show ¬ (48 ≤ T (b0 + (e - b0)) ∧ T (b0 + (e - b0)) ≤ 57); rw [hT.2.2 _ (by omega)]; omega)
    have e1 : b0 + i = dg T e b0 := by omega
    have e2 : i = dg T e b0 - b0 := by omega
    rw [FX1_marksTold_13, c_g3 h.1, Option.bind_some, hrv, Option.bind_some, C_byteAt hT h (by omega), Option.bind_some]
    try dsimp only
    rw [l48_, l57_, C_isInB hT.l (by omega) (by omega), Option.bind_some, e1, if_neg h5, if_pos (show (N 0 : Int32) = 0 from rfl), ← e2]
  | succ j ih =>
    intro i n hi' hn
    obtain ⟨n, rfl⟩ : ∃ n', n = n' + 1 := ⟨n - 1, by omega⟩
    have h2 : 48 ≤ T (b0 + i) ∧ T (b0 + i) ≤ 57 := dg_in (T := T) (e := e) (k := b0) (by omega) (by omega)
    have ih' := ih (i + 1) n (by omega) (by omega)
    have l49q : (49 : Int32) = N 49 := rfl
    rw [FX1_marksTold_13, c_g3 h.1, Option.bind_some, hrv, Option.bind_some, C_byteAt hT h (by omega), Option.bind_some]
    try dsimp only
    rw [l48_, l57_, C_isInB hT.l (by omega) (by omega), Option.bind_some, if_pos h2]
    try dsimp only
    rw [if_neg (show ¬ (N 1 : Int32) = 0 by decide), c_g3 h.1, Option.bind_some, c_g4 h.1, Option.bind_some]
    unfold jn
    try dsimp only
    rw [N_sub (by omega), show b0 + i - b0 = i by omega]
    have fin : ∀ z : Int32, z = bN (mo T b0 (i + 1)) → (if z = 0 then ((gI 3 3 (some 37) (rs σ (N (b0 + i)) (N b0) d)).bind fun x36 => (pI 3 3 (some 37) (x36 + 1) (rs σ (N (b0 + i)) (N b0) d)).bind fun σ37 => FX1_marksTold_13 (some 37) n (N (mv T b0 i)) z σ37 kx) else ((gI 3 3 (some 37) (rs σ (N (b0 + i)) (N b0) d)).bind fun x38 => (rv 3 (some 37) (rs σ (N (b0 + i)) (N b0) d)).bind fun q39 => (FX3_byteAt q39 x38 (rs σ (N (b0 + i)) (N b0) d)).bind fun w => if w.1 = 49 then ((gI 3 3 (some 37) w.2).bind fun x36 => (pI 3 3 (some 37) (x36 + 1) w.2).bind fun σ37 => FX1_marksTold_13 (some 37) n (N (mv T b0 i) ||| (1 <<< (N i &&& 31))) z σ37 kx) else ((gI 3 3 (some 37) w.2).bind fun x36 => (pI 3 3 (some 37) (x36 + 1) w.2).bind fun σ37 => FX1_marksTold_13 (some 37) n (N (mv T b0 i)) z σ37 kx))) = kx (N (mv T b0 (dg T e b0 - b0))) (bN (mo T b0 (dg T e b0 - b0))) (rs σ (N (dg T e b0)) (N b0) d) := fun z hz => by
      simp only [c_g3 h.1, Option.bind_some, hrv]
      rw [C_byteAt hT h (by omega), Option.bind_some]
      simp only [c_g3 h.1, Option.bind_some, l1_, N_add, c_p3 h.1]
      rw [cb_fig h2]
      have ms := mk_step (T := T) (b0 := b0) (i := i) (F := fun v z => FX1_marksTold_13 (some 37) n v z (rs σ (N (b0 + i + 1)) (N b0) d) kx) hz
      rcases ms with ms | ms
      · exact ms.trans ih'
      · omega
    cases hm : mo T b0 i with
    | false =>
      rw [if_pos (show bN false = (0 : Int32) from rfl)]
      exact fin 0 (by rw [mo, hm]; rfl)
    | true =>
      rw [if_neg (show ¬ bN true = (0 : Int32) by decide)]
      by_cases c8 : 8 ≤ i
      · rw [if_pos (show (8 : Int32) ≤ N i by rw [l8_, N_le (by omega) (by omega)]; exact c8)]
        exact fin 0 (by rw [mo, decide_eq_false (show ¬ i < 8 by omega), Bool.false_and, Bool.and_false]; rfl)
      · rw [if_neg (show ¬ (8 : Int32) ≤ N i by rw [l8_, N_le (by omega) (by omega)]; exact c8), Option.bind_some, hrv, Option.bind_some, C_byteAt hT h (by omega), Option.bind_some]
        try dsimp only
        rw [cb_fig h2]
        by_cases c9 : 49 < T (b0 + i)
        · rw [if_pos (show (49 : Int32) < N (T (b0 + i)) by rw [l49q, N_lt (by omega) (by omega)]; exact c9)]
          exact fin 0 (by rw [mo, decide_eq_false (show ¬ T (b0 + i) ≤ 49 by omega), Bool.and_false, Bool.and_false]; rfl)
        · rw [if_neg (show ¬ (49 : Int32) < N (T (b0 + i)) by rw [l49q, N_lt (by omega) (by omega)]; exact c9)]
          exact fin 1 (by rw [mo, hm, decide_eq_true (show i < 8 by omega), decide_eq_true (show T (b0 + i) ≤ 49 by omega)]; rfl)
theorem C_marksT (hT : TX T e) (h : RT T e σ) (h0 : 76 ≤ mN σ) (hN : mN σ < BIG) (hk : k ≤ e) : match markP T e k with
    | .ok o => ∃ b', FX1_marksTold 0 (rs σ (N k) b d) = some (.inl (N o.1, rs σ (N o.2) b' d), 0, 0)
    | .error p => ∃ τ a, FX1_marksTold 0 (rs σ (N k) b d) = some (.inr (1, rs τ a (N p) d), 1, 6) ∧ FA σ τ ∧ mN τ = mN σ + 1 := by
  have he := hT.1
  have h1 := sk_le (T := T) hk
  have h3 := dg_ge (T := T) (e := e) (k := sk T e k)
  have h4 := dg_le (T := T) (e := e) (k := sk T e k) h1
  obtain ⟨τ, w1, -, -, w4, w5⟩ := C_wrongI (a := N (dg T e (sk T e k))) (b := N (sk T e k)) (d := d) h0 hN h.1
  have hrv : ∀ a c, rv 3 (some 37) (rs σ a c d) = some 37 := fun a c => fc_rv37 (FC_rs h.1)
  have run : FX1_marksTold 0 (rs σ (N k) b d) = if (mo T (sk T e k) (dg T e (sk T e k) - sk T e k) && decide (dg T e (sk T e k) - sk T e k = 8)) = true then some (.inl (N (mv T (sk T e k) (dg T e (sk T e k) - sk T e k)), rs σ (N (dg T e (sk T e k))) (N (sk T e k)) d), 0, 0) else some (.inr (1, rs τ (N (dg T e (sk T e k))) (N (sk T e k)) d), 1, 6) := by
    unfold FX1_marksTold
    rw [fc_gR0_4 (FC_rs h.1), Option.bind_some, hrv, Option.bind_some, C_blanks hT h (by omega), Option.bind_some]
    have hl := fun kx => C_marks_13 (d := d) hT h kx (sk T e k) h1 (dg T e (sk T e k) - sk T e k) 0 fu (by omega) (by unfold fu; omega)
    rw [Nat.add_zero] at hl
    refine Eq.trans (hl _) ?_
    unfold jn
    try dsimp only
    cases hm : mo T (sk T e k) (dg T e (sk T e k) - sk T e k) with
    | false => rw [if_pos (show bN false = (0 : Int32) from rfl), Bool.false_and, if_neg Bool.false_ne_true, hrv, Option.bind_some, w1]
    | true =>
      rw [if_neg (show ¬ bN true = (0 : Int32) by decide), Bool.true_and, c_g3 h.1, Option.bind_some, c_g4 h.1, Option.bind_some, N_sub (by omega), l8_]
      by_cases c : dg T e (sk T e k) - sk T e k = 8
      · rw [if_pos (by rw [c]), if_pos (decide_eq_true c)]; rfl
      · rw [if_neg (by rw [N_inj (by omega) (by omega)]; exact c), if_neg (by rw [decide_eq_false c]; exact Bool.false_ne_true), hrv, Option.bind_some, w1]
  rw [run]
  unfold markP
  by_cases c : (mo T (sk T e k) (dg T e (sk T e k) - sk T e k) && decide (dg T e (sk T e k) - sk T e k = 8)) = true
  · rw [if_pos c, if_pos c]; exact ⟨_, rfl⟩
  · rw [if_neg c, if_neg c]; exact ⟨τ, _, rfl, w4, w5⟩
theorem M_eight_22 (hT : TX T e) (h : MT T e σ) {y : Int32} (kx : Int32 → Int32 → Int32 → Mm → Option (Int32 × Mm)) (b0 : Nat) (hb : b0 ≤ e) : ∀ (j i n : Nat), b0 + i + j = dg T e b0 → j < n → FX8_eight_22 62 y n (N (mv T b0 i)) (N i) (bN (mo T b0 i)) (ms σ (N (b0 + i)) f d) kx = kx (N (mv T b0 (dg T e b0 - b0))) (N (dg T e b0 - b0)) (bN (mo T b0 (dg T e b0 - b0))) (ms σ (N (dg T e b0)) f d) := by
  have he := hT.1
  have hd := dg_le (T := T) hb
  have hg := dg_ge (T := T) (e := e) (k := b0)
  intro j
  induction j with
  | zero =>
    intro i n hi' hn
    obtain ⟨n, rfl⟩ : ∃ n', n = n' + 1 := ⟨n - 1, by omega⟩
    have h5 : ¬ (48 ≤ T (dg T e b0) ∧ T (dg T e b0) ≤ 57) := wh_at (P := fun j => 48 ≤ T j ∧ T j ≤ 57) (e - b0) b0 (by show ¬ (48 ≤ T (b0 + (e - b0)) ∧ T (b0 + (e - b0)) ≤ 57); rw [hT.2.2 _ (by omega)]; omega)
    have e1 : b0 + i = dg T e b0 := by omega
    have e2 : i = dg T e b0 - b0 := by omega
    rw [FX8_eight_22, s_g11 h.1, Option.bind_some, s_g10 h, Option.bind_some, e1, ← e2]
    by_cases h1 : dg T e b0 < e
    · have ht := hT.2.1 _ h1
      rw [if_neg (by rw [N_le (by omega) (by omega)]; omega), Option.bind_some, s_ck h.1, M_letter hT h h1, Option.bind_some]
      try dsimp only
      rw [l48_, l57_, M_isInN (by omega) (by omega) (by omega), Option.bind_some]
      try dsimp only
      rw [if_neg h5, if_pos (show (N 0 : Int32) = 0 from rfl)]
    · rw [if_pos (by rw [N_le (by omega) (by omega)]; omega)]
  | succ j ih =>
    intro i n hi' hn
    obtain ⟨n, rfl⟩ : ∃ n', n = n' + 1 := ⟨n - 1, by omega⟩
    have h1 : b0 + i < e := by omega
    have h2 : 48 ≤ T (b0 + i) ∧ T (b0 + i) ≤ 57 := dg_in (T := T) (e := e) (k := b0) (by omega) (by omega)
    have ih' := ih (i + 1) n (by omega) (by omega)
    have l49q : (49 : Int32) = N 49 := rfl
    rw [FX8_eight_22, s_g11 h.1, Option.bind_some, s_g10 h, Option.bind_some, if_neg (by rw [N_le (by omega) (by omega)]; omega), Option.bind_some, s_ck h.1, M_letter hT h h1, Option.bind_some]
    try dsimp only
    rw [l48_, l57_, M_isInN (by omega) (by omega) (by omega), Option.bind_some]
    try dsimp only
    rw [if_pos h2, if_neg (show ¬ (N 1 : Int32) = 0 by decide)]
    unfold jn
    try dsimp only
    have fin : ∀ z : Int32, z = bN (mo T b0 (i + 1)) → (if z = 0 then ((gI 8 11 (some 62) (ms σ (N (b0 + i)) f d)).bind fun x35 => (pI 8 11 (some 62) (x35 + 1) (ms σ (N (b0 + i)) f d)).bind fun σ36 => FX8_eight_22 62 y n (N (mv T b0 i)) (N i + 1) z σ36 kx) else ((gI 8 11 (some 62) (ms σ (N (b0 + i)) f d)).bind fun x37 => ck 8 62 (ms σ (N (b0 + i)) f d) <| (FX8_letter 62 x37 (ms σ (N (b0 + i)) f d)).bind fun w => if w.1 = 49 then ((gI 8 11 (some 62) w.2).bind fun x35 => (pI 8 11 (some 62) (x35 + 1) w.2).bind fun σ36 => FX8_eight_22 62 y n (N (mv T b0 i) ||| (1 <<< (N i &&& 31))) (N i + 1) z σ36 kx) else ((gI 8 11 (some 62) w.2).bind fun x35 => (pI 8 11 (some 62) (x35 + 1) w.2).bind fun σ36 => FX8_eight_22 62 y n (N (mv T b0 i)) (N i + 1) z σ36 kx))) = kx (N (mv T b0 (dg T e b0 - b0))) (N (dg T e b0 - b0)) (bN (mo T b0 (dg T e b0 - b0))) (ms σ (N (dg T e b0)) f d) := fun z hz => by
      simp only [s_g11 h.1, Option.bind_some, s_ck h.1]
      rw [M_letter hT h h1, Option.bind_some]
      simp only [s_g11 h.1, Option.bind_some, l1_, N_add, s_p11 h.1]
      have ms' := mk_step (T := T) (b0 := b0) (i := i) (F := fun v z => FX8_eight_22 62 y n v (N (i + 1)) z (ms σ (N (b0 + i + 1)) f d) kx) hz
      rcases ms' with ms' | ms'
      · exact ms'.trans ih'
      · omega
    cases hm : mo T b0 i with
    | false =>
      rw [if_pos (show bN false = (0 : Int32) from rfl)]
      exact fin 0 (by rw [mo, hm]; rfl)
    | true =>
      rw [if_neg (show ¬ bN true = (0 : Int32) by decide), s_g11 h.1, Option.bind_some, s_ck h.1, M_letter hT h h1, Option.bind_some]
      try dsimp only
      by_cases c9 : 49 < T (b0 + i)
      · rw [if_pos (show (49 : Int32) < N (T (b0 + i)) by rw [l49q, N_lt (by omega) (by omega)]; exact c9)]
        exact fin 0 (by rw [mo, decide_eq_false (show ¬ T (b0 + i) ≤ 49 by omega), Bool.and_false, Bool.and_false]; rfl)
      · rw [if_neg (show ¬ (49 : Int32) < N (T (b0 + i)) by rw [l49q, N_lt (by omega) (by omega)]; exact c9)]
        by_cases c8 : 8 ≤ i
        · rw [if_pos (show (8 : Int32) ≤ N i by rw [l8_, N_le (by omega) (by omega)]; exact c8)]
          exact fin 0 (by rw [mo, decide_eq_false (show ¬ i < 8 by omega), Bool.false_and, Bool.and_false]; rfl)
        · rw [if_neg (show ¬ (8 : Int32) ≤ N i by rw [l8_, N_le (by omega) (by omega)]; exact c8)]
          exact fin 1 (by rw [mo, hm, decide_eq_true (show i < 8 by omega), decide_eq_true (show T (b0 + i) ≤ 49 by omega)]; rfl)
theorem M_eight (hT : TX T e) (h : MT T e σ) (hk : k ≤ e) : match markP T e k with
    | .ok o => FX8_eight 62 (ms σ (N k) M1 d) = some (N o.1, ms σ (N o.2) M1 d)
    | .error p => ∃ x b, b ≤ e ∧ FX8_eight 62 (ms σ (N k) M1 d) = some (x, ms σ (N b) (N p) d) := by
  have he := hT.1
  have h1 := sk_le (T := T) hk
  have h3 := dg_ge (T := T) (e := e) (k := sk T e k)
  have h4 := dg_le (T := T) (e := e) (k := sk T e k) h1
  have run : FX8_eight 62 (ms σ (N k) M1 d) = if (mo T (sk T e k) (dg T e (sk T e k) - sk T e k) && decide (dg T e (sk T e k) - sk T e k = 8)) = true then some (N (mv T (sk T e k) (dg T e (sk T e k) - sk T e k)), ms σ (N (dg T e (sk T e k))) M1 d) else some (N (mv T (sk T e k) (dg T e (sk T e k) - sk T e k)), ms σ (N (dg T e (sk T e k))) (N (sk T e k)) d) := by
    unfold FX8_eight
    rw [s_g12 h.1, Option.bind_some, if_pos (show M1 = -1 from rfl), s_ck h.1, M_place hT h hk, Option.bind_some]
    have hl := fun kx => M_eight_22 (d := d) (f := M1) (y := N (sk T e k)) hT h kx (sk T e k) h1 (dg T e (sk T e k) - sk T e k) 0 fu (by omega) (by unfold fu; omega)
    rw [Nat.add_zero] at hl
    refine Eq.trans (hl _) ?_
    unfold jn
    try dsimp only
    cases hm : mo T (sk T e k) (dg T e (sk T e k) - sk T e k) with
    | false => rw [if_pos (show bN false = (0 : Int32) from rfl), Bool.false_and, if_neg Bool.false_ne_true, s_ck h.1, M_wrong0 h.1, Option.bind_some]
    | true =>
      rw [if_neg (show ¬ bN true = (0 : Int32) by decide), Bool.true_and, l8_]
      by_cases c : dg T e (sk T e k) - sk T e k = 8
      · rw [if_pos (by rw [c]), if_pos (decide_eq_true c)]
      · rw [if_neg (by rw [N_inj (by omega) (by omega)]; exact c), if_neg (by rw [decide_eq_false c]; exact Bool.false_ne_true), s_ck h.1, M_wrong0 h.1, Option.bind_some]
  rw [run]
  unfold markP
  by_cases c : (mo T (sk T e k) (dg T e (sk T e k) - sk T e k) && decide (dg T e (sk T e k) - sk T e k = 8)) = true
  · rw [if_pos c, if_pos c]
  · rw [if_neg c, if_neg c]; exact ⟨_, _, h4, rfl⟩
theorem M_eight1 (h : MT T e σ) {a : Int32} {p : Nat} (hp : p < 1000000) : FX8_eight 62 (ms σ a (N p) d) = some (0, ms σ a (N p) d) := by
  unfold FX8_eight
  rw [s_g12 h.1, Option.bind_some, if_neg (show ¬ N p = -1 by rw [m1_, N_m1 (by omega)]; exact id)]
theorem M_figs1 (h : MT T e σ) {a lo hi : Int32} {p : Nat} (hp : p < 1000000) : FX8_figures 62 lo hi (ms σ a (N p) d) = some (0, ms σ a (N p) d) := by
  unfold FX8_figures
  rw [s_g12 h.1, Option.bind_some, if_neg (show ¬ N p = -1 by rw [m1_, N_m1 (by omega)]; exact id)]
end
