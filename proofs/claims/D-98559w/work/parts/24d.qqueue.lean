/-! THE PLAIN LAW, 130: the queue, asked of both -/
set_option maxRecDepth 100000
section
variable {np nh s : Nat} {σ : Mm} {A : Nat → Int32}
theorem sub_iff {t s : Nat} (ht : t < 1024) (hs : s < 1024) : N t &&& (N s ^^^ M1) = 0 ↔ sub t s := by
  have h1 := Nat.lt_of_le_of_lt (Nat.and_le_left (n := t) (m := 1023 ^^^ s)) ht
  rw [rm_R ht hs, l0_, N_inj (by omega) (by omega)]
  constructor
  · intro h j hj
    rcases Nat.lt_or_ge j 10 with h2 | h2
    · have := rm_tb (s := t) (R := s) h2
      rw [h, Nat.zero_testBit, hj, Bool.true_and] at this
      cases hb : s.testBit j with
      | true => rfl
      | false => rw [hb] at this; cases this
    · rw [Nat.testBit_lt_two_pow (Nat.lt_of_lt_of_le ht (Nat.pow_le_pow_right (n := 2) (i := 10) (by omega) h2))] at hj; cases hj
  · intro h
    apply Nat.eq_of_testBit_eq
    intro j
    rw [Nat.zero_testBit]
    rcases Nat.lt_or_ge j 10 with h2 | h2
    · rw [rm_tb h2]
      cases hb : t.testBit j with
      | false => rfl
      | true => rw [h j hb]; rfl
    · exact Nat.testBit_lt_two_pow (Nat.lt_of_lt_of_le h1 (Nat.pow_le_pow_right (n := 2) (i := 10) (by omega) h2))
theorem sub_le {t s : Nat} (h : sub t s) : t ≤ s := by
  have e : t &&& s = t := Nat.eq_of_testBit_eq fun j => by
    rw [Nat.testBit_and]
    cases hb : t.testBit j with
    | false => rfl
    | true => rw [h j hb]; rfl
  rw [← e]; exact Nat.and_le_right
theorem M_serves_2 (h : FM σ) (hA : mI σ 63 = A) (hw : WF A np nh) (hs2 : s < 2 ^ np) (hs : ∀ p, s.testBit p = true → p < np ∧ PA A p 3 ≠ M1) (Kx : Mm → Option Mm) : ∀ (t n : Nat) (g : Nat → Int32), t < 1024 → t < n → TBM A np s g t → ∃ g', FX8_serves_2 62 (N s) n (N t) (wA σ 73 g) Kx = Kx (wA σ 73 g') ∧ TBM A np s g' 0 := by
  have hn0 := hw.1.2.1
  have hs3 := p1024 hn0 hs2
  intro t
  induction t with
  | zero =>
    intro n g _ hn hT
    obtain ⟨n, rfl⟩ : ∃ m, n = m + 1 := ⟨n - 1, by omega⟩
    exact ⟨g, by rw [FX8_serves_2, if_pos (show N 0 ≤ 0 by decide)], hT⟩
  | succ t ih =>
    intro n g ht hn hT
    obtain ⟨n, rfl⟩ : ∃ m, n = m + 1 := ⟨n - 1, by omega⟩
    have em : N (t + 1) + M1 = N t := N_dec
    rw [FX8_serves_2, if_neg (by rw [l0_, N_le (by omega) (by omega)]; omega), m1_, em]
    by_cases c : sub (t + 1) s
    · obtain ⟨g1, a1, a2, a3, -⟩ := M_serves_19 h hA hw hs2 hs ht c (fun (σ : Mm) => FX8_serves_2 62 (N s) n (N t) σ Kx) np 0 fu g (by omega) (by unfold fu; omega) hT
      obtain ⟨g2, b1, b2⟩ := ih n g1 (by omega) (by omega) (fun t' h1 h2 h3 l h4 h5 => by
        by_cases e : t' = t + 1
        · subst e; exact a3 l (by omega) h4 h5
        · exact a2 t' (by omega) h2 h3 l h4 h5)
      exact ⟨g2, by rw [if_pos ((sub_iff ht hs3).mpr c), l0_, a1, b1], b2⟩
    · obtain ⟨g2, b1, b2⟩ := ih n g (by omega) (by omega) (fun t' h1 h2 h3 l h4 h5 => by
        by_cases e : t' = t + 1
        · subst e; exact absurd h3 c
        · exact hT t' (by omega) h2 h3 l h4 h5)
      exact ⟨g2, by rw [if_neg (fun e => c ((sub_iff ht hs3).mp e)), b1], b2⟩
theorem M_queue_42 {y1 y5 y6 : Int32} {o : Option Nat} {t m : Nat} (h : FM σ) (hA : mI σ 63 = A) (hw : WF A np nh) (hs2 : s < 2 ^ np) (hs : ∀ p, s.testBit p = true → p < np ∧ PA A p 3 ≠ M1) (ho : ∀ i, o = some i → s.testBit i = true) (htl : t < 1024) (hts : sub t s) (hT : TBM A np s (mI σ 73) t) (hm : (LR np s t).length = m + 1) (Kx : Int32 → Int32 → Mm → Option (Int32 × Mm)) : ∀ (k v n a : Nat) (b : Option Nat), v + k = np → k < n → a ≤ 2000000000 → FX8_queue_42 62 y1 (N s) (N t) (oN o) y5 y6 n (oN b) (N a) (N v) σ Kx = Kx (oN (sfo (qf (hkA A) m (LR np s t) o) ((List.range' v k).filter fun i => s.testBit i && !t.testBit i) b a).1) (N (sfo (qf (hkA A) m (LR np s t) o) ((List.range' v k).filter fun i => s.testBit i && !t.testBit i) b a).2) σ := by
  have hn0 := hw.1.2.1
  have hs3 := p1024 hn0 hs2
  have hnn : mI σ 63 3 = N np := by rw [hA]; exact hw.1.1
  have hr : s &&& (1023 ^^^ t) < 1024 := Nat.lt_of_le_of_lt Nat.and_le_left hs3
  intro k
  induction k with
  | zero =>
    intro v n a b hv hn ha
    obtain ⟨n, rfl⟩ : ∃ m, n = m + 1 := ⟨n - 1, by omega⟩
    rw [FX8_queue_42, fm_gR1 h, Option.bind_some, l3_, fm_rd63 h (by omega), Option.bind_some, hnn, if_pos (by rw [N_le (by omega) (by omega)]; omega)]
    rfl
  | succ k ih =>
    intro v n a b hv hn ha
    obtain ⟨n, rfl⟩ : ∃ m, n = m + 1 := ⟨n - 1, by omega⟩
    rw [FX8_queue_42, fm_gR1 h, Option.bind_some, l3_, fm_rd63 h (by omega), Option.bind_some, hnn, if_neg (by rw [N_le (by omega) (by omega)]; omega), m1_, M_isOf, Option.bind_some, l1_, N_add, List.range'_succ, List.filter_cons]
    try dsimp only
    rw [rm_R hs3 htl]
    simp (disch := omega) only [tb_N]
    rw [rm_tb (by omega)]
    by_cases c : (s.testBit v && !t.testBit v) = true
    · rw [Bool.and_eq_true, Bool.not_eq_true'] at c
      have hv2 : v ∈ LR np s t := LR_mem.mpr ⟨by omega, c.1, by rw [c.2]; exact Bool.false_ne_true⟩
      obtain ⟨n1, n2, n3, n4, n5⟩ := M_next (o := o) h hA hw hs2 hs ho hv2 htl hts hT hm
      rw [c.1, c.2]
      rw [show (true && !false) = true from rfl, if_pos rfl, if_pos rfl, if_neg (show ¬ N 1 = 0 by decide), fm_ck h, n1, Option.bind_some]
      try dsimp only
      rw [n2, Option.bind_some]
      try dsimp only
      rw [fm_ck h, ← l1_, n3, Option.bind_some, n4]
      try dsimp only
      rw [sfo]
      by_cases d : qf (hkA A) m (LR np s t) o v < a
      · rw [if_pos d, if_pos (by rw [N_lt (by omega) (by omega)]; exact d)]
        exact ih (v + 1) n _ (some v) (by omega) (by omega) (by omega)
      · rw [if_neg d, if_neg (by rw [N_lt (by omega) (by omega)]; exact d)]
        exact ih (v + 1) n a b (by omega) (by omega) ha
    · rw [Bool.not_eq_true] at c
      rw [c, if_neg Bool.false_ne_true, if_neg Bool.false_ne_true, if_pos (show N 0 = 0 from rfl), ih (v + 1) n a b (by omega) (by omega) ha]
/-- one step of the queue -/
theorem M_queue_s {x w6 : Int32} {o : Option Nat} {t m k n : Nat} (h : FM σ) (hA : mI σ 63 = A) (hw : WF A np nh) (hs2 : s < 2 ^ np) (hs : ∀ p, s.testBit p = true → p < np ∧ PA A p 3 ≠ M1) (ho : ∀ i, o = some i → s.testBit i = true) (htl : t < 1024) (hts : sub t s) (hT : TBM A np s (mI σ 73) 0) (hm : (LR np s t).length = m + 1) (K1 K2 : Int32 → Mm → Option (Int32 × Mm)) : ∃ v, v = pickv (qf (hkA A) m (LR np s t) o) (LR np s t) ∧ v ∈ LR np s t ∧ FX8_queue_26 62 x (N s) (n + 1) (N t) (oN o) (N k) w6 σ K1 K2 = if N k = x then K2 (N v) σ else FX8_queue_26 62 x (N s) n (N (t ||| 2 ^ v)) (oN (some v)) (N (k + 1)) (if t = 0 then N (vf (hkA A) (m + 1) (LR np s t) o) else w6) σ K1 K2 := by
  have hn0 := hw.1.2.1
  have hs3 := p1024 hn0 hs2
  have hml : m + 1 ≤ 10 := by
    rw [← hm, ← LR_pc hn0 hs2]
    exact pc_10 _ (Nat.lt_of_le_of_lt Nat.and_le_left hs3)
  have hTt : TBM A np s (mI σ 73) t := fun t' h1 h2 h3 l h4 h5 => hT t' (by omega) h2 h3 l h4 h5
  obtain ⟨v0, hv0⟩ : ∃ v, v ∈ LR np s t := List.exists_mem_of_ne_nil _ (fun e => by rw [e] at hm; cases hm)
  have q0 := qf_le (hk := hkA A) (fun _ => hkA_lt) (o := o) LR_nd hm (by omega) hv0
  obtain ⟨p1, p2, p3⟩ := pick_ok (f := qf (hkA A) m (LR np s t) o) ⟨v0, hv0, by omega⟩
  have eL : lmin (qf (hkA A) m (LR np s t) o) (LR np s t) 2000000000 = lmin (qf (hkA A) m (LR np s t) o) (LR np s t) 100000 := lmin_eq ⟨v0, hv0, by omega, by omega⟩
  have le := (lmin_le (f := qf (hkA A) m (LR np s t) o) (LR np s t) 100000).1
  obtain ⟨s1, s2⟩ := sfo_ok (f := qf (hkA A) m (LR np s t) o) (LR np s t) none 2000000000
  rw [eL] at s1 s2
  rw [if_pos (by omega), p1] at s2
  refine ⟨_, rfl, p2, ?_⟩
  have hv10 := (LR_mem.mp p2).1
  have ne : t ≠ s := fun e => by
    obtain ⟨-, h1, h2⟩ := LR_mem.mp hv0
    rw [e] at h2; exact h2 h1
  have tle := sub_le hts
  have f := M_queue_42 (y1 := x) (y5 := N k) (y6 := w6) h hA hw hs2 hs ho htl hts hTt hm (fun (x42 : Int32) (x43 : Int32) (σ : Mm) => (
    jn (fun (x44 : Int32) (σ : Mm) => (
    (if N k = x then (
    K2 x42 σ) else (
    FX8_queue_26 62 x (N s) n (N t ||| (1 <<< (x42 &&& 31))) x42 (N k + 1) x44 σ K1 K2)))) fun J133 =>
    (if N t = 0 then (
    J133 x43 σ) else (
    J133 w6 σ)))) np 0 fu 2000000000 none (by omega) (by unfold fu; omega) (by omega)
  rw [show ((List.range' 0 np).filter fun i => s.testBit i && !t.testBit i) = LR np s t from rfl, s1, s2] at f
  rw [FX8_queue_26, if_neg (by rw [N_inj (by omega) (by omega)]; exact ne)]
  refine f.trans ?_
  unfold jn
  try dsimp only
  have eo : N t ||| (1 <<< (N (pickv (qf (hkA A) m (LR np s t) o) (LR np s t)) &&& 31)) = N (t ||| 2 ^ pickv (qf (hkA A) m (LR np s t) o) (LR np s t)) := bt_or (by omega)
  rw [show oN (some (pickv (qf (hkA A) m (LR np s t) o) (LR np s t))) = N (pickv (qf (hkA A) m (LR np s t) o) (LR np s t)) from rfl, eo, l1_, N_add, vf_s]
  by_cases c : t = 0
  · rw [if_pos c, if_pos (by rw [c]; rfl)]
  · rw [if_neg c, if_neg (by rw [l0_, N_inj (by omega) (by omega)]; exact c)]
theorem M_queue_k {q : Nat} (h : FM σ) (hA : mI σ 63 = A) (hw : WF A np nh) (hs2 : s < 2 ^ np) (hs : ∀ p, s.testBit p = true → p < np ∧ PA A p 3 ≠ M1) (hT : TBM A np s (mI σ 73) 0) (hq : q < 10) (K1 K2 : Int32 → Mm → Option (Int32 × Mm)) : ∀ (d k n t w : Nat) (o : Option Nat) (w6 : Int32), k + d = q → d < n → t < 1024 → sub t s → (∀ i, o = some i → s.testBit i = true) → svk (hkA A) (LR np s t).length (LR np s t) o d = some w → FX8_queue_26 62 (N q) (N s) n (N t) (oN o) (N k) w6 σ K1 K2 = K2 (N w) σ := by
  intro d
  induction d with
  | zero =>
    intro k n t w o w6 hk hn ht hts ho hf
    obtain ⟨n, rfl⟩ : ∃ m, n = m + 1 := ⟨n - 1, by omega⟩
    cases hm : (LR np s t).length with
    | zero => rw [hm] at hf; cases hf
    | succ m =>
      rw [hm, svk] at hf
      obtain ⟨v, e, v2, v3⟩ := M_queue_s (x := N q) (w6 := w6) (k := k) (n := n) h hA hw hs2 hs ho ht hts hT hm K1 K2
      rw [v3, if_pos (by rw [show k = q by omega]), e, Option.some.inj hf]
  | succ d ih =>
    intro k n t w o w6 hk hn ht hts ho hf
    obtain ⟨n, rfl⟩ : ∃ m, n = m + 1 := ⟨n - 1, by omega⟩
    cases hm : (LR np s t).length with
    | zero => rw [hm] at hf; cases hf
    | succ m =>
      rw [hm, svk] at hf
      obtain ⟨v, e, v2, v3⟩ := M_queue_s (x := N q) (w6 := w6) (k := k) (n := n) h hA hw hs2 hs ho ht hts hT hm K1 K2
      rw [← e] at hf
      have hL := filt_len LR_nd v2
      rw [LR_or] at hL hf
      obtain ⟨u1, u2, -⟩ := LR_mem.mp v2
      have hn0 := hw.1.2.1
      rw [v3, if_neg (by rw [N_inj (by omega) (by omega)]; omega)]
      exact ih (k + 1) n _ w (some v) _ (by omega) (by omega) (or_lt ht (by omega)) (or_sub hts u2) (fun i hi => by cases hi; exact u2) (by rw [show (LR np s (t ||| 2 ^ v)).length = m by omega]; exact hf)
theorem M_queue_e {x : Int32} (h : FM σ) (hA : mI σ 63 = A) (hw : WF A np nh) (hs2 : s < 2 ^ np) (hs : ∀ p, s.testBit p = true → p < np ∧ PA A p 3 ≠ M1) (hT : TBM A np s (mI σ 73) 0) (hx : ∀ q, q < pc s → N q ≠ x) (K1 K2 : Int32 → Mm → Option (Int32 × Mm)) : ∀ (m k n t : Nat) (o : Option Nat) (w6 : Int32), k + m = pc s → m < n → t < 1024 → sub t s → (∀ i, o = some i → s.testBit i = true) → (LR np s t).length = m → FX8_queue_26 62 x (N s) n (N t) (oN o) (N k) w6 σ K1 K2 = K1 (if t = 0 ∧ s ≠ 0 then N (vf (hkA A) m (LR np s t) o) else w6) σ := by
  have hn0 := hw.1.2.1
  have hs3 := p1024 hn0 hs2
  intro m
  induction m with
  | zero =>
    intro k n t o w6 hk hn ht hts ho hm
    obtain ⟨n, rfl⟩ : ∃ m, n = m + 1 := ⟨n - 1, by omega⟩
    have e : t = s := Nat.eq_of_testBit_eq fun j => by
      cases h1 : t.testBit j with
      | true => exact (hts j h1).symm
      | false =>
        symm
        apply Bool.eq_false_iff.mpr
        intro h2
        have := LR_mem.mpr ⟨(hs j h2).1, h2, by rw [h1]; exact Bool.false_ne_true⟩
        rw [List.eq_nil_of_length_eq_zero hm] at this; cases this
    rw [FX8_queue_26, if_pos (by rw [e]), if_neg (by rw [e]; intro hh; exact hh.2 hh.1)]
  | succ m ih =>
    intro k n t o w6 hk hn ht hts ho hm
    obtain ⟨n, rfl⟩ : ∃ m, n = m + 1 := ⟨n - 1, by omega⟩
    obtain ⟨v, e, v2, v3⟩ := M_queue_s (x := x) (w6 := w6) (k := k) (n := n) h hA hw hs2 hs ho ht hts hT hm K1 K2
    have hL := filt_len LR_nd v2
    rw [LR_or] at hL
    obtain ⟨u1, u2, -⟩ := LR_mem.mp v2
    have tv : t ||| 2 ^ v ≠ 0 := fun z => by
      have := Nat.testBit_or t (2 ^ v) v
      rw [z, Nat.zero_testBit, Nat.testBit_two_pow_self, Bool.or_true] at this
      cases this
    rw [v3, if_neg (hx k (by omega)), ih (k + 1) n _ (some v) _ (by omega) (by omega) (or_lt ht (by omega)) (or_sub hts u2) (fun i hi => by cases hi; exact u2) (by omega), if_neg (fun hh => tv hh.1)]
    by_cases c : t = 0
    · have s0 : s ≠ 0 := fun z => by rw [z, Nat.zero_testBit] at u2; cases u2
      rw [if_pos c, if_pos ⟨c, s0⟩]
    · rw [if_neg c, if_neg (fun hh => c hh.1)]
theorem q_queue (K : Co np nh σ) (x : Int32) : QN (fun σ => FX1_queue 0 x σ) (fun σ => FX8_queue 62 x σ) σ := by
  have hC := K.c; have hn0 := K.n0
  obtain ⟨s, s1, s2, s3⟩ := aHolders_bits (mI σ 63) hn0
  have hs3 := p1024 hn0 s1
  have h10 := pc_10 s hs3
  have hp : ∀ p, s.testBit p = true → p < np ∧ PA (mI σ 63) p 3 ≠ M1 := fun p h => by
    rw [s3 p, Bool.and_eq_true] at h
    exact ⟨of_decide_eq_true h.1, fun e => by rw [e] at h; simp at h⟩
  obtain ⟨τ, t1, ⟨t2, t3, t4⟩, t5⟩ := C_beginsQ K rfl s1 s2 (fun p h => (hp p h).2)
  have K' := t2.co K
  have hC' := K'.c
  have e63 : mI τ 63 = mI σ 63 := t2.e (by omega)
  -- the model's table
  have h' : FM (thr_ τ 0) := FM_t K'.m
  have e63' : mI (thr_ τ 0) 63 = mI σ 63 := e63
  obtain ⟨g, g1, g2⟩ := M_serves_2 h' e63' K.w s1 hp (fun (σ : Mm) => some σ) s fu (mI (thr_ τ 0) 73) hs3 (by unfold fu; omega) (fun t h1 h2 h3 l h4 h5 => by have := sub_le h3; omega)
  rw [wA_self] at g1
  have h2 : FM (wA (thr_ τ 0) 73 g) := FM_w h'
  have e632 : mI (wA (thr_ τ 0) 73 g) 63 = mI σ 63 := e63
  have e73 : mI (wA (thr_ τ 0) 73 g) 73 = g := by rw [mI_wA, if_pos rfl]
  have kp : Kp σ (wA (thr_ τ 0) 73 g) := t2.kp.trans (thr_k.trans (Kp_wA (by omega)))
  have len0 : (LR np s 0).length = pc s := by rw [LR_0, pcL hn0 s1]
  have lenC : (LC (pc s) 0).length = pc s := by
    have := LC_len h10 (Nat.two_pow_pos (pc s))
    rw [show pc 0 = 0 from rfl] at this
    omega
  have inj : ∀ a, a ∈ LC (pc s) 0 → ∀ b, b ∈ LC (pc s) 0 → who np s a = who np s b → a = b := fun a ha b hb e => who_inj hn0 s1 (LC_mem.mp ha).1 (LC_mem.mp hb).1 e
  -- both sides up to the last step
  have eM : ∀ r, FX8_queue_26 62 x (N s) fu (N 0) (oN none) (N 0) (N 0) (wA (thr_ τ 0) 73 g) (fun (x48 : Int32) (σ : Mm) => (if x = (-1) then (some (x48, σ)) else (some ((-1), σ)))) (fun (x50 : Int32) (σ : Mm) => some (x50, σ)) = some (r, wA (thr_ τ 0) 73 g) → FX8_queue 62 x τ = some (r, wA (thr_ τ 0) 73 g) := fun r hr => by
    unfold FX8_queue FX8_serves
    rw [l0_, fm_pI K'.m, Option.bind_some, thr_w, fm_ck h', M_holders h' (by rw [e63']; exact K.n) hn0, Option.bind_some, e63', s2]
    try dsimp only
    rw [fm_ck h', g1, Option.bind_some]
    exact hr
  have eC : FX1_queue 0 x σ = (if x = (-1) then ((gR 1 9 (some 0) τ).bind fun x36 => (rv 7 x36 τ).bind fun q37 => (FX7_rest q37 0 (-1) τ).bind fun (x39, σ40) => some (x39, σ40)) else ((gR 1 9 (some 0) τ).bind fun x26 => (gI 7 2 x26 τ).bind fun x27 => (FX1_in x 0 (x27 - 1) τ).bind fun (x28, σ29) => (if x28 = 0 then (some ((-1), σ29)) else ((gR 1 9 (some 0) σ29).bind fun x30 => (rv 7 x30 σ29).bind fun q31 => (FX7_kthServed q31 x σ29).bind fun (x33, σ34) => some (x33, σ34))))) := by
    unfold FX1_queue
    rw [fc_gR0_9 hC, Option.bind_some, fc_rv47 hC, Option.bind_some, t1, Option.bind_some]
  have kx : ∀ r, FX1_queue 0 x σ = some (r, τ) → FX8_queue 62 x τ = some (r, wA (thr_ τ 0) 73 g) → QN (fun σ => FX1_queue 0 x σ) (fun σ => FX8_queue 62 x σ) σ := fun r a b => ⟨r, τ, _, a, b, kp⟩
  by_cases c1 : x = M1
  · have r1 := C_restO (o := none) (c := 0) K' e63 s1 (fun p h => (hp p h).2) t4 t3 t5 (fun i hi => by cases hi) (Nat.two_pow_pos _)
    have m1 := M_queue_e (x := x) h2 e632 K.w s1 hp (by rw [e73]; exact g2) (fun q hq e => by rw [c1, N_m1 (by omega)] at e; exact e) (fun (x48 : Int32) (σ : Mm) => (if x = (-1) then (some (x48, σ)) else (some ((-1), σ)))) (fun (x50 : Int32) (σ : Mm) => some (x50, σ)) (pc s) 0 fu 0 none (N 0) (by omega) (by unfold fu; omega) (by omega) (fun j hj => by rw [Nat.zero_testBit] at hj; cases hj) (fun i hi => by cases hi) len0
    refine kx (N (vf (hkA (mI σ 63)) (pc s) (LM np s) none)) ?_ (eM _ ?_)
    · have vm := vf_map (hk := hkA (mI σ 63)) (w := who np s) (pc s) (LC (pc s) 0) none inj
      rw [who_map hn0 s1] at vm
      rw [lenC] at r1
      rw [eC, if_pos (show x = -1 from c1), fc_gR0_9 hC', Option.bind_some, fc_rv47 hC', Option.bind_some]
      refine (congrArg (fun q => Option.bind q _) r1).trans ?_
      rw [Option.bind_some, show vf (hkA (mI σ 63)) (pc s) (LM np s) none = _ from vm]
      rfl
    · rw [m1]
      try dsimp only
      rw [if_pos (show x = -1 from c1), LR_0]
      by_cases s0 : s = 0
      · rw [if_neg (fun hh => hh.2 s0), s0]
        rfl
      · rw [if_pos ⟨rfl, s0⟩]
  · have c1' : ¬ x = (-1) := c1
    rcases N_in x (pc s) (by omega) with ⟨q, hq, rfl⟩ | hx
    · obtain ⟨w, w1, w2⟩ := svk_some (hk := hkc (mI σ 63) np s) hkc_lt (pc s) (LC (pc s) 0) none q LC_nd lenC h10 hq
      have hwp := (LC_mem.mp w1).1
      have sm := svk_map (hk := hkA (mI σ 63)) (w := who np s) (fun _ => hkA_lt) (pc s) (LC (pc s) 0) none q inj LC_nd lenC h10
      rw [who_map hn0 s1, show svk (fun i => hkA (mI σ 63) (who np s i)) (pc s) (LC (pc s) 0) none q = some w from w2] at sm
      have k7 := C_kth_7 K' e63 s1 (fun p h => (hp p h).2) t4 t3 t5 hq (fun (x33 : Int32) (σ : Mm) => ((gR 7 0 (some 47) σ).bind fun x34 => (aI 100 x34 x33 σ).bind fun x35 => some (x35, σ))) q 0 fu 0 w none (by omega) (by unfold fu; omega) (Nat.two_pow_pos _) (fun i hi => by cases hi) (by rw [lenC]; exact w2)
      have m1 := M_queue_k h2 e632 K.w s1 hp (by rw [e73]; exact g2) (show q < 10 by omega) (fun (x48 : Int32) (σ : Mm) => (if N q = (-1) then (some (x48, σ)) else (some ((-1), σ)))) (fun (x50 : Int32) (σ : Mm) => some (x50, σ)) q 0 fu 0 (who np s w) none (N 0) (by omega) (by unfold fu; omega) (by omega) (fun j hj => by rw [Nat.zero_testBit] at hj; cases hj) (fun i hi => by cases hi) (by rw [len0, LR_0]; exact sm)
      refine kx (N (who np s w)) ?_ (eM _ m1)
      rw [eC, if_neg c1', fc_gR0_9 hC', Option.bind_some, fc_gI47 hC', Option.bind_some, t3, l0_, l1_, N_sub (show 1 ≤ pc s by omega), C_in_in (by omega) (by omega) (by omega), Option.bind_some]
      try dsimp only
      rw [if_neg (show ¬ N 1 = N 0 by decide), fc_gR0_9 hC', Option.bind_some, fc_rv47 hC', Option.bind_some]
      unfold FX7_kthServed
      rw [l0_, show (-1 : Int32) = oN none from rfl, k7]
      try dsimp only
      rw [fc_gR47_0 hC', Option.bind_some, fc_rd48 hC' (by omega), Option.bind_some, t4 w hwp, Option.bind_some]
    · have m1 := M_queue_e (x := x) h2 e632 K.w s1 hp (by rw [e73]; exact g2) (fun q hq e => by
        rcases hx with h1 | h1
        · rw [← e, N_lt (by omega) (by omega)] at h1; omega
        · rw [← e, N_le (by omega) (by omega)] at h1; omega) (fun (x48 : Int32) (σ : Mm) => (if x = (-1) then (some (x48, σ)) else (some ((-1), σ)))) (fun (x50 : Int32) (σ : Mm) => some (x50, σ)) (pc s) 0 fu 0 none (N 0) (by omega) (by unfold fu; omega) (by omega) (fun j hj => by rw [Nat.zero_testBit] at hj; cases hj) (fun i hi => by cases hi) len0
      refine kx M1 ?_ (eM _ (by rw [m1]; exact if_neg c1'))
      have hin : x < N 0 ∨ N (pc s) - 1 < x := hx.imp id fun h1 => by
        rw [Int32.le_iff_toInt_le, N_int (by omega)] at h1
        by_cases z : pc s = 0
        · rw [z] at h1 ⊢
          rw [show N 0 - 1 = M1 from rfl, Int32.lt_iff_toInt_lt, show M1.toInt = -1 by decide]
          omega
        · rw [l1_, N_sub (show 1 ≤ pc s by omega), Int32.lt_iff_toInt_lt, N_int (by omega)]; omega
      rw [eC, if_neg c1', fc_gR0_9 hC', Option.bind_some, fc_gI47 hC', Option.bind_some, t3, l0_, C_in_out hin, Option.bind_some]
      try dsimp only
      rw [if_pos rfl]
      rfl
end
