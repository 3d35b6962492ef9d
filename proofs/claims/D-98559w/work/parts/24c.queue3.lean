/-! THE PLAIN LAW, 129: the queue, the model's side -/
set_option maxRecDepth 100000
def sfo (f : Nat → Nat) : List Nat → Option Nat → Nat → Option Nat × Nat
  | [], o, a => (o, a)
  | v :: L, o, a => if f v < a then sfo f L (some v) (f v) else sfo f L o a
theorem sfo_ok {f : Nat → Nat} : ∀ L o a, (sfo f L o a).2 = lmin f L a ∧ (sfo f L o a).1 = if lmin f L a < a then L.find? (fun v => decide (f v = lmin f L a)) else o := by
  intro L
  induction L with
  | nil => intro o a; exact ⟨rfl, by rw [if_neg (show ¬ lmin f [] a < a from Nat.lt_irrefl a)]; rfl⟩
  | cons v L ih =>
    intro o a
    rw [sfo]
    by_cases c : f v < a
    · rw [if_pos c]
      have e : lmin f (v :: L) a = lmin f L (f v) := by
        show lmin f L (min a (f v)) = _
        rw [Nat.min_eq_right (by omega)]
      obtain ⟨h1, h2⟩ := ih (some v) (f v)
      have le := (lmin_le (f := f) L (f v)).1
      refine ⟨by rw [h1, e], ?_⟩
      rw [h2, e, if_pos (show lmin f L (f v) < a by omega), List.find?_cons]
      by_cases d : lmin f L (f v) < f v
      · rw [if_pos d, decide_eq_false (show ¬ f v = lmin f L (f v) by omega)]
      · rw [if_neg d, decide_eq_true (show f v = lmin f L (f v) by omega)]
    · rw [if_neg c]
      have e : lmin f (v :: L) a = lmin f L a := by
        show lmin f L (min a (f v)) = _
        rw [Nat.min_eq_left (by omega)]
      obtain ⟨h1, h2⟩ := ih o a
      refine ⟨by rw [h1, e], ?_⟩
      rw [h2, e, List.find?_cons]
      by_cases d : lmin f L a < a
      · rw [if_pos d, if_pos d, decide_eq_false (show ¬ f v = lmin f L a by omega)]
      · rw [if_neg d, if_neg d]
def LR (np s t : Nat) : List Nat := (List.range' 0 np).filter fun i => s.testBit i && !t.testBit i
theorem LR_nd {np s t : Nat} : (LR np s t).Nodup := range_nd.filter _
theorem LR_mem {np s t v : Nat} : v ∈ LR np s t ↔ v < np ∧ s.testBit v = true ∧ ¬ t.testBit v = true := by
  unfold LR
  rw [List.mem_filter, ← List.range_eq_range', List.mem_range, Bool.and_eq_true, Bool.not_eq_true', Bool.not_eq_true]
theorem LR_or {np s t v : Nat} : (LR np s t).filter (fun u => !decide (u = v)) = LR np s (t ||| 2 ^ v) := by
  unfold LR
  rw [List.filter_filter]
  apply filter_cg
  intro u _
  rw [Nat.testBit_or, Nat.testBit_two_pow, Bool.not_or, Bool.and_comm, Bool.and_assoc]
  congr 3
  exact decide_eq_decide.mpr eq_comm
theorem LR_0 {np s : Nat} : LR np s 0 = LM np s := by
  unfold LR LM
  apply filter_cg
  intro u _
  rw [Nat.zero_testBit, Bool.not_false, Bool.and_true]
theorem LR_pc {np s t : Nat} (hn : np ≤ 10) (hs : s < 2 ^ np) : pc (s &&& (1023 ^^^ t)) = (LR np s t).length := by
  rw [pcL hn (Nat.lt_of_le_of_lt Nat.and_le_left hs)]
  unfold LM LR
  congr 1
  apply filter_cg
  intro u hu
  rw [List.mem_range'_1] at hu
  exact rm_tb (by omega)
theorem st_d : ∀ a, a < 12 → ∀ b, b < 12 → (if 0 ≤ N b - N a then (N b - N a) + 1 else (-(N b - N a)) + 1) = N (hdist a b) := by decide +kernel
def sub (t s : Nat) : Prop := ∀ j, t.testBit j = true → s.testBit j = true
/-- what stands in the model's table, for the masks above t0 -/
def TBM (A : Nat → Int32) (np s : Nat) (g : Nat → Int32) (t0 : Nat) : Prop := ∀ t, t0 < t → t < 1024 → sub t s → ∀ l, l < np → s.testBit l = true → g (10 * t + l) = N (vf (hkA A) (LR np s t).length (LR np s t) (some l))
section
variable {np nh s : Nat} {σ : Mm} {A : Nat → Int32}
theorem M_stepO {o : Option Nat} {v : Nat} (h : FM σ) (hA : mI σ 63 = A) (hw : WF A np nh) (hs : ∀ p, s.testBit p = true → p < np ∧ PA A p 3 ≠ M1) (ho : ∀ i, o = some i → s.testBit i = true) (hv : s.testBit v = true) : FX8_step 62 (oN o) (N v) σ = some (N (hdist (hlst (hkA A) o) (hkA A v)), σ) := by
  have hn0 := hw.1.2.1
  obtain ⟨v1, v2⟩ := hs v hv
  have ev := hkA_ok hw v1 v2
  unfold FX8_step jn
  try dsimp only
  cases o with
  | none =>
    rw [if_pos (show oN none = -1 from rfl), fm_ck h, l3_, M_of h (by omega) (by omega), Option.bind_some, hA, ev]
    have := st_d 0 (by omega) (hkA A v) hkA_lt
    try dsimp only
    show (if 0 ≤ N (hkA A v) - N 0 then some ((N (hkA A v) - N 0) + 1, σ) else some ((-(N (hkA A v) - N 0)) + 1, σ)) = _
    rw [show hlst (hkA A) none = 0 from rfl, ← this]
    split <;> rfl
  | some i =>
    have hi := ho i rfl
    obtain ⟨i1, i2⟩ := hs i hi
    have ei := hkA_ok hw i1 i2
    rw [if_neg (show ¬ oN (some i) = -1 by rw [m1_]; show ¬ N i = M1; rw [N_m1 (by omega)]; exact id), show oN (some i) = N i from rfl, fm_ck h, l3_, M_of h (by omega) (by omega), Option.bind_some, hA, ei]
    try dsimp only
    rw [fm_ck h, M_of h (by omega) (by omega), Option.bind_some, hA, ev]
    have := st_d (hkA A i) hkA_lt (hkA A v) hkA_lt
    try dsimp only
    rw [show hlst (hkA A) (some i) = hkA A i from rfl, ← this]
    split <;> rfl
theorem M_stepX {l v : Nat} (h : FM σ) (hl : l < 10) (hv : v < 10) : ∃ x, FX8_step 62 (N l) (N v) σ = some (x, σ) := by
  unfold FX8_step jn
  try dsimp only
  rw [if_neg (show ¬ N l = -1 by rw [m1_, N_m1 (by omega)]; exact id), fm_ck h, l3_, M_of h hl (by omega), Option.bind_some]
  try dsimp only
  rw [fm_ck h, M_of h hv (by omega), Option.bind_some]
  try dsimp only
  split
  · exact ⟨_, rfl⟩
  · exact ⟨_, rfl⟩
theorem M_left {t v : Nat} (h : FM σ) (ht : t < 1024) (hv : v < 10) : FX8_left 62 (N t) (N v) σ = some (mI σ 73 (10 * t + v), σ) := by
  unfold FX8_left
  rw [fm_gR24 h, Option.bind_some, l10_, N_mul, N_add, fm_rd73 h (by omega), Option.bind_some]
theorem M_less2 {a b : Nat} (ha : a < 2147483648) (hb : b < 2147483648) : FX8_lesser (N a) (N b) σ = some (N (min a b), σ) := by
  unfold FX8_lesser
  by_cases c : b ≤ a
  · rw [if_pos (by rw [N_le hb ha]; exact c), Nat.min_eq_right c]
  · rw [if_neg (by rw [N_le hb ha]; exact c), Nat.min_eq_left (by omega)]
/-- what the next costs -/
theorem M_next {o : Option Nat} {t v m : Nat} (h : FM σ) (hA : mI σ 63 = A) (hw : WF A np nh) (hs2 : s < 2 ^ np) (hs : ∀ p, s.testBit p = true → p < np ∧ PA A p 3 ≠ M1) (ho : ∀ i, o = some i → s.testBit i = true) (hv : v ∈ LR np s t) (htl : t < 1024) (hts : sub t s) (hT : TBM A np s (mI σ 73) t) (hm : (LR np s t).length = m + 1) : FX8_step 62 (oN o) (N v) σ = some (N (hdist (hlst (hkA A) o) (hkA A v)), σ) ∧ FX8_bits (N (s &&& (1023 ^^^ t))) σ = some (N (m + 1), σ) ∧ FX8_left 62 (N t ||| (1 <<< (N v &&& 31))) (N v) σ = some (N (vf (hkA A) m (LR np s (t ||| 2 ^ v)) (some v)), σ) ∧ N (hdist (hlst (hkA A) o) (hkA A v)) * N (m + 1) + N (vf (hkA A) m (LR np s (t ||| 2 ^ v)) (some v)) = N (qf (hkA A) m (LR np s t) o v) ∧ qf (hkA A) m (LR np s t) o v ≤ 1200 := by
  have hn0 := hw.1.2.1
  obtain ⟨v1, v2, v3⟩ := LR_mem.mp hv
  have hs3 := p1024 hn0 hs2
  have hml : m + 1 ≤ 10 := by
    rw [← hm, ← LR_pc hn0 hs2]
    exact pc_10 _ (Nat.lt_of_le_of_lt Nat.and_le_left hs3)
  have eo : N t ||| (1 <<< (N v &&& 31)) = N (t ||| 2 ^ v) := bt_or (by omega)
  have t2 : t ||| 2 ^ v < 1024 := or_lt htl (by omega)
  have t3 : t < t ||| 2 ^ v := by
    have h1 : t ≤ t ||| 2 ^ v := Nat.left_le_or
    rcases Nat.lt_or_ge t (t ||| 2 ^ v) with h2 | h2
    · exact h2
    · exfalso
      have e : t ||| 2 ^ v = t := Nat.le_antisymm h2 h1
      apply v3
      rw [← e, Nat.testBit_or, Nat.testBit_two_pow_self, Bool.or_true]
  have hl := filt_len LR_nd hv
  rw [LR_or] at hl
  have hl2 : (LR np s (t ||| 2 ^ v)).length = m := by omega
  have eT := hT (t ||| 2 ^ v) t3 t2 (or_sub hts v2) v v1 v2
  rw [hl2] at eT
  refine ⟨M_stepO h hA hw hs ho v2, ?_, ?_, ?_, qf_le (fun _ => hkA_lt) LR_nd hm (by omega) hv⟩
  · rw [M_bits (by have := Nat.lt_of_le_of_lt (Nat.and_le_left (n := s) (m := 1023 ^^^ t)) hs3; omega), LR_pc hn0 hs2, hm]
  · rw [eo, M_left h t2 (by omega), eT]
  · rw [N_mul, N_add]
    unfold qf
    rw [LR_or]
theorem M_serves_46 {t l m : Nat} (h : FM σ) (hA : mI σ 63 = A) (hw : WF A np nh) (hs2 : s < 2 ^ np) (hs : ∀ p, s.testBit p = true → p < np ∧ PA A p 3 ≠ M1) (hl : l < np) (hls : s.testBit l = true) (htl : t < 1024) (hts : sub t s) (hT : TBM A np s (mI σ 73) t) (hm : (LR np s t).length = m + 1) (Kx : Int32 → Mm → Option Mm) : ∀ (k v n a : Nat), v + k = np → k < n → a ≤ 2000000000 → FX8_serves_46 62 (N s) (N t) (N l) n (N a) (N v) σ Kx = Kx (N (lmin (qf (hkA A) m (LR np s t) (some l)) ((List.range' v k).filter fun i => s.testBit i && !t.testBit i) a)) σ := by
  have hn0 := hw.1.2.1
  have hs3 := p1024 hn0 hs2
  have hnn : mI σ 63 3 = N np := by rw [hA]; exact hw.1.1
  have hr : s &&& (1023 ^^^ t) < 1024 := Nat.lt_of_le_of_lt Nat.and_le_left hs3
  intro k
  induction k with
  | zero =>
    intro v n a hv hn ha
    obtain ⟨n, rfl⟩ : ∃ m, n = m + 1 := ⟨n - 1, by omega⟩
    rw [FX8_serves_46, fm_gR1 h, Option.bind_some, l3_, fm_rd63 h (by omega), Option.bind_some, hnn, if_pos (by rw [N_le (by omega) (by omega)]; omega)]
    rfl
  | succ k ih =>
    intro v n a hv hn ha
    obtain ⟨n, rfl⟩ : ∃ m, n = m + 1 := ⟨n - 1, by omega⟩
    rw [FX8_serves_46, fm_gR1 h, Option.bind_some, l3_, fm_rd63 h (by omega), Option.bind_some, hnn, if_neg (by rw [N_le (by omega) (by omega)]; omega), m1_, M_isOf, Option.bind_some, l1_, N_add, List.range'_succ, List.filter_cons]
    try dsimp only
    rw [rm_R hs3 htl]
    simp (disch := omega) only [tb_N]
    rw [rm_tb (by omega)]
    by_cases c : (s.testBit v && !t.testBit v) = true
    · rw [Bool.and_eq_true, Bool.not_eq_true'] at c
      have hv2 : v ∈ LR np s t := LR_mem.mpr ⟨by omega, c.1, by rw [c.2]; exact Bool.false_ne_true⟩
      obtain ⟨n1, n2, n3, n4, n5⟩ := M_next (o := some l) h hA hw hs2 hs (fun i hi => by cases hi; exact hls) hv2 htl hts hT hm
      rw [c.1, c.2]
      rw [show (true && !false) = true from rfl, if_pos rfl, if_pos rfl, if_neg (show ¬ N 1 = 0 by decide), fm_ck h, show N l = oN (some l) from rfl, n1, Option.bind_some]
      try dsimp only
      rw [n2, Option.bind_some]
      try dsimp only
      rw [fm_ck h, ← l1_, n3, Option.bind_some, n4]
      try dsimp only
      rw [M_less2 (by omega) (by omega), Option.bind_some]
      try dsimp only
      rw [show oN (some l) = N l from rfl, ih (v + 1) n _ (by omega) (by omega) (by omega)]
      rfl
    · rw [Bool.not_eq_true] at c
      rw [c, if_neg Bool.false_ne_true, if_neg Bool.false_ne_true, if_pos (show N 0 = 0 from rfl), ih (v + 1) n a (by omega) (by omega) ha]
theorem M_serves_46x {t l : Nat} {y1 y2 : Int32} (h : FM σ) (hnn : mI σ 63 3 = N np) (hn0 : np ≤ 10) (hl : l < np) (htl : t < 1024) (hy : y2 = N t) (Kx : Int32 → Mm → Option Mm) : ∀ (k v n : Nat) (a : Int32), v + k = np → k < n → (∀ v, v < np → ∃ x, FX8_bits (y1 &&& (y2 ^^^ M1)) σ = some (x, σ)) → ∃ x, FX8_serves_46 62 y1 y2 (N l) n a (N v) σ Kx = Kx x σ := by
  intro k
  induction k with
  | zero =>
    intro v n a hv hn _
    obtain ⟨n, rfl⟩ : ∃ m, n = m + 1 := ⟨n - 1, by omega⟩
    exact ⟨a, by rw [FX8_serves_46, fm_gR1 h, Option.bind_some, l3_, fm_rd63 h (by omega), Option.bind_some, hnn, if_pos (by rw [N_le (by omega) (by omega)]; omega)]⟩
  | succ k ih =>
    intro v n a hv hn hb
    obtain ⟨n, rfl⟩ : ∃ m, n = m + 1 := ⟨n - 1, by omega⟩
    obtain ⟨x1, e1⟩ := M_stepX (l := l) (v := v) h (by omega) (by omega)
    obtain ⟨x2, e2⟩ := hb v (by omega)
    have eo : y2 ||| (N 1 <<< (N v &&& 31)) = N (t ||| 2 ^ v) := by rw [hy]; exact bt_or (by omega)
    rw [FX8_serves_46, fm_gR1 h, Option.bind_some, l3_, fm_rd63 h (by omega), Option.bind_some, hnn, if_neg (by rw [N_le (by omega) (by omega)]; omega), m1_, M_isOf, Option.bind_some, l1_, N_add]
    try dsimp only
    by_cases cb : ((y1 &&& (y2 ^^^ M1)) >>> (N v &&& N 31)) &&& N 1 = N 1
    · rw [if_pos cb, if_neg (show ¬ N 1 = 0 by decide), fm_ck h, e1, Option.bind_some]
      try dsimp only
      rw [e2, Option.bind_some]
      try dsimp only
      rw [fm_ck h, eo, M_left h (or_lt htl (by omega)) (by omega), Option.bind_some]
      try dsimp only
      rw [M_lesser, Option.bind_some]
      exact ih (v + 1) n _ (by omega) (by omega) hb
    · rw [if_neg cb, if_pos (show N 0 = 0 from rfl)]
      exact ih (v + 1) n a (by omega) (by omega) hb
theorem M_serves_19 {t : Nat} (h : FM σ) (hA : mI σ 63 = A) (hw : WF A np nh) (hs2 : s < 2 ^ np) (hs : ∀ p, s.testBit p = true → p < np ∧ PA A p 3 ≠ M1) (htl : t < 1024) (hts : sub t s) (Kx : Mm → Option Mm) : ∀ (k l n : Nat) (g : Nat → Int32), l + k = np → k < n → TBM A np s g t → ∃ g', FX8_serves_19 62 (N s) (N t) n (N l) (wA σ 73 g) Kx = Kx (wA σ 73 g') ∧ TBM A np s g' t ∧ (∀ j, l ≤ j → j < np → s.testBit j = true → g' (10 * t + j) = N (vf (hkA A) (LR np s t).length (LR np s t) (some j))) ∧ ∀ j, j < l → g' (10 * t + j) = g (10 * t + j) := by
  have hn0 := hw.1.2.1
  have hs3 := p1024 hn0 hs2
  intro k
  induction k with
  | zero =>
    intro l n g hl hn hT
    obtain ⟨n, rfl⟩ : ∃ m, n = m + 1 := ⟨n - 1, by omega⟩
    have h' : FM (wA σ 73 g) := FM_w h
    have e63 : mI (wA σ 73 g) 63 = A := hA
    refine ⟨g, ?_, hT, fun j h1 h2 => by omega, fun _ _ => rfl⟩
    rw [FX8_serves_19, fm_gR1 h', Option.bind_some, l3_, fm_rd63 h' (by omega), Option.bind_some, e63, hw.1.1, if_pos (by rw [N_le (by omega) (by omega)]; omega)]
  | succ k ih =>
    intro l n g hl hn hT
    obtain ⟨n, rfl⟩ : ∃ m, n = m + 1 := ⟨n - 1, by omega⟩
    have h' : FM (wA σ 73 g) := FM_w h
    have e63 : mI (wA σ 73 g) 63 = A := hA
    have e73 : mI (wA σ 73 g) 73 = g := by rw [mI_wA, if_pos rfl]
    have go : ∀ x : Int32, (s.testBit l = true → x = N (vf (hkA A) (LR np s t).length (LR np s t) (some l))) → ∃ g', (((gR 8 24 (some 62) (wA σ 73 g)).bind fun x41 => (sI x41 ((10 * N t) + N l) x (wA σ 73 g)).bind fun σ42 => FX8_serves_19 62 (N s) (N t) n (N l + 1) σ42 Kx)) = Kx (wA σ 73 g') ∧ TBM A np s g' t ∧ (∀ j, l ≤ j → j < np → s.testBit j = true → g' (10 * t + j) = N (vf (hkA A) (LR np s t).length (LR np s t) (some j))) ∧ ∀ j, j < l → g' (10 * t + j) = g (10 * t + j) := fun x hx => by
      obtain ⟨g', t1, t2, t3, t4⟩ := ih (l + 1) n (up1 g (10 * t + l) x) (by omega) (by omega) (fun t' h1 h2 h3 l' h4 h5 => by
        rw [up1_app, if_neg (by omega)]
        exact hT t' h1 h2 h3 l' h4 h5)
      refine ⟨g', ?_, t2, fun j h1 h2 h3 => ?_, fun j hj => ?_⟩
      · rw [fm_gR24 h', Option.bind_some, l10_, N_mul, N_add, fm_wr73 h' (by omega), Option.bind_some, e73, wA_wA, l1_, N_add, t1]
      · by_cases e : j = l
        · subst e
          rw [t4 j (by omega), up1_app, if_pos rfl, hx h3]
        · exact t3 j (by omega) h2 h3
      · rw [t4 j (by omega), up1_app, if_neg (by omega)]
    rw [FX8_serves_19, fm_gR1 h', Option.bind_some, l3_, fm_rd63 h' (by omega), Option.bind_some, e63, hw.1.1, if_neg (by rw [N_le (by omega) (by omega)]; omega)]
    unfold jn
    try dsimp only
    have hbits : ∀ v, v < np → ∃ x, FX8_bits (N s &&& (N t ^^^ M1)) (wA σ 73 g) = some (x, wA σ 73 g) := fun v _ => by
      have := Nat.lt_of_le_of_lt (Nat.and_le_left (n := s) (m := 1023 ^^^ t)) hs3
      exact ⟨_, by rw [rm_R hs3 htl, M_bits (by omega)]⟩
    by_cases hls : s.testBit l = true
    · by_cases e : t = s
      · have nil : LR np s t = [] := by
          apply List.eq_nil_iff_forall_not_mem.mpr
          intro v hv
          obtain ⟨-, h1, h2⟩ := LR_mem.mp hv
          rw [e] at h2; exact h2 h1
        rw [if_pos (by rw [e])]
        have z46 : ∀ (k v n : Nat) (Ky : Int32 → Mm → Option Mm), v + k = np → k < n → FX8_serves_46 62 (N s) (N t) (N l) n (N 0) (N v) (wA σ 73 g) Ky = Ky (N 0) (wA σ 73 g) := by
          intro k
          induction k with
          | zero =>
            intro v n Ky hv hn
            obtain ⟨n, rfl⟩ : ∃ m, n = m + 1 := ⟨n - 1, by omega⟩
            rw [FX8_serves_46, fm_gR1 h', Option.bind_some, l3_, fm_rd63 h' (by omega), Option.bind_some, e63, hw.1.1, if_pos (by rw [N_le (by omega) (by omega)]; omega)]
          | succ k ih2 =>
            intro v n Ky hv hn
            obtain ⟨n, rfl⟩ : ∃ m, n = m + 1 := ⟨n - 1, by omega⟩
            rw [FX8_serves_46, fm_gR1 h', Option.bind_some, l3_, fm_rd63 h' (by omega), Option.bind_some, e63, hw.1.1, if_neg (by rw [N_le (by omega) (by omega)]; omega), m1_, M_isOf, Option.bind_some, l1_, N_add]
            try dsimp only
            rw [rm_R hs3 htl]
            have hand := Nat.lt_of_le_of_lt (Nat.and_le_left (n := s) (m := 1023 ^^^ t)) hs3
            simp (disch := omega) only [tb_N]
            have z : (s.testBit v && !t.testBit v) = false := by rw [e, Bool.and_not_self]
            rw [rm_tb (by omega), z, if_neg Bool.false_ne_true, if_pos (show N 0 = 0 from rfl), ih2 (v + 1) n Ky (by omega) (by omega)]
        rw [l0_, z46 np 0 fu _ (by omega) (by unfold fu; omega)]
        exact go _ (fun _ => by rw [nil]; rfl)
      · have ne : LR np s t ≠ [] := fun hnil => e (Nat.eq_of_testBit_eq fun j => by
          cases h1 : t.testBit j with
          | true => exact (hts j h1).symm
          | false =>
            symm
            apply Bool.eq_false_iff.mpr
            intro h2
            have := LR_mem.mpr ⟨(hs j h2).1, h2, by rw [h1]; exact Bool.false_ne_true⟩
            rw [hnil] at this; cases this)
        obtain ⟨m, hm⟩ : ∃ m, (LR np s t).length = m + 1 := by
          cases hL : LR np s t with
          | cons v L => exact ⟨L.length, List.length_cons⟩
          | nil => exact absurd hL ne
        obtain ⟨v0, hv0⟩ : ∃ v, v ∈ LR np s t := List.exists_mem_of_ne_nil _ ne
        have q0 := qf_le (hk := hkA A) (fun _ => hkA_lt) (o := some l) LR_nd hm (by have := LR_pc (t := t) hn0 hs2; have := pc_10 (s &&& (1023 ^^^ t)) (Nat.lt_of_le_of_lt Nat.and_le_left hs3); omega) hv0
        rw [if_neg (by rw [N_inj (by omega) (by omega)]; exact e), l0_, show (2000000000 : Int32) = N 2000000000 from rfl, M_serves_46 h' e63 hw hs2 hs (show l < np by omega) hls htl hts (by rw [e73]; exact hT) hm _ np 0 fu 2000000000 (by omega) (by unfold fu; omega) (by omega)]
        exact go _ (fun _ => by
          rw [hm, vf_s]
          exact congrArg N (lmin_eq ⟨v0, hv0, by omega, by omega⟩))
    · split
      · obtain ⟨x, hx⟩ := M_serves_46x (y1 := N s) (y2 := N t) (l := l) (t := t) h' (by rw [e63]; exact hw.1.1) hn0 (by omega) htl rfl (fun (x40 : Int32) (σ : Mm) => (gR 8 24 (some 62) σ).bind fun x41 => (sI x41 ((10 * N t) + N l) x40 σ).bind fun σ42 => FX8_serves_19 62 (N s) (N t) n (N l + 1) σ42 Kx) np 0 fu 0 (by omega) (by unfold fu; omega) hbits
        rw [l0_] at hx ⊢
        rw [hx]
        exact go x (fun h1 => absurd h1 hls)
      · obtain ⟨x, hx⟩ := M_serves_46x (y1 := N s) (y2 := N t) (l := l) (t := t) h' (by rw [e63]; exact hw.1.1) hn0 (by omega) htl rfl (fun (x40 : Int32) (σ : Mm) => (gR 8 24 (some 62) σ).bind fun x41 => (sI x41 ((10 * N t) + N l) x40 σ).bind fun σ42 => FX8_serves_19 62 (N s) (N t) n (N l + 1) σ42 Kx) np 0 fu 2000000000 (by omega) (by unfold fu; omega) hbits
        rw [l0_]
        rw [hx]
        exact go x (fun h1 => absurd h1 hls)
end
