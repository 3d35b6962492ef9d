/-! THE PLAIN LAW, 123: the trades, the model's walk -/
set_option maxRecDepth 100000
section
variable {np nh : Nat} {σ : Mm} {D : Nat → List Nat} {A W : Nat → Int32}
theorem M_trades_4 (h : FM σ) (hA : mI σ 63 = A) (hnn : A 3 = N np) (hn0 : np ≤ 10) (Kx : Int32 → Mm → Option Mm) : ∀ (k v n : Nat) (a : Int32) (g : Nat → Int32), v + k = np → k < n → ∃ g', FX8_trades_4 62 n a (N v) (wA σ 72 g) Kx = Kx (fd (lfS A) v k a) (wA σ 72 g') ∧ (∀ j, v ≤ j → j < np → g' j = M1) ∧ ∀ j, j < v → g' j = g j := by
  intro k
  induction k with
  | zero =>
    intro v n a g hv hn
    obtain ⟨n, rfl⟩ : ∃ m, n = m + 1 := ⟨n - 1, by omega⟩
    have h' : FM (wA σ 72 g) := FM_w h
    have e63 : mI (wA σ 72 g) 63 = A := hA
    refine ⟨g, ?_, fun j h1 h2 => by omega, fun _ _ => rfl⟩
    rw [FX8_trades_4, fm_gR1 h', Option.bind_some, l3_, fm_rd63 h' (by omega), Option.bind_some, e63, hnn, if_pos (by rw [N_le (by omega) (by omega)]; omega), fd]
  | succ k ih =>
    intro v n a g hv hn
    obtain ⟨n, rfl⟩ : ∃ m, n = m + 1 := ⟨n - 1, by omega⟩
    have h' : FM (wA σ 72 g) := FM_w h
    have e63 : mI (wA σ 72 g) 63 = A := hA
    have h2 : FM (wA σ 72 (up1 g v M1)) := FM_w h
    have e632 : mI (wA σ 72 (up1 g v M1)) 63 = A := hA
    have go : ∀ z : Int32, z = (if PA A v 2 = M1 then N 0 else bt v) → ∃ g', FX8_trades_4 62 n (a ||| z) (N v + 1) (wA σ 72 (up1 g v M1)) Kx = Kx (fd (lfS A) v (k + 1) a) (wA σ 72 g') ∧ (∀ j, v ≤ j → j < np → g' j = M1) ∧ ∀ j, j < v → g' j = g j := fun z hz => by
      obtain ⟨g', t1, t2, t3⟩ := ih (v + 1) n (a ||| z) (up1 g v M1) (by omega) (by omega)
      refine ⟨g', ?_, fun j h1 h2 => ?_, fun j hj => ?_⟩
      · rw [l1_, N_add, t1, fd, hz]; rfl
      · by_cases e : j = v
        · subst e; rw [t3 j (by omega), up1_app, if_pos rfl]
        · exact t2 j (by omega) h2
      · rw [t3 j (by omega), up1_app, if_neg (by omega)]
    rw [FX8_trades_4, fm_gR1 h', Option.bind_some, l3_, fm_rd63 h' (by omega), Option.bind_some, e63, hnn, if_neg (by rw [N_le (by omega) (by omega)]; omega), fm_gR23 h', Option.bind_some, m1_, fm_wr72 h' (by omega), Option.bind_some, mI_wA, if_pos rfl, wA_wA, fm_ck h2, l2_, M_of h2 (by omega) (by omega), Option.bind_some, e632]
    unfold jn
    try dsimp only
    by_cases c : PA A v 2 = M1
    · rw [if_pos c]
      exact go 0 (by rw [if_pos c]; rfl)
    · rw [if_neg c]
      exact go _ (by rw [if_neg c]; rfl)
theorem M_trades_53 {s : Nat} {τ : Mm} (hs : s < 1024) (h0 : s ≠ 0) (Kx : Int32 → Mm → Option Mm) : ∀ (k v n : Nat), v + k = lb s → k < n → FX8_trades_53 62 (N s) n (N v) τ Kx = Kx (N (lb s)) τ := by
  obtain ⟨l1, l2⟩ := lb_ok s hs h0
  intro k
  induction k with
  | zero =>
    intro v n hv hn
    obtain ⟨n, rfl⟩ : ∃ m, n = m + 1 := ⟨n - 1, by omega⟩
    have e : v = lb s := by omega
    rw [FX8_trades_53, M_isOf, Option.bind_some, e]
    try dsimp only
    simp (disch := omega) only [tb_N]
    rw [if_pos l1, if_neg (show ¬ N 1 = 0 by decide)]
  | succ k ih =>
    intro v n hv hn
    obtain ⟨n, rfl⟩ : ∃ m, n = m + 1 := ⟨n - 1, by omega⟩
    rw [FX8_trades_53, M_isOf, Option.bind_some]
    try dsimp only
    simp (disch := omega) only [tb_N]
    rw [if_neg (show ¬ s.testBit v = true by rw [lb_min s hs v (by omega) (by omega)]; exact Bool.false_ne_true), if_pos (show N 0 = 0 from rfl), l1_, N_add, ih (v + 1) n (by omega) (by omega)]
theorem M_trades_69 {s : Nat} {w : Nat → Nat} {τ : Mm} (hn0 : np ≤ 10) (h : FM τ) (hc : cls np s w) (hp : ∀ v, v < np → s.testBit v = true → FX8_pointsTo 62 (N v) (N s) τ = some (N (w v), τ)) (Kx : Int32 → Mm → Option Mm) : ∀ (k v n : Nat), k ≤ 10 → k < n → v < np → s.testBit v = true → FX8_trades_69 62 (N s) n (N v) (N (10 - k)) τ Kx = Kx (N (itr w k v)) τ := by
  intro k
  induction k with
  | zero =>
    intro v n _ hn hv ht
    obtain ⟨n, rfl⟩ : ∃ m, n = m + 1 := ⟨n - 1, by omega⟩
    rw [FX8_trades_69, if_pos (show (10 : Int32) ≤ N (10 - 0) by decide), itr]
  | succ k ih =>
    intro v n hk hn hv ht
    obtain ⟨n, rfl⟩ : ∃ m, n = m + 1 := ⟨n - 1, by omega⟩
    rw [FX8_trades_69, if_neg (show ¬ (10 : Int32) ≤ N (10 - (k + 1)) by rw [l10_, N_le (by omega) (by omega)]; omega), fm_ck h, hp v hv ht, Option.bind_some]
    try dsimp only
    rw [l1_, N_add, show 10 - (k + 1) + 1 = 10 - k by omega, ih _ n (by omega) (by omega) (hc v hv ht).1 (hc v hv ht).2, itr]
theorem M_trades_93 {s : Nat} {w : Nat → Nat} (hn0 : np ≤ 10) (h : FM σ) (hA : mI σ 63 = A) (hc : cls np s w) (hp : ∀ g v, v < np → s.testBit v = true → FX8_pointsTo 62 (N v) (N s) (wA σ 72 g) = some (N (w v), wA σ 72 g)) (Kx : Int32 → Mm → Option Mm) : ∀ (m S v n : Nat) (g : Nat → Int32), cnt S < m → m ≤ n → S < 1024 → v < np → s.testBit v = true → ∃ g', FX8_trades_93 62 (N s) n (N v) (N S) (wA σ 72 g) Kx = Kx (N (rgo w m S v)) (wA σ 72 g') ∧ ∀ j, g' j = if (rgo w m S v).testBit j && !S.testBit j then PA A (w j) 2 else g j := by
  intro m
  induction m with
  | zero => intro S v n g h; omega
  | succ m ih =>
    intro S v n g hm hn hS hv ht
    obtain ⟨n, rfl⟩ : ∃ m, n = m + 1 := ⟨n - 1, by omega⟩
    have h' : FM (wA σ 72 g) := FM_w h
    have e63 : mI (wA σ 72 g) 63 = A := hA
    obtain ⟨w1, w2⟩ := hc v hv ht
    rw [FX8_trades_93, M_isOf, Option.bind_some, rgo]
    try dsimp only
    simp (disch := omega) only [tb_N]
    by_cases c : S.testBit v = true
    · refine ⟨g, by rw [if_pos c, if_pos c, if_neg (show ¬ N 1 = 0 by decide)], fun j => ?_⟩
      rw [if_pos c, Bool.and_not_self, if_neg Bool.false_ne_true]
    · have := cnt_lt S hS v (by omega) (Bool.eq_false_iff.mpr c)
      have eo : N S ||| (1 <<< (N v &&& 31)) = N (S ||| 2 ^ v) := bt_or (by omega)
      obtain ⟨g', t1, t2⟩ := ih (S ||| 2 ^ v) (w v) n (up1 g v (PA A (w v) 2)) (by omega) (by omega) (or_lt hS (by omega)) w1 w2
      have h2 : FM (wA σ 72 (up1 g v (PA A (w v) 2))) := FM_w h
      refine ⟨g', ?_, fun j => ?_⟩
      · rw [if_neg c, if_neg c, if_pos (show N 0 = 0 from rfl), fm_gR23 h', Option.bind_some, fm_ck h', hp g v hv ht, Option.bind_some]
        try dsimp only
        rw [fm_ck h', l2_, M_of h' (by omega) (by omega), Option.bind_some, e63]
        try dsimp only
        rw [fm_wr72 h' (by omega), Option.bind_some, mI_wA, if_pos rfl, wA_wA, fm_ck h2, hp _ v hv ht, Option.bind_some, eo]
        try dsimp only
        rw [t1]
      · rw [if_neg c, t2 j, Nat.testBit_or, Nat.testBit_two_pow, up1_app]
        by_cases e : j = v
        · subst e
          have gv : (rgo w m (S ||| 2 ^ j) (w j)).testBit j = true := rgo_ge _ _ _ _ (by rw [Nat.testBit_or, Nat.testBit_two_pow_self, Bool.or_true])
          rw [gv, Bool.eq_false_iff.mpr c, decide_eq_true rfl, if_pos rfl]
          rfl
        · rw [decide_eq_false (fun e' => e e'.symm), Bool.or_false, if_neg e]
theorem M_trades_47 (h : FM σ) (hA : mI σ 63 = A) (hnn : A 3 = N np) (hn0 : np ≤ 10) (hD : ∀ p, p < np → WL np A W p (D p)) (Kx : Mm → Option Mm) : ∀ (m n s : Nat) (g : Nat → Int32), s < m → m ≤ n → s < 2 ^ np → hWS A np s → ∃ g', FX8_trades_47 62 n (N s) (wA σ 72 g) Kx = Kx (wA σ 72 g') ∧ ∀ v, v < np → g' v = ttc A D np m s g v := by
  intro m
  induction m with
  | zero => intro n s g hs; omega
  | succ m ih =>
    intro n s g hs hn hs1 hw
    obtain ⟨n, rfl⟩ : ∃ m, n = m + 1 := ⟨n - 1, by omega⟩
    have hs2 := p1024 hn0 hs1
    rw [FX8_trades_47]
    by_cases h0 : s = 0
    · refine ⟨g, by rw [if_pos (by rw [h0]; rfl)], fun v hv => by rw [ttc, if_pos h0]⟩
    · obtain ⟨r1, r2, r3, r4, r5⟩ := rgS_ok (A := A) (D := D) hn0 hs1 h0
      obtain ⟨i1, i2⟩ := itr_in (dst_cls (A := A) (D := D) (np := np) (s := s)) 10 (lb s) r1 r2
      have hp : ∀ g v, v < np → s.testBit v = true → FX8_pointsTo 62 (N v) (N s) (wA σ 72 g) = some (N (dst A D np s v), wA σ 72 g) := fun g v hv ht => M_points (σ := wA σ 72 g) (FM_w h) hA hnn hn0 hD hs2 hw hv ⟨v, hv, ht⟩
      have c0 := cnt_le 0 (by omega)
      obtain ⟨g1, a1, a2⟩ := M_trades_93 hn0 h hA dst_cls hp (fun (x55 : Int32) (σ : Mm) => FX8_trades_47 62 n (N s &&& (x55 ^^^ (-1))) σ Kx) 11 0 (itr (dst A D np s) 10 (lb s)) fu g (by omega) (by unfold fu; omega) (by omega) i1 i2
      obtain ⟨g2, b1, b2⟩ := ih n (s &&& (1023 ^^^ rgS A D np s)) g1 (by omega) (by omega) (by omega) (hw.le fun j hj => by rw [Nat.testBit_and, Bool.and_eq_true] at hj; exact hj.1)
      refine ⟨g2, ?_, fun v hv => ?_⟩
      · rw [if_neg (by rw [l0_, N_inj (by omega) (by omega)]; exact h0), l0_]
        refine (M_trades_53 hs2 h0 _ (lb s) 0 fu (by omega) (by unfold fu; omega)).trans ?_
        refine (M_trades_69 hn0 (FM_w h) dst_cls (hp g) _ 10 (lb s) fu (by omega) (by unfold fu; omega) r1 r2).trans ?_
        refine a1.trans ?_
        try dsimp only
        rw [m1_, show rgo (dst A D np s) 11 0 (itr (dst A D np s) 10 (lb s)) = rgS A D np s from rfl, rm_R hs2 r3, b1]
      · rw [b2 v hv, ttc, if_neg h0]
        refine ttc_congr _ _ _ _ (fun u hu => ?_) v hv
        rw [a2 u, Nat.zero_testBit, Bool.not_false, Bool.and_true]
        rfl
end
