/-! THE PLAIN LAW, 142: the model's weddings, those who know, hooks -/
set_option maxRecDepth 100000
section
variable {T : Nat → Nat} {e k np nh : Nat} {σ : Mm} {d : Int32} {A : Row}
theorem nm1 {p : Nat} (hp : p < 2147483647) : ¬ N p = -1 := by rw [m1_, N_m1 (by omega)]; exact id
theorem M_single {x1 : Int32} {g : Row} (hT : TX T e) (h : MDo T e σ) (hnn : g 3 = N np) (hn : np ≤ 10) (hk : k ≤ e) : match numP T e 0 np k with
    | .error p => ∃ x b, b ≤ e ∧ FX8_single 62 x1 (ms (wA σ 63 g) (N k) M1 d) = some (x, ms (wA σ 63 g) (N b) (N p) d)
    | .ok o => FX8_single 62 x1 (ms (wA σ 63 g) (N k) M1 d) = some (N o.1, ms (wA σ 63 g) (N o.2) (if PA g o.1 4 = M1 ∧ ¬ N o.1 = x1 then M1 else N (sk T e k)) d) := by
  have he := hT.1
  have hk1 := sk_le (T := T) hk
  have hM : MT T e (wA σ 63 g) := MDo.mt (MDo.w h)
  have nk := numP_k (lo := 0) (n := np) hT hk
  have mf := M_figD (d := d) (g := g) (lo := 0) (n := np) hT h (by omega) (by omega) hk1
  rw [numP_sk hT hk] at mf
  unfold FX8_single jn
  rw [d_ck h, M_place hT hM hk, Option.bind_some]
  try dsimp only
  rw [d_gR1 h, Option.bind_some, l3_, d_rd h (by omega), Option.bind_some, hnn, d_ck h, m1_, l0_, l1_, dN_sub np (by omega)]
  cases r : numP T e 0 np k with
  | error p =>
    rw [r] at mf nk
    obtain ⟨x, b, hb, mf⟩ := mf
    have hp := nk.2
    rw [mf, Option.bind_some]
    try dsimp only
    rw [s_g12 hM.1, Option.bind_some, if_neg (show ¬ N p = M1 by rw [N_m1 (by omega)]; exact id)]
    exact ⟨x, b, hb, rfl⟩
  | ok o =>
    rw [r] at mf nk
    obtain ⟨n1, n2, n3, n4⟩ := nk
    have mf' : FX8_figures 62 (N 0) (dN np) (ms (wA σ 63 g) (N (sk T e k)) M1 d) = some (N o.1, ms (wA σ 63 g) (N o.2) M1 d) := mf
    rw [mf', Option.bind_some]
    try dsimp only
    rw [s_g12 hM.1, Option.bind_some, if_pos rfl]
    by_cases c1 : N o.1 = x1
    · rw [if_pos c1, d_ck h, M_wrong0 hM.1, Option.bind_some, if_neg (fun z => z.2 c1)]
    · rw [if_neg c1, d_ck h, show (4 : Int32) = N 4 from rfl, d_of h (by omega) (by omega), Option.bind_some]
      try dsimp only
      by_cases c2 : PA g o.1 4 = M1
      · rw [if_pos c2, if_pos ⟨c2, c1⟩]
      · rw [if_neg c2, d_ck h, M_wrong0 hM.1, Option.bind_some, if_neg (fun z => c2 z.1)]
theorem M_single1 {x1 : Int32} {g : Row} {p : Nat} (hT : TX T e) (h : MDo T e σ) (hk : k ≤ e) (hp : p < 1000000) : ∃ x b, b ≤ e ∧ FX8_single 62 x1 (ms (wA σ 63 g) (N k) (N p) d) = some (x, ms (wA σ 63 g) (N b) (N p) d) := by
  have hM : MT T e (wA σ 63 g) := MDo.mt (MDo.w h)
  unfold FX8_single
  rw [d_ck h, M_place hT hM hk, Option.bind_some]
  try dsimp only
  rw [d_gR1 h, Option.bind_some, l3_, d_rd h (by omega), Option.bind_some, d_ck h, M_figs1 hM hp, Option.bind_some]
  try dsimp only
  rw [s_g12 hM.1, Option.bind_some, if_neg (nm1 (by omega))]
  exact ⟨_, _, sk_le (T := T) hk, rfl⟩
theorem M_wedL (hT : TX T e) (h : MDo T e σ) (hA : mI σ 63 = A) (hnn : A 3 = N np) (hn : np ≤ 10) (hk : k ≤ e) : MOL e σ d (wedP T e A np k) (FX8_wedLine 62 (ms σ (N k) M1 d)) := by
  have he := hT.1
  have s0 : σ = wA σ 63 A := by rw [← hA, wA_self]
  have hM : MT T e (wA σ 63 A) := MDo.mt (MDo.w h)
  have nk := numP_k (lo := 0) (n := np) hT hk
  have m := M_single (d := d) (x1 := -1) (g := A) hT h hnn hn hk
  have hsk := sk_le (T := T) hk
  -- with a fault ahead of the second
  have bad : ∀ (x : Int32) (b p : Nat), b ≤ e → p < 1000000 → ∃ g b', b' ≤ e ∧ (ck 8 62 (ms (wA σ 63 A) (N b) (N p) d) <| (FX8_single 62 x (ms (wA σ 63 A) (N b) (N p) d)).bind fun (x25, σ26) => (gI 8 12 (some 62) σ26).bind fun x27 => (if x27 = (-1) then (ck 8 62 σ26 <| (FX8_has_2 62 x 4 x25 σ26).bind fun σ29 => ck 8 62 σ29 <| (FX8_has_2 62 x25 4 x σ29).bind fun σ31 => some σ31) else (some σ26))) = some (ms (wA (wA σ 63 A) 63 g) (N b') (N p) d) := fun x b p hb hp => by
    obtain ⟨y, b', hb', e1⟩ := M_single1 (d := d) (x1 := x) (g := A) hT h hb hp
    rw [d_ck h, e1, Option.bind_some]
    try dsimp only
    rw [s_g12 hM.1, Option.bind_some, if_neg (nm1 (by omega))]
    exact ⟨A, b', hb', by rw [wA_wA]⟩
  unfold wedP pb FX8_wedLine
  rw [s0, d_ck h]
  cases r : numP T e 0 np k with
  | error p =>
    rw [r] at m nk
    obtain ⟨x, b, hb, m⟩ := m
    have hp := nk.2
    rw [m, Option.bind_some]
    exact bad x b p hb (by omega)
  | ok o =>
    rw [r] at m nk
    obtain ⟨n1, n2, n3, n4⟩ := nk
    have m' : FX8_single 62 (-1) (ms (wA σ 63 A) (N k) M1 d) = some (N o.1, ms (wA σ 63 A) (N o.2) (if PA A o.1 4 = M1 ∧ ¬ N o.1 = -1 then M1 else N (sk T e k)) d) := m
    rw [m', Option.bind_some]
    dsimp only
    by_cases c : PA A o.1 4 = M1
    · rw [if_pos c, if_pos ⟨c, nm1 (by omega)⟩]
      have nk2 := numP_k (lo := 0) (n := np) hT n4
      have m2 := M_single (d := d) (x1 := N o.1) (g := A) hT h hnn hn n4
      rw [d_ck h]
      cases r2 : numP T e 0 np o.2 with
      | error p =>
        rw [r2] at m2 nk2
        obtain ⟨x, b, hb, m2⟩ := m2
        have hp := nk2.2
        rw [m2, Option.bind_some]
        try dsimp only
        rw [s_g12 hM.1, Option.bind_some, if_neg (nm1 (by omega))]
        exact ⟨A, b, hb, by rw [wA_wA]⟩
      | ok o2 =>
        rw [r2] at m2 nk2
        obtain ⟨p1, p2, p3, p4⟩ := nk2
        have m2' : FX8_single 62 (N o.1) (ms (wA σ 63 A) (N o.2) M1 d) = some (N o2.1, ms (wA σ 63 A) (N o2.2) (if PA A o2.1 4 = M1 ∧ ¬ N o2.1 = N o.1 then M1 else N (sk T e o.2)) d) := m2
        rw [m2', Option.bind_some]
        dsimp only
        have hs2 := sk_le (T := T) n4
        by_cases c2 : PA A o2.1 4 = M1 ∧ o2.1 ≠ o.1
        · have c3 : PA A o2.1 4 = M1 ∧ ¬ N o2.1 = N o.1 := ⟨c2.1, by rw [N_inj (by omega) (by omega)]; exact c2.2⟩
          rw [if_pos c2, if_pos c3, s_g12 hM.1, Option.bind_some, if_pos (show M1 = -1 from rfl), d_ck h, show (4 : Int32) = N 4 from rfl, d_has h (by omega) (by omega), Option.bind_some, d_ck h, d_has h (by omega) (by omega), Option.bind_some]
          show some _ = some (ms (wA (wA σ 63 A) 63 _) (N o2.2) M1 d)
          rw [wA_wA]
        · have c3 : ¬ (PA A o2.1 4 = M1 ∧ ¬ N o2.1 = N o.1) := fun z => c2 ⟨z.1, fun z2 => z.2 (by rw [z2])⟩
          rw [if_neg c2, if_neg c3, s_g12 hM.1, Option.bind_some, if_neg (nm1 (by omega))]
          exact ⟨A, o2.2, p4, by rw [wA_wA]⟩
    · rw [if_neg c, if_neg (fun z => c z.1)]
      exact bad (N o.1) o.2 (sk T e k) n4 (by omega)
theorem M_know_28 {p : Nat} (hT : TX T e) (h : MDo T e σ) (hn : np ≤ 10) (hp : p < np) (Kx : Mm → Option Mm) : ∀ n (A : Row) k m, A 3 = N np → k ≤ e → e - k < n → n + 1 < m → match knP T e np p n A k with
    | .ok o => FX8_knowsLine_28 62 (N p) m (N 1) (ms (wA σ 63 A) (N k) M1 d) Kx = Kx (ms (wA σ 63 o.1) (N o.2) M1 d)
    | .error q => ∃ g b, b ≤ e ∧ FX8_knowsLine_28 62 (N p) m (N 1) (ms (wA σ 63 A) (N k) M1 d) Kx = Kx (ms (wA σ 63 g) (N b) (N q) d) := by
  have he := hT.1
  intro n
  induction n with
  | zero => intro A k m _ _ hh; omega
  | succ n ih =>
    intro A k m hnn hk hh hm
    obtain ⟨m, rfl⟩ : ∃ x, m = x + 2 := ⟨m - 2, by omega⟩
    have hk1 := sk_le (T := T) hk
    have hM : MT T e (wA σ 63 A) := MDo.mt (MDo.w h)
    have nk := numP_k (lo := 0) (n := np) hT hk
    have mf := M_figD (d := d) (g := A) (lo := 0) (n := np) hT h (by omega) (by omega) hk1
    rw [numP_sk hT hk] at mf
    have stop : ∀ (g : Row) (a f : Int32), FX8_knowsLine_28 62 (N p) (m + 1) (N 0) (ms (wA σ 63 g) a f d) Kx = Kx (ms (wA σ 63 g) a f d) := fun g a f => by
      rw [FX8_knowsLine_28, if_pos (show N 0 = 0 from rfl)]
    rw [knP]
    unfold pb
    rw [FX8_knowsLine_28, if_neg (show ¬ N 1 = 0 by decide), d_ck h, M_place hT hM hk, Option.bind_some]
    try dsimp only
    rw [d_gR1 h, Option.bind_some, l3_, d_rd h (by omega), Option.bind_some, hnn, d_ck h, m1_, l0_, l1_, dN_sub np (by omega)]
    unfold jn
    cases r : numP T e 0 np k with
    | error q =>
      rw [r] at mf nk
      obtain ⟨x, b, hb, mf⟩ := mf
      have hq := nk.2
      have nq : ¬ N q = M1 := by rw [N_m1 (by omega)]; exact id
      rw [mf, Option.bind_some]
      try dsimp only
      rw [s_g12 hM.1, Option.bind_some, if_neg nq, Option.bind_some, if_neg nq, Option.bind_some, if_neg nq, stop]
      exact ⟨A, b, hb, rfl⟩
    | ok o =>
      rw [r] at mf nk
      obtain ⟨n1, n2, n3, n4⟩ := nk
      have mf' : FX8_figures 62 (N 0) (dN np) (ms (wA σ 63 A) (N (sk T e k)) M1 d) = some (N o.1, ms (wA σ 63 A) (N o.2) M1 d) := mf
      have s1 := sk_le (T := T) n4
      have s2 := sk_ge (T := T) (e := e) (k := o.2)
      rw [mf', Option.bind_some]
      try dsimp only
      rw [s_g12 hM.1, Option.bind_some, if_pos rfl]
      by_cases c : o.1 = p
      · have nq : ¬ N (sk T e k) = M1 := by rw [N_m1 (by omega)]; exact id
        rw [if_pos c, if_pos (by rw [c]), d_ck h, M_wrong0 hM.1, Option.bind_some, s_g12 hM.1, Option.bind_some, if_neg nq, Option.bind_some, if_neg nq, stop]
        exact ⟨A, o.2, n4, rfl⟩
      · have eo : (N 1 : Int32) <<< (N o.1 &&& 31) = bt o.1 := rfl
        rw [if_neg c, if_neg (show ¬ N o.1 = N p by rw [N_inj (by omega) (by omega)]; exact c), Option.bind_some, if_pos rfl, d_ck h, show (5 : Int32) = N 5 from rfl, d_of h (by omega) (by omega), Option.bind_some]
        try dsimp only
        rw [d_ck h, eo, d_has h (by omega) (by omega), Option.bind_some]
        have hM2 : MT T e (wA σ 63 (up1 A (12 + 6 * p + 5) (PA A p 5 ||| bt o.1))) := MDo.mt (MDo.w h)
        rw [s_g12 hM2.1, Option.bind_some, if_pos rfl, d_ck h, M_isFig hT h n4, Option.bind_some]
        try dsimp only
        by_cases cf : fgB T (sk T e o.2) = true
        · rw [if_pos cf, cf, if_neg (show ¬ bN true = N 0 by decide)]
          exact ih _ (sk T e o.2) (m + 1) (by rw [up1_app, if_neg (by omega)]; exact hnn) s1 (by omega) (by omega)
        · rw [if_neg cf, Bool.eq_false_iff.mpr cf, if_pos (show bN false = N 0 from rfl), stop]
theorem M_knowL (hT : TX T e) (h : MDo T e σ) (hA : mI σ 63 = A) (hnn : A 3 = N np) (hn : np ≤ 10) (hk : k ≤ e) : MOL e σ d (knowP T e A np k) (FX8_knowsLine 62 (ms σ (N k) M1 d)) := by
  have he := hT.1
  have s0 : σ = wA σ 63 A := by rw [← hA, wA_self]
  have hM : MT T e (wA σ 63 A) := MDo.mt (MDo.w h)
  have nk := numP_k (lo := 0) (n := np) hT hk
  have m := M_figD (d := d) (g := A) (lo := 0) (n := np) hT h (by omega) (by omega) hk
  unfold knowP pb FX8_knowsLine
  rw [s0, d_gR1 h, Option.bind_some, l3_, d_rd h (by omega), Option.bind_some, hnn, d_ck h, m1_, l0_, l1_, dN_sub np (by omega)]
  unfold jn
  cases r : numP T e 0 np k with
  | error p =>
    rw [r] at m nk
    obtain ⟨x, b, hb, m⟩ := m
    have hp := nk.2
    rw [m, Option.bind_some]
    try dsimp only
    rw [s_g12 hM.1, Option.bind_some, if_neg (show ¬ N p = M1 by rw [N_m1 (by omega)]; exact id), show fu = 99999 + 1 from rfl, FX8_knowsLine_28, if_pos (show N 0 = 0 from rfl)]
    exact ⟨A, b, hb, by rw [wA_wA]⟩
  | ok o =>
    rw [r] at m nk
    obtain ⟨n1, n2, n3, n4⟩ := nk
    have m' : FX8_figures 62 (N 0) (dN np) (ms (wA σ 63 A) (N k) M1 d) = some (N o.1, ms (wA σ 63 A) (N o.2) M1 d) := m
    rw [m', Option.bind_some]
    dsimp only
    rw [s_g12 hM.1, Option.bind_some, if_pos rfl]
    have w := M_know_28 (d := d) (p := o.1) hT h hn n2 (fun (σ : Mm) => some σ) (e + 1) A o.2 fu hnn n4 (by omega) (by unfold fu; omega)
    cases r2 : knP T e np o.1 (e + 1) A o.2 with
    | error p =>
      rw [r2] at w
      obtain ⟨g, b, hb, w⟩ := w
      rw [w]
      exact ⟨g, b, hb, by rw [wA_wA]⟩
    | ok o2 =>
      rw [r2] at w
      have w' : FX8_knowsLine_28 62 (N o.1) fu (N 1) (ms (wA σ 63 A) (N o.2) M1 d) (fun (σ : Mm) => some σ) = some (ms (wA σ 63 o2.1) (N o2.2) M1 d) := w
      rw [w']
      show some _ = some (ms (wA (wA σ 63 A) 63 o2.1) (N o2.2) M1 d)
      rw [wA_wA]
/-! hooks -/
def ltF (A : Row) (np : Nat) : Nat → Nat → Nat → Nat
  | 0, _, a => a
  | k + 1, v, a => ltF A np k (v + 1) (if tkH A np v = true then v + 1 else a)
theorem ltF_iff {np : Nat} : ∀ k v a n, a ≤ v → (ltF A np k v a ≤ n ↔ a ≤ n ∧ ∀ u, v ≤ u → u < v + k → n ≤ u → tkH A np u = false) := by
  intro k
  induction k with
  | zero => intro v a n _; exact ⟨fun h => ⟨h, fun u h1 h2 => by omega⟩, fun h => h.1⟩
  | succ k ih =>
    intro v a n hav
    rw [ltF]
    by_cases c : tkH A np v = true
    · rw [if_pos c, ih (v + 1) (v + 1) n (Nat.le_refl _)]
      constructor
      · rintro ⟨h1, h2⟩
        exact ⟨by omega, fun u u1 u2 u3 => h2 u (by omega) (by omega) u3⟩
      · rintro ⟨h1, h2⟩
        refine ⟨?_, fun u u1 u2 u3 => h2 u (by omega) (by omega) u3⟩
        apply Classical.byContradiction
        intro hc
        have := h2 v (by omega) (by omega) (by omega)
        rw [this] at c; cases c
    · rw [if_neg c, ih (v + 1) a n (by omega)]
      constructor
      · rintro ⟨h1, h2⟩
        refine ⟨h1, fun u u1 u2 u3 => ?_⟩
        by_cases e1 : u = v
        · rw [e1]; exact Bool.eq_false_iff.mpr c
        · exact h2 u (by omega) (by omega) u3
      · rintro ⟨h1, h2⟩
        exact ⟨h1, fun u u1 u2 u3 => h2 u (by omega) (by omega) u3⟩
theorem ltF_le {np : Nat} : ∀ k v a, a ≤ v → ltF A np k v a ≤ v + k := by
  intro k v a h
  exact (ltF_iff k v a (v + k) h).mpr ⟨by omega, fun u _ h2 h3 => by omega⟩
theorem tkFrom_iff {np : Nat} : ∀ k v, tkFrom A np k v = false ↔ ∀ u, v ≤ u → u < v + k → tkH A np u = false := by
  intro k
  induction k with
  | zero => intro v; exact ⟨fun _ u h1 h2 => by omega, fun _ => rfl⟩
  | succ k ih =>
    intro v
    rw [tkFrom, Bool.or_eq_false_iff, ih]
    constructor
    · rintro ⟨h1, h2⟩ u u1 u2
      by_cases e1 : u = v
      · rw [e1]; exact h1
      · exact h2 u (by omega) (by omega)
    · intro h
      exact ⟨h v (by omega) (by omega), fun u u1 u2 => h u (by omega) (by omega)⟩
theorem tkH_no {np nh v : Nat} (hw : WF A np nh) (h1 : nh ≤ v) (h2 : v < 12) : tkH A np v = false := by
  unfold tkH
  rw [hw.2.2.2.1 v h1 h2, decide_eq_true rfl, Bool.not_true, Bool.false_or]
  cases hr : aTicket A np (N v) with
  | none => rfl
  | some p =>
    exfalso
    obtain ⟨a1, -, a3, -⟩ := sr_some np 0 p hr
    have hn := hw.1.2.1
    rcases (hw.2.1 p (by omega)).2.1 with h3 | ⟨a, h3, h4⟩
    · rw [a1, N_m1 (by omega)] at h3; exact h3
    · have := hw.1.2.2.2.2.1
      rw [a1, N_inj (by omega) (by omega)] at h4; omega
/-- the least number that the hooks may have -/
theorem lt_from {np nh n : Nat} (hw : WF A np nh) (hn : n ≤ 12) : ltF A np nh 0 0 ≤ n ↔ tkFrom A np (12 - n) n = false := by
  rw [ltF_iff nh 0 0 n (Nat.le_refl _), tkFrom_iff]
  constructor
  · rintro ⟨-, h⟩ u u1 u2
    by_cases c : u < nh
    · exact h u (by omega) (by omega) u1
    · exact tkH_no hw (by omega) (by omega)
  · intro h
    exact ⟨by omega, fun u _ u2 u3 => h u u3 (by have := hw.1.2.2.2.2.1; omega)⟩
theorem numP_lo {lo : Nat} (hlo : 1 ≤ lo) : numP T e lo 13 k = pb (numP T e 1 13 k) fun n k1 => if lo ≤ n then .ok (n, k1) else .error (sk T e k) := by
  unfold numP pb
  dsimp only
  by_cases c : dg T e (sk T e k) = sk T e k ∨ 3 < dg T e (sk T e k) - sk T e k ∨ nv T (sk T e k) (dg T e (sk T e k) - sk T e k) < 1 ∨ 13 ≤ nv T (sk T e k) (dg T e (sk T e k) - sk T e k)
  · rw [if_pos c, if_pos (by omega)]
  · rw [if_neg c]
    dsimp only
    by_cases c2 : lo ≤ nv T (sk T e k) (dg T e (sk T e k) - sk T e k)
    · rw [if_neg (by omega), if_pos c2]
    · rw [if_pos (by omega), if_neg c2]
theorem M_last_4 {g : Row} {a f : Int32} (h : MDo T e σ) (hw : WF g np nh) (Kx : Int32 → Mm → Option (Int32 × Mm)) : ∀ (j v b m : Nat), v + j = nh → b ≤ v → j < m → FX8_lastTaken_4 62 m (vk b) (N v) (ms (wA σ 63 g) a f d) Kx = Kx (vk (ltF g np j v b)) (ms (wA σ 63 g) a f d) := by
  have hn := hw.1.2.1
  have hh := hw.1.2.2.2.2.1
  intro j
  induction j with
  | zero =>
    intro v b m hv _ hm
    obtain ⟨m, rfl⟩ : ∃ x, m = x + 1 := ⟨m - 1, by omega⟩
    rw [FX8_lastTaken_4, d_gR1 h, Option.bind_some, show (4 : Int32) = N 4 from rfl, d_rd h (by omega), Option.bind_some, hw.1.2.2.1, if_pos (by rw [N_le (by omega) (by omega)]; omega), ltF]
  | succ j ih =>
    intro v b m hv hb hm
    obtain ⟨m, rfl⟩ : ∃ x, m = x + 1 := ⟨m - 1, by omega⟩
    have i1 := ih (v + 1) (v + 1) m (by omega) (by omega) (by omega)
    have i0 := ih (v + 1) b m (by omega) (by omega) (by omega)
    have vs : vk (v + 1) = N v := by unfold vk; rw [if_neg (by omega), Nat.add_sub_cancel]
    rw [vs] at i1
    have tk := M_ticket (y := N v) (σ := ms (wA σ 63 g) a f d) (FM_ms (FM_w h.1)) (by rw [ms_q (by omega), mI_wA, if_pos rfl]; exact hw.1.1) hn
    rw [ms_q (by omega), mI_wA, if_pos rfl] at tk
    rw [FX8_lastTaken_4, d_gR1 h, Option.bind_some, show (4 : Int32) = N 4 from rfl, d_rd h (by omega), Option.bind_some, hw.1.2.2.1, if_neg (by rw [N_le (by omega) (by omega)]; omega), Option.bind_some, l272_, N_add, d_rd h (by omega), Option.bind_some, m1_, l1_, N_add, ltF]
    unfold jn tkH
    try dsimp only
    show (if HA g v = M1 then _ else _) = _
    by_cases c : HA g v = M1
    · rw [if_pos c, d_ck h, tk, Option.bind_some, decide_eq_true c, Bool.not_true, Bool.false_or]
      try dsimp only
      cases (aTicket g np (N v)).isSome
      · rw [if_pos (show bN false = (0 : Int32) from rfl), if_neg Bool.false_ne_true]; exact i0
      · rw [if_neg (show ¬ bN true = (0 : Int32) by decide), if_pos rfl]; exact i1
    · rw [if_neg c, decide_eq_false c, Bool.not_false, Bool.true_or, if_pos rfl]; exact i1
theorem M_hookL (hT : TX T e) (h : MDo T e σ) (hA : mI σ 63 = A) (hw : WF A np nh) (hk : k ≤ e) : MOL e σ d (hookP T e A np k) (ck 8 62 (ms σ (N k) M1 d) <| (FX8_lastTaken 62 (ms σ (N k) M1 d)).bind fun (x65, σ66) => (FX8_greater 1 (x65 + 1) σ66).bind fun (x67, σ68) => ck 8 62 σ68 <| (FX8_figures 62 x67 12 σ68).bind fun (x70, σ71) => (gI 8 12 (some 62) σ71).bind fun x72 => (if x72 = (-1) then ((gR 8 1 (some 62) σ71).bind fun x73 => (sI x73 4 x70 σ71).bind fun σ74 => some σ74) else (some σ71))) := by
  have he := hT.1
  have s0 : σ = wA σ 63 A := by rw [← hA, wA_self]
  have hM : MT T e (wA σ 63 A) := MDo.mt (MDo.w h)
  have hh := hw.1.2.2.2.2.1
  have ltl := ltF_le (A := A) (np := np) nh 0 0 (Nat.le_refl _)
  obtain ⟨lt, hlt⟩ : ∃ lt, lt = ltF A np nh 0 0 := ⟨_, rfl⟩
  have la : FX8_lastTaken 62 (ms (wA σ 63 A) (N k) M1 d) = some (vk lt, ms (wA σ 63 A) (N k) M1 d) := by
    unfold FX8_lastTaken
    have := M_last_4 (d := d) (a := N k) (f := M1) h hw (fun (x31 : Int32) (σ : Mm) => some (x31, σ)) nh 0 0 fu (by omega) (by omega) (by unfold fu; omega)
    rw [hlt]; exact this
  have v1 : vk lt + 1 = N lt := by
    unfold vk
    by_cases c : lt = 0
    · rw [if_pos c, c]; rfl
    · rw [if_neg c, l1_, N_add, show lt - 1 + 1 = lt by omega]
  have m := M_figD (d := d) (g := A) (lo := max 1 lt) (n := 13) hT h (by omega) (by omega) hk
  rw [numP_lo (by omega)] at m
  have nk := numP_k (lo := 1) (n := 13) hT hk
  have hsk := sk_le (T := T) hk
  unfold hookP
  rw [s0, d_ck h, la, Option.bind_some]
  try dsimp only
  rw [v1, l1_, M_great2 (by omega) (by omega), Option.bind_some]
  try dsimp only
  rw [d_ck h, show (12 : Int32) = dN 13 from rfl]
  unfold pb at m ⊢
  cases r : numP T e 1 13 k with
  | error p =>
    rw [r] at m nk
    obtain ⟨x, b, hb, m⟩ := m
    have hp := nk.2
    rw [m, Option.bind_some]
    try dsimp only
    rw [s_g12 hM.1, Option.bind_some, if_neg (show ¬ N p = -N 1 by show ¬ N p = M1; rw [N_m1 (by omega)]; exact id)]
    exact ⟨A, b, hb, by rw [wA_wA]⟩
  | ok o =>
    rw [r] at m nk
    obtain ⟨n1, n2, n3, n4⟩ := nk
    have lf := lt_from (n := o.1) hw (by omega)
    rw [← hlt] at lf
    dsimp only at m ⊢
    by_cases c : max 1 lt ≤ o.1
    · rw [if_pos c] at m
      have m' : FX8_figures 62 (N (max 1 lt)) (dN 13) (ms (wA σ 63 A) (N k) M1 d) = some (N o.1, ms (wA σ 63 A) (N o.2) M1 d) := m
      rw [m', Option.bind_some]
      try dsimp only
      rw [s_g12 hM.1, Option.bind_some, if_pos (show M1 = -N 1 from rfl), d_gR1 h, Option.bind_some, show (4 : Int32) = N 4 from rfl, d_wr h (by omega), Option.bind_some, if_neg (by rw [lf.mp (by omega)]; exact Bool.false_ne_true)]
      show some _ = some (ms (wA (wA σ 63 A) 63 (up1 A 4 (N o.1))) (N o.2) M1 d)
      rw [wA_wA]
    · rw [if_neg c] at m
      obtain ⟨x, b, hb, m⟩ := m
      have tf : tkFrom A np (12 - o.1) o.1 = true := by
        cases ht : tkFrom A np (12 - o.1) o.1 with
        | true => rfl
        | false => have := lf.mpr ht; omega
      rw [m, Option.bind_some]
      try dsimp only
      rw [s_g12 hM.1, Option.bind_some, if_neg (show ¬ N (sk T e k) = -N 1 by show ¬ N (sk T e k) = M1; rw [N_m1 (by omega)]; exact id), if_pos tf]
      exact ⟨A, b, hb, by rw [wA_wA]⟩
end
