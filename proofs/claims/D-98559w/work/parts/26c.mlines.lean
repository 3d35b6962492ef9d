/-! THE PLAIN LAW, 141: the model's other lines -/
set_option maxRecDepth 100000
section
variable {T : Nat → Nat} {e k np nh : Nat} {σ : Mm} {d : Int32} {A : Row}
theorem numP_k {lo n : Nat} (hT : TX T e) (hk : k ≤ e) : match numP T e lo n k with
    | .ok o => lo ≤ o.1 ∧ o.1 < n ∧ k < o.2 ∧ o.2 ≤ e
    | .error p => p = sk T e k ∧ p ≤ e := by
  have h1 := sk_le (T := T) hk
  have h0 := sk_ge (T := T) (e := e) (k := k)
  have h3 := dg_ge (T := T) (e := e) (k := sk T e k)
  have h4 := dg_le (T := T) (e := e) (k := sk T e k) h1
  unfold numP
  dsimp only
  by_cases c : dg T e (sk T e k) = sk T e k ∨ 3 < dg T e (sk T e k) - sk T e k ∨ nv T (sk T e k) (dg T e (sk T e k) - sk T e k) < lo ∨ n ≤ nv T (sk T e k) (dg T e (sk T e k) - sk T e k)
  · rw [if_pos c]; exact ⟨rfl, h1⟩
  · rw [if_neg c]
    show lo ≤ nv T (sk T e k) (dg T e (sk T e k) - sk T e k) ∧ nv T (sk T e k) (dg T e (sk T e k) - sk T e k) < n ∧ k < dg T e (sk T e k) ∧ dg T e (sk T e k) ≤ e
    omega
theorem fg_iff {j : Nat} : fgB T j = true ↔ 48 ≤ T j ∧ T j ≤ 57 := by
  unfold fgB
  rw [Bool.and_eq_true, decide_eq_true_iff, decide_eq_true_iff]
theorem M_isFig {g : Row} {f : Int32} (hT : TX T e) (h : MDo T e σ) (hk : k ≤ e) : FX8_isFigure 62 (ms (wA σ 63 g) (N k) f d) = some (bN (fgB T (sk T e k)), ms (wA σ 63 g) (N (sk T e k)) f d) := by
  have he := hT.1
  have hM : MT T e (wA σ 63 g) := MDo.mt (MDo.w h)
  have h1 := sk_le (T := T) hk
  unfold FX8_isFigure
  rw [d_ck h, M_skip hT hM (by omega), Option.bind_some, s_g11 hM.1, Option.bind_some, s_g10 hM, Option.bind_some]
  by_cases c : e ≤ sk T e k
  · have e1 : sk T e k = e := by omega
    have f0 : fgB T (sk T e k) = false := by
      apply Bool.eq_false_iff.mpr
      intro z
      have := fg_iff.mp z
      rw [hT.2.2 _ c] at this
      omega
    rw [if_pos (by rw [N_le (by omega) (by omega)]; exact c), f0, l0_, rZ_0]; rfl
  · have ht := hT.2.1 _ (show sk T e k < e by omega)
    rw [if_neg (by rw [N_le (by omega) (by omega)]; exact c), Option.bind_some, d_ck h, M_letter hT hM (by omega), Option.bind_some]
    try dsimp only
    rw [l48_, l57_, M_isInN (by omega) (by omega) (by omega), Option.bind_some]
    try dsimp only
    by_cases c2 : 48 ≤ T (sk T e k) ∧ T (sk T e k) ≤ 57
    · rw [if_pos c2, if_neg (show ¬ N 1 = 0 by decide), fg_iff.mpr c2, l1_, rZ_1]; rfl
    · have f0 : fgB T (sk T e k) = false := Bool.eq_false_iff.mpr fun z => c2 (fg_iff.mp z)
      rw [if_neg c2, if_pos (show N 0 = 0 from rfl), f0, l0_, rZ_0]; rfl
theorem M_figD {g : Row} {lo n : Nat} (hT : TX T e) (h : MDo T e σ) (hlo : lo < 1000000) (hn : n ≤ 1000000) (hk : k ≤ e) : match numP T e lo n k with
    | .ok o => FX8_figures 62 (N lo) (dN n) (ms (wA σ 63 g) (N k) M1 d) = some (N o.1, ms (wA σ 63 g) (N o.2) M1 d)
    | .error p => ∃ x b, b ≤ e ∧ FX8_figures 62 (N lo) (dN n) (ms (wA σ 63 g) (N k) M1 d) = some (x, ms (wA σ 63 g) (N b) (N p) d) := M_figures hT (MDo.mt (MDo.w h)) hlo hn hk
/-- a field: a number is put -/
theorem M_fldL {j : Nat} (hT : TX T e) (h : MDo T e σ) (hA : mI σ 63 = A) (hj : j < 984) (hk : k ≤ e) : MOL e σ d (fldP T e A j k) ((ck 8 62 (ms σ (N k) M1 d) <| (FX8_figures 62 0 100 (ms σ (N k) M1 d)).bind fun (x57, σ58) => (gI 8 12 (some 62) σ58).bind fun x59 => (if x59 = (-1) then ((gR 8 1 (some 62) σ58).bind fun x60 => (sI x60 (N j) x57 σ58).bind fun σ61 => some σ61) else (some σ58)))) := by
  have he := hT.1
  have s0 : σ = wA σ 63 A := by rw [← hA, wA_self]
  have nk := numP_k (lo := 0) (n := 101) hT hk
  have m := M_figD (d := d) (g := A) (lo := 0) (n := 101) hT h (by omega) (by omega) hk
  rw [← s0, show dN 101 = 100 from rfl, show N 0 = 0 from rfl] at m
  rw [s_ck h.1]
  unfold fldP pb
  cases r : numP T e 0 101 k with
  | error p =>
    rw [r] at m nk
    obtain ⟨x, b, hb, m⟩ := m
    rw [m, Option.bind_some]
    try dsimp only
    rw [s_g12 h.1, Option.bind_some, if_neg (show ¬ N p = -1 by rw [m1_, N_m1 (by omega)]; exact id)]
    exact ⟨A, b, hb, by rw [← s0]⟩
  | ok o =>
    rw [r] at m
    have m' : FX8_figures 62 0 100 (ms σ (N k) M1 d) = some (N o.1, ms σ (N o.2) M1 d) := m
    rw [m', Option.bind_some]
    try dsimp only
    rw [s_g12 h.1, Option.bind_some, if_pos (show M1 = -1 from rfl), s0, d_gR1 h, Option.bind_some, d_wr h hj, Option.bind_some]
    show some (ms (wA σ 63 (up1 A j (N o.1))) (N o.2) M1 d) = some (ms (wA (wA σ 63 A) 63 (up1 A j (N o.1))) (N o.2) M1 d)
    rw [wA_wA]
/-! wishes -/
def gl (A : Row) (B : Nat) (l : List Nat) : Row := fun j => if B ≤ j ∧ j < B + l.length then N (l.getD (j - B) 0) else A j
theorem gl_nil {B : Nat} : gl A B [] = A := funext fun j => if_neg (by rw [List.length_nil]; omega)
theorem gl_app {B f : Nat} {l : List Nat} : up1 (gl A B l) (B + l.length) (N f) = gl A B (l ++ [f]) := by
  funext j
  rw [up1_app]
  unfold gl
  rw [List.length_append, List.length_singleton]
  by_cases c : j = B + l.length
  · rw [if_pos c, if_pos (by omega), c, show B + l.length - B = l.length by omega, List.getD_eq_getElem?_getD, List.getElem?_append_right (Nat.le_refl _), Nat.sub_self]
    rfl
  · rw [if_neg c]
    by_cases c2 : B ≤ j ∧ j < B + l.length
    · rw [if_pos c2, if_pos (by omega), List.getD_eq_getElem?_getD, List.getD_eq_getElem?_getD, List.getElem?_append_left (by omega)]
    · rw [if_neg c2, if_neg (by omega)]
/-- the told ones, as a set -/
def msk (l : List Nat) (s : Nat) : Prop := s < 1024 ∧ ∀ j, j < 10 → s.testBit j = l.contains j
theorem msk_nil : msk [] 0 := ⟨by omega, fun j _ => by rw [Nat.zero_testBit]; rfl⟩
theorem msk_app {l : List Nat} {s f : Nat} (hf : f < 10) (h : msk l s) : msk (l ++ [f]) (s ||| 2 ^ f) := by
  refine ⟨or_lt h.1 hf, fun j hj => ?_⟩
  rw [Nat.testBit_or, h.2 j hj, Nat.testBit_two_pow, List.contains_append, List.contains_cons, List.contains_nil, Bool.or_false]
  congr 1
  by_cases c : f = j
  · rw [decide_eq_true c, c]; exact (beq_self_eq_true j).symm
  · rw [decide_eq_false c]; exact (beq_eq_false_iff_ne.mpr fun z => c z.symm).symm
theorem nd_len {l : List Nat} (hn : np ≤ 10) (h1 : l.Nodup) (h2 : ∀ x ∈ l, x < np) : l.length ≤ 10 := by
  have := h1.length_le_of_subset (l₂ := List.range np) fun x hx => List.mem_range.mpr (h2 x hx)
  rw [List.length_range] at this
  omega
theorem nd_app {l : List Nat} {f : Nat} (h1 : l.Nodup) (hf : ¬ l.contains f = true) : (l ++ [f]).Nodup := by
  rw [List.nodup_append]
  refine ⟨h1, List.nodup_cons.mpr ⟨(by intro z; cases z), List.nodup_nil⟩, fun a ha b hb z => ?_⟩
  rw [List.mem_singleton] at hb
  subst hb
  subst z
  exact hf (List.contains_iff_mem.mpr ha)
/-- what a list of wishes is -/
def wlG (np : Nat) (l : List Nat) : Prop := l.Nodup ∧ ∀ x ∈ l, x < np
theorem wlG_app {l : List Nat} {f : Nat} (h : wlG np l) (hf : f < np) (hc : ¬ l.contains f = true) : wlG np (l ++ [f]) := ⟨nd_app h.1 hc, fun x hx => by
  rcases List.mem_append.mp hx with h1 | h1
  · exact h.2 x h1
  · rw [List.mem_singleton] at h1; omega⟩
theorem wlP_k (hT : TX T e) (hn : np ≤ 10) : ∀ n l k, k ≤ e → wlG np l → n + l.length = 11 → match wlP T e np n l k with
    | .ok o => wlG np o.1 ∧ k < o.2 ∧ o.2 ≤ e
    | .error p => p ≤ e := by
  intro n
  induction n with
  | zero => intro l k _ hl hh; have := nd_len hn hl.1 hl.2; omega
  | succ n ih =>
    intro l k hk hl hh
    have nk := numP_k (lo := 0) (n := np) hT hk
    rw [wlP]
    unfold pb
    cases r : numP T e 0 np k with
    | error p => rw [r] at nk; exact nk.2
    | ok o =>
      rw [r] at nk
      obtain ⟨n1, n2, n3, n4⟩ := nk
      have s1 := sk_le (T := T) n4
      have s2 := sk_ge (T := T) (e := e) (k := o.2)
      dsimp only
      by_cases c : l.contains o.1 = true
      · rw [if_pos c]; exact sk_le (T := T) hk
      · rw [if_neg c]
        have lg := wlG_app hl n2 c
        by_cases cf : fgB T (sk T e o.2) = true
        · rw [if_pos cf]
          have := ih (l ++ [o.1]) (sk T e o.2) s1 lg (by rw [List.length_append, List.length_singleton]; omega)
          cases r2 : wlP T e np n (l ++ [o.1]) (sk T e o.2) with
          | error p => rw [r2] at this; exact this
          | ok o2 => rw [r2] at this; exact ⟨this.1, by have := this.2.1; omega, this.2.2⟩
        · rw [if_neg cf]; exact ⟨lg, by show k < sk T e o.2; omega, s1⟩
theorem M_wish_42 {B : Nat} (hT : TX T e) (h : MDo T e σ) (hnn : A 3 = N np) (hn : np ≤ 10) (hB : 72 ≤ B) (hB2 : B + 10 < 984) (K1 : Int32 → Int32 → Mm → Option Mm) (K2 : Mm → Option Mm) : ∀ n l k s m, k ≤ e → wlG np l → msk l s → n + l.length = 11 → n < m → match wlP T e np n l k with
    | .ok o => ∃ s', msk o.1 s' ∧ FX8_wishLine_42 62 (N B) m (N s) (N l.length) (N 1) (ms (wA σ 63 (gl A B l)) (N k) M1 d) K1 K2 = K1 (N s') (N o.1.length) (ms (wA σ 63 (gl A B o.1)) (N o.2) M1 d)
    | .error p => ∃ g b, b ≤ e ∧ FX8_wishLine_42 62 (N B) m (N s) (N l.length) (N 1) (ms (wA σ 63 (gl A B l)) (N k) M1 d) K1 K2 = K2 (ms (wA σ 63 g) (N b) (N p) d) := by
  have he := hT.1
  intro n
  induction n with
  | zero => intro l k s m _ hl _ hh _; have := nd_len hn hl.1 hl.2; omega
  | succ n ih =>
    intro l k s m hk hl hs hh hm
    obtain ⟨m, rfl⟩ : ∃ x, m = x + 1 := ⟨m - 1, by omega⟩
    have hlen := nd_len hn hl.1 hl.2
    have hk1 := sk_le (T := T) hk
    have gl3 : gl A B l 3 = N np := (if_neg (by omega)).trans hnn
    have nk := numP_k (lo := 0) (n := np) hT hk
    have mf := M_figD (d := d) (g := gl A B l) (lo := 0) (n := np) hT h (by omega) (by omega) hk1
    rw [numP_sk hT hk] at mf
    have hMw : MT T e (wA σ 63 (gl A B l)) := MDo.mt (MDo.w h)
    rw [wlP]
    unfold pb
    rw [FX8_wishLine_42, if_neg (show ¬ N 1 = 0 by decide), d_ck h, M_place hT hMw hk, Option.bind_some]
    try dsimp only
    rw [d_gR1 h, Option.bind_some, l3_, d_rd h (by omega), Option.bind_some, gl3, d_ck h, l0_, l1_, dN_sub np (by omega)]
    unfold jn
    cases r : numP T e 0 np k with
    | error p =>
      rw [r] at mf nk
      obtain ⟨x, b, hb, mf⟩ := mf
      have hp := nk.2
      rw [mf, Option.bind_some]
      try dsimp only
      rw [s_g12 hMw.1, Option.bind_some, if_neg (show ¬ N p = -N 1 by show ¬ N p = M1; rw [N_m1 (by omega)]; exact id), Option.bind_some, if_neg (show ¬ N p = -N 1 by show ¬ N p = M1; rw [N_m1 (by omega)]; exact id)]
      exact ⟨_, b, hb, rfl⟩
    | ok o =>
      rw [r] at mf nk
      obtain ⟨n1, n2, n3, n4⟩ := nk
      have mf' : FX8_figures 62 (N 0) (dN np) (ms (wA σ 63 (gl A B l)) (N (sk T e k)) M1 d) = some (N o.1, ms (wA σ 63 (gl A B l)) (N o.2) M1 d) := mf
      have hs1 := hs.1
      have sb := hs.2 o.1 (by omega)
      have s1 := sk_le (T := T) n4
      rw [mf', Option.bind_some]
      try dsimp only
      rw [s_g12 hMw.1, Option.bind_some, if_pos (show M1 = -N 1 from rfl), M_isOf, Option.bind_some]
      try dsimp only
      simp (disch := omega) only [tb_N]
      rw [sb]
      by_cases c : l.contains o.1 = true
      · rw [if_pos c, if_pos c, if_neg (show ¬ N 1 = N 0 by decide), d_ck h, M_wrong0 hMw.1, Option.bind_some, s_g12 hMw.1, Option.bind_some, if_neg (show ¬ N (sk T e k) = -N 1 by show ¬ N (sk T e k) = M1; rw [N_m1 (by omega)]; exact id)]
        exact ⟨_, _, n4, rfl⟩
      · have lg := wlG_app hl n2 c
        have eB : N B + N l.length = N (B + l.length) := N_add _ _
        have eo : N s ||| (N 1 <<< (N o.1 &&& 31)) = N (s ||| 2 ^ o.1) := bt_or (by omega)
        have sa := msk_app (by omega) hs (f := o.1)
        have ll : (l ++ [o.1]).length = l.length + 1 := by rw [List.length_append, List.length_singleton]
        rw [if_neg c, if_neg c, if_pos rfl, s_g12 hMw.1, Option.bind_some, if_pos (show M1 = -N 1 from rfl), d_gR1 h, Option.bind_some, eB, d_wr h (by omega), Option.bind_some, gl_app, d_ck h, M_isFig hT h n4, Option.bind_some, eo, N_add]
        try dsimp only
        by_cases cf : fgB T (sk T e o.2) = true
        · rw [if_pos cf, cf, ← ll]
          exact ih (l ++ [o.1]) (sk T e o.2) (s ||| 2 ^ o.1) m s1 lg sa (by omega) (by omega)
        · rw [if_neg cf, Bool.eq_false_iff.mpr cf]
          refine ⟨s ||| 2 ^ o.1, sa, ?_⟩
          obtain ⟨m, rfl⟩ : ∃ x, m = x + 1 := ⟨m - 1, by omega⟩
          rw [FX8_wishLine_42, if_pos (show bN false = (0 : Int32) from rfl), ← ll]
theorem M_wish_142 {B s : Nat} {l : List Nat} {y : Int32} (h : MDo T e σ) (hs : msk l s) (hy : y = N s) (hB : B + 30 < 984) {a f : Int32} (Kx : Mm → Option Mm) : ∀ (j v c m : Nat) (g : Row), v + j = 10 → c ≤ v + 10 → j < m → ∃ g', FX8_wishLine_142 62 y (N B) m (N c) (N v) (ms (wA σ 63 g) a f d) Kx = Kx (ms (wA σ 63 g') a f d) ∧ ∀ i, g' i = if B + c ≤ i ∧ i < B + c + ((List.range' v j).filter fun x => !l.contains x).length then N (((List.range' v j).filter fun x => !l.contains x).getD (i - (B + c)) 0) else g i := by
  intro j
  induction j with
  | zero =>
    intro v c m g hv _ hm
    obtain ⟨m, rfl⟩ : ∃ x, m = x + 1 := ⟨m - 1, by omega⟩
    refine ⟨g, by rw [FX8_wishLine_142, if_pos (by rw [l10_, N_le (by omega) (by omega)]; omega)], fun i => ?_⟩
    rw [if_neg]
    intro z
    have : ((List.range' v 0).filter fun x => !l.contains x).length = 0 := rfl
    omega
  | succ j ih =>
    intro v c m g hv hc hm
    obtain ⟨m, rfl⟩ : ∃ x, m = x + 1 := ⟨m - 1, by omega⟩
    have hs1 := hs.1
    rw [FX8_wishLine_142, if_neg (by rw [l10_, N_le (by omega) (by omega)]; omega), hy, M_isOf, Option.bind_some, l1_, N_add, List.range'_succ, List.filter_cons]
    try dsimp only
    simp (disch := omega) only [tb_N]
    rw [hs.2 v (by omega), ← hy]
    by_cases cl : l.contains v = true
    · obtain ⟨g', t1, t2⟩ := ih (v + 1) c m g (by omega) (by omega) (by omega)
      rw [if_pos cl, if_neg (show ¬ N 1 = 0 by decide), cl, Bool.not_true, if_neg Bool.false_ne_true, N_add]
      exact ⟨g', t1, t2⟩
    · obtain ⟨g', t1, t2⟩ := ih (v + 1) (c + 1) m (up1 g (B + c) (N v)) (by omega) (by omega) (by omega)
      refine ⟨g', ?_, fun i => ?_⟩
      · rw [if_neg cl, if_pos (show N 0 = 0 from rfl), d_gR1 h, Option.bind_some, N_add, d_wr h (by omega), Option.bind_some, N_add, t1]
      · rw [t2 i, up1_app, Bool.eq_false_iff.mpr cl, Bool.not_false, if_pos rfl, List.length_cons]
        by_cases c1 : i = B + c
        · rw [if_neg (by omega), if_pos c1, if_pos (by omega), c1, Nat.sub_self]; rfl
        · by_cases c2 : B + (c + 1) ≤ i ∧ i < B + (c + 1) + ((List.range' (v + 1) j).filter fun x => !l.contains x).length
          · rw [if_pos c2, if_pos (by omega), show i - (B + c) = i - (B + (c + 1)) + 1 by omega]; rfl
          · rw [if_neg c2, if_neg c1, if_neg (by omega)]
theorem M_wishL (hT : TX T e) (h : MDo T e σ) (hA : mI σ 63 = A) (hnn : A 3 = N np) (hn : np ≤ 10) (hk : k ≤ e) : MOL e σ d (wishP T e A np k) (FX8_wishLine 62 (ms σ (N k) M1 d)) := by
  have he := hT.1
  have s0 : σ = wA σ 63 A := by rw [← hA, wA_self]
  have nk := numP_k (lo := 0) (n := np) hT hk
  have m := M_figD (d := d) (g := A) (lo := 0) (n := np) hT h (by omega) (by omega) hk
  unfold wishP pb FX8_wishLine
  rw [s0, d_gR1 h, Option.bind_some, l3_, d_rd h (by omega), Option.bind_some, hnn, d_ck h, l0_, l1_, dN_sub np (by omega)]
  unfold jn
  cases r : numP T e 0 np k with
  | error p =>
    rw [r] at m nk
    obtain ⟨x, b, hb, m⟩ := m
    have hM := MDo.mt (MDo.w h (g := A))
    rw [m, Option.bind_some]
    try dsimp only
    rw [s_g12 hM.1, Option.bind_some, if_neg (show ¬ N p = -N 1 by show ¬ N p = M1; rw [N_m1 (by omega)]; exact id), show fu = 99999 + 1 from rfl, FX8_wishLine_42, if_pos (show N 0 = 0 from rfl), s_g12 hM.1, Option.bind_some, if_neg (show ¬ N p = -N 1 by show ¬ N p = M1; rw [N_m1 (by omega)]; exact id)]
    exact ⟨A, b, hb, by rw [wA_wA]⟩
  | ok o =>
    rw [r] at m nk
    obtain ⟨n1, n2, n3, n4⟩ := nk
    have hM := MDo.mt (MDo.w h (g := A))
    have m' : FX8_figures 62 (N 0) (dN np) (ms (wA σ 63 A) (N k) M1 d) = some (N o.1, ms (wA σ 63 A) (N o.2) M1 d) := m
    rw [m', Option.bind_some]
    try dsimp only
    rw [s_g12 hM.1, Option.bind_some, if_pos (show M1 = -N 1 from rfl), l72_, l10_, N_mul, N_add]
    have w := M_wish_42 (d := d) (B := 72 + 10 * o.1) hT h hnn hn (by omega) (by omega) (fun (x51 : Int32) (x52 : Int32) (σ : Mm) => (gI 8 12 (some 62) σ).bind fun x53 => (if x53 = -N 1 then (FX8_wishLine_142 62 x51 (N (72 + 10 * o.1)) fu x52 (N 0) σ (fun (σ : Mm) => some σ)) else (some σ))) (fun (σ : Mm) => some σ) 11 [] o.2 0 fu n4 ⟨List.nodup_nil, fun x hx => by cases hx⟩ msk_nil rfl (by unfold fu; omega)
    rw [gl_nil, List.length_nil] at w
    cases r2 : wlP T e np 11 [] o.2 with
    | error p =>
      rw [r2] at w
      obtain ⟨g, b, hb, w⟩ := w
      rw [w]
      exact ⟨g, b, hb, by rw [wA_wA]⟩
    | ok o2 =>
      have lk := wlP_k hT hn 11 [] o.2 n4 ⟨List.nodup_nil, fun x hx => by cases hx⟩ rfl
      rw [r2] at w lk
      obtain ⟨s', hs', w⟩ := w
      obtain ⟨⟨lk1, lk2⟩, lk3, lk4⟩ := lk
      have hlen := nd_len hn lk1 lk2
      rw [w]
      have hM2 := MDo.mt (MDo.w h (g := gl A (72 + 10 * o.1) o2.1))
      rw [s_g12 hM2.1, Option.bind_some, if_pos (show M1 = -N 1 from rfl)]
      obtain ⟨g', t1, t2⟩ := M_wish_142 (d := d) (B := 72 + 10 * o.1) (l := o2.1) (s := s') (y := N s') (a := N o2.2) (f := M1) h hs' rfl (by omega) (fun (σ : Mm) => some σ) 10 0 o2.1.length fu (gl A (72 + 10 * o.1) o2.1) (by omega) (by omega) (by unfold fu; omega)
      have hr : ((List.range' 0 10).filter fun x => !o2.1.contains x) = rest 10 o2.1 := by unfold rest; rw [List.range_eq_range']
      have hrl : (rest 10 o2.1).length = 10 - o2.1.length := by
        have := rest_len (n := 10) lk1 fun f hf => by have := lk2 f hf; omega
        rw [List.length_append] at this
        omega
      rw [hr] at t2
      have eg : g' = rWish A o.1 o2.1 := by
        funext i
        unfold rWish
        rw [t2 i]
        by_cases c1 : 72 + 10 * o.1 ≤ i ∧ i < 82 + 10 * o.1
        · rw [if_pos c1]
          by_cases c2 : 72 + 10 * o.1 + o2.1.length ≤ i
          · rw [if_pos (by omega), List.getD_eq_getElem?_getD, List.getD_eq_getElem?_getD, List.getElem?_append_right (by omega), show i - (72 + 10 * o.1) - o2.1.length = i - (72 + 10 * o.1 + o2.1.length) by omega]
          · rw [if_neg (by omega)]
            unfold gl
            rw [if_pos (by omega), List.getD_eq_getElem?_getD, List.getD_eq_getElem?_getD, List.getElem?_append_left (by omega)]
        · rw [if_neg c1, if_neg (by omega)]
          unfold gl
          rw [if_neg (by omega)]
      rw [t1, eg]
      show some (ms (wA σ 63 (rWish A o.1 o2.1)) (N o2.2) M1 d) = some (ms (wA (wA σ 63 A) 63 (rWish A o.1 o2.1)) (N o2.2) M1 d)
      rw [wA_wA]
end
