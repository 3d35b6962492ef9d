/-! THE PLAIN LAW, 140: the door's lines, purely; the model's lines -/
set_option maxRecDepth 100000
def wPerson : List Nat := [112, 101, 114, 115, 111, 110]
def wWish : List Nat := [119, 105, 115, 104]
def wKnows : List Nat := [107, 110, 111, 119, 115]
def wHooks : List Nat := [104, 111, 111, 107, 115]
def wMix : List Nat := [109, 105, 120]
def wThief : List Nat := [116, 104, 105, 101, 102]
abbrev Row := Nat → Int32
def fgB (T : Nat → Nat) (k : Nat) : Bool := decide (48 ≤ T k) && decide (T k ≤ 57)
def rWho (A : Row) (np m0 m1 : Nat) : Row := fun j =>
  if j = 3 then N (np + 1) else if j = 12 + 6 * np then N m0 else if j = 13 + 6 * np then N m1 else if j = 14 + 6 * np then N np else if j = 15 + 6 * np then M1 else if j = 16 + 6 * np then M1 else if j = 17 + 6 * np then N 0 else if 72 + 10 * np ≤ j ∧ j < 82 + 10 * np then N (j - (72 + 10 * np)) else if 172 ≤ j ∧ j < 272 ∧ ((j - 172) / 10 = np ∨ (j - 172) % 10 = np) then N 0 else A j
def whoP (T : Nat → Nat) (e : Nat) (A : Row) (np w0 k : Nat) : PR Row :=
  if np = 10 then .error w0 else pb (markP T e k) fun m0 k1 => pb (markP T e k1) fun m1 k2 => .ok (rWho A np m0 m1, k2)
def wlP (T : Nat → Nat) (e np : Nat) : Nat → List Nat → Nat → PR (List Nat)
  | 0, _, _ => .error 0
  | n + 1, l, k => pb (numP T e 0 np k) fun f k1 => if l.contains f = true then .error (sk T e k) else if fgB T (sk T e k1) = true then wlP T e np n (l ++ [f]) (sk T e k1) else .ok (l ++ [f], sk T e k1)
def rWish (A : Row) (p : Nat) (l : List Nat) : Row := fun j => if 72 + 10 * p ≤ j ∧ j < 82 + 10 * p then N ((l ++ rest 10 l).getD (j - (72 + 10 * p)) 0) else A j
def wishP (T : Nat → Nat) (e : Nat) (A : Row) (np k : Nat) : PR Row := pb (numP T e 0 np k) fun p k1 => pb (wlP T e np 11 [] k1) fun l k2 => .ok (rWish A p l, k2)
def wedP (T : Nat → Nat) (e : Nat) (A : Row) (np k : Nat) : PR Row :=
  pb (numP T e 0 np k) fun p k1 => if PA A p 4 = M1 then (pb (numP T e 0 np k1) fun q k2 => if PA A q 4 = M1 ∧ q ≠ p then .ok (up1 (up1 A (12 + 6 * p + 4) (N q)) (12 + 6 * q + 4) (N p), k2) else .error (sk T e k1)) else .error (sk T e k)
def knP (T : Nat → Nat) (e np p : Nat) : Nat → Row → Nat → PR Row
  | 0, _, _ => .error 0
  | n + 1, A, k => pb (numP T e 0 np k) fun q k1 => if q = p then .error (sk T e k) else if fgB T (sk T e k1) = true then knP T e np p n (up1 A (12 + 6 * p + 5) (PA A p 5 ||| bt q)) (sk T e k1) else .ok (up1 A (12 + 6 * p + 5) (PA A p 5 ||| bt q), sk T e k1)
def knowP (T : Nat → Nat) (e : Nat) (A : Row) (np k : Nat) : PR Row := pb (numP T e 0 np k) fun p k1 => knP T e np p (e + 1) A k1
/-- is the hook taken? -/
def tkH (A : Row) (np v : Nat) : Bool := !decide (HA A v = M1) || (aTicket A np (N v)).isSome
def tkFrom (A : Row) (np : Nat) : Nat → Nat → Bool
  | 0, _ => false
  | k + 1, v => tkH A np v || tkFrom A np k (v + 1)
def hookP (T : Nat → Nat) (e : Nat) (A : Row) (np k : Nat) : PR Row := pb (numP T e 1 13 k) fun n k1 => if tkFrom A np (12 - n) n = true then .error (sk T e k) else .ok (up1 A 4 (N n), k1)
def fldP (T : Nat → Nat) (e : Nat) (A : Row) (j k : Nat) : PR Row := pb (numP T e 0 101 k) fun n k1 => .ok (up1 A j (N n), k1)
/-- one line -/
def dlineP (T : Nat → Nat) (e : Nat) (A : Row) (np k : Nat) : PR Row :=
  let k0 := sk T e k
  let k1 := wd T e k0
  if isW T e k0 wPerson = true then whoP T e A np k0 k1 else if isW T e k0 wWish = true then wishP T e A np k1 else if isW T e k0 wWed = true then wedP T e A np k1 else if isW T e k0 wKnows = true then knowP T e A np k1 else if isW T e k0 wHooks = true then hookP T e A np k1 else if isW T e k0 wMix = true then fldP T e A 6 k1 else if isW T e k0 wThief = true then fldP T e A 7 k1 else .error k0
section
variable {T : Nat → Nat} {e k np nh : Nat} {σ : Mm} {d : Int32} {A : Row}
/-- the model's side ahead of a line -/
def MDo (T : Nat → Nat) (e : Nat) (σ : Mm) : Prop := FM σ ∧ mI σ 62 10 = N e ∧ mI σ 62 9 = M1 ∧ ∀ k, k < e → mI σ 67 k = N (T k)
theorem MDo.mt (h : MDo T e σ) : MT T e σ := ⟨h.1, h.2.1, Or.inl h.2.2⟩
theorem MDo.w (h : MDo T e σ) {g : Row} : MDo T e (wA σ 63 g) := h
theorem ms_63 {a f : Int32} {g : Row} : wA (ms σ a f d) 63 g = ms (wA σ 63 g) a f d := by
  unfold ms
  rw [wA_cm (show 62 ≠ 63 by omega), mI_wA, if_neg (show ¬ 62 = 63 by omega)]
def MOL (e : Nat) (σ : Mm) (d : Int32) (r : PR Row) (o : Option Mm) : Prop := match r with
  | .ok x => o = some (ms (wA σ 63 x.1) (N x.2) M1 d)
  | .error p => ∃ g b, b ≤ e ∧ o = some (ms (wA σ 63 g) (N b) (N p) d)
theorem d_gR1 {a f : Int32} {g : Row} (h : MDo T e σ) : gR 8 1 (some 62) (ms (wA σ 63 g) a f d) = some (some 63) := fm_gR1 (FM_ms (FM_w h.1))
theorem d_rd {a f : Int32} {g : Row} {j : Nat} (h : MDo T e σ) (hj : j < 984) : aI 100 (some 63) (N j) (ms (wA σ 63 g) a f d) = some (g j) := (fm_rd63 (FM_ms (FM_w h.1)) hj).trans (by rw [ms_q (by omega), mI_wA, if_pos rfl])
theorem d_wr {a f x : Int32} {g : Row} {j : Nat} (h : MDo T e σ) (hj : j < 984) : sI (some 63) (N j) x (ms (wA σ 63 g) a f d) = some (ms (wA σ 63 (up1 g j x)) a f d) := (fm_wr63 (FM_ms (FM_w h.1)) hj).trans (by rw [ms_63, ms_q (by omega), mI_wA, if_pos rfl, wA_wA])
theorem d_has {a f x : Int32} {g : Row} {p w : Nat} (h : MDo T e σ) (hp : p < 10) (hw : w < 6) : FX8_has_2 62 (N p) (N w) x (ms (wA σ 63 g) a f d) = some (ms (wA σ 63 (up1 g (12 + 6 * p + w) x)) a f d) := by
  unfold FX8_has_2
  rw [d_gR1 h, Option.bind_some, show (12 : Int32) + 6 * N p + N w = N (12 + 6 * p + w) by rw [l12_, l6_, N_mul, N_add, N_add], d_wr h (by omega), Option.bind_some]
theorem d_of {a f : Int32} {g : Row} {p w : Nat} (h : MDo T e σ) (hp : p < 10) (hw : w < 6) : FX8_of 62 (N p) (N w) (ms (wA σ 63 g) a f d) = some (PA g p w, ms (wA σ 63 g) a f d) := (M_of (FM_ms (FM_w h.1)) hp hw).trans (by rw [ms_q (by omega), mI_wA, if_pos rfl])
theorem d_ck {β : Type} {o : Option β} {a f : Int32} {g : Row} (h : MDo T e σ) : ck 8 62 (ms (wA σ 63 g) a f d) o = o := s_ck (FM_w h.1)
theorem dN_sub (n : Nat) (hn : n < 2147483648) : N n - N 1 = dN n := by
  unfold dN
  by_cases c : n = 0
  · rw [if_pos c, c]; rfl
  · rw [if_neg c, N_sub (by omega)]
theorem M_who_95 (h : MDo T e σ) (hn : np < 10) {a f : Int32} (Kx : Mm → Option Mm) : ∀ (j v n : Nat) (g : Row), v + j = 10 → j < n → ∃ g', FX8_personLine_95 62 (N np) n (N v) (ms (wA σ 63 g) a f d) Kx = Kx (ms (wA σ 63 g') a f d) ∧ ∀ i, g' i = if 72 + 10 * np + v ≤ i ∧ i < 82 + 10 * np then N (i - (72 + 10 * np)) else if 172 ≤ i ∧ i < 272 ∧ (((i - 172) / 10 = np ∧ v ≤ (i - 172) % 10) ∨ ((i - 172) % 10 = np ∧ v ≤ (i - 172) / 10)) then N 0 else g i := by
  intro j
  induction j with
  | zero =>
    intro v n g hv hn'
    obtain ⟨n, rfl⟩ : ∃ m, n = m + 1 := ⟨n - 1, by omega⟩
    refine ⟨g, by rw [FX8_personLine_95, if_pos (by rw [l10_, N_le (by omega) (by omega)]; omega)], fun i => ?_⟩
    rw [if_neg (by omega), if_neg (by omega)]
  | succ j ih =>
    intro v n g hv hn'
    obtain ⟨n, rfl⟩ : ∃ m, n = m + 1 := ⟨n - 1, by omega⟩
    obtain ⟨g', t1, t2⟩ := ih (v + 1) n (up1 (up1 (up1 g (72 + 10 * np + v) (N v)) (172 + 10 * np + v) (N 0)) (172 + 10 * v + np) (N 0)) (by omega) (by omega)
    refine ⟨g', ?_, fun i => ?_⟩
    · have e1 : (72 : Int32) + 10 * N np + N v = N (72 + 10 * np + v) := by rw [l72_, l10_, N_mul, N_add, N_add]
      have e2 : (172 : Int32) + 10 * N np + N v = N (172 + 10 * np + v) := by rw [l172_, l10_, N_mul, N_add, N_add]
      have e3 : (172 : Int32) + 10 * N v + N np = N (172 + 10 * v + np) := by rw [l172_, l10_, N_mul, N_add, N_add]
      rw [FX8_personLine_95, if_neg (by rw [l10_, N_le (by omega) (by omega)]; omega), d_gR1 h, Option.bind_some, e1, d_wr h (by omega), Option.bind_some, d_gR1 h, Option.bind_some, e2, l0_, d_wr h (by omega), Option.bind_some, d_gR1 h, Option.bind_some, e3, d_wr h (by omega), Option.bind_some, l1_, N_add, t1]
    · rw [t2 i]
      by_cases c1 : 72 + 10 * np + v ≤ i ∧ i < 82 + 10 * np
      · rw [if_pos c1]
        by_cases c2 : i = 72 + 10 * np + v
        · rw [if_neg (by omega), if_neg (by omega), up1_app, if_neg (by omega), up1_app, if_neg (by omega), up1_app, if_pos c2, c2]
          congr 1; omega
        · rw [if_pos (by omega)]
      · rw [if_neg c1, if_neg (by omega)]
        by_cases c3 : 172 ≤ i ∧ i < 272 ∧ (((i - 172) / 10 = np ∧ v ≤ (i - 172) % 10) ∨ ((i - 172) % 10 = np ∧ v ≤ (i - 172) / 10))
        · rw [if_pos c3]
          by_cases c4 : i = 172 + 10 * np + v ∨ i = 172 + 10 * v + np
          · rw [up1_app, up1_app]
            by_cases c5 : 172 ≤ i ∧ i < 272 ∧ (((i - 172) / 10 = np ∧ v + 1 ≤ (i - 172) % 10) ∨ ((i - 172) % 10 = np ∧ v + 1 ≤ (i - 172) / 10))
            · rw [if_pos c5]
            · rw [if_neg c5]
              by_cases c6 : i = 172 + 10 * v + np
              · rw [if_pos c6]
              · rw [if_neg c6, if_pos (by omega)]
          · rw [if_pos (by omega)]
        · rw [if_neg c3, if_neg (by omega), up1_app, if_neg (by omega), up1_app, if_neg (by omega), up1_app, if_neg (by omega)]
theorem M_whoL {w0 : Nat} (hT : TX T e) (h : MDo T e σ) (hA : mI σ 63 = A) (hnn : A 3 = N np) (hn0 : np ≤ 10) (hk : k ≤ e) (hw0 : w0 ≤ e) : MOL e σ d (whoP T e A np w0 k) (FX8_personLine 62 (N w0) (ms σ (N k) M1 d)) := by
  have he := hT.1
  have s0 : σ = wA σ 63 A := by rw [← hA, wA_self]
  have st : ∀ f, gR 8 1 (some 62) (ms σ (N k) f d) = some (some 63) := fun f => fm_gR1 (FM_ms h.1)
  have rd3 : aI 100 (some 63) (N 3) (ms σ (N k) M1 d) = some (N np) := (fm_rd63 (FM_ms h.1) (by omega)).trans (by rw [ms_q (by omega), hA, hnn])
  unfold FX8_personLine jn whoP
  rw [st, Option.bind_some, l3_, rd3, Option.bind_some]
  try dsimp only
  by_cases c10 : np = 10
  · rw [if_pos c10, if_pos (show N np = 10 by rw [c10]; rfl), s_ck h.1, M_wrong0 h.1, Option.bind_some, s_ck h.1, M_eight1 h.mt (by omega), Option.bind_some]
    try dsimp only
    rw [s_ck h.1, M_eight1 h.mt (by omega), Option.bind_some]
    try dsimp only
    rw [s_g12 h.1, Option.bind_some, if_neg (show ¬ N w0 = -1 by rw [m1_, N_m1 (by omega)]; exact id)]
    exact ⟨A, k, hk, by rw [← s0]⟩
  · rw [if_neg c10, if_neg (show ¬ N np = 10 by rw [l10_, N_inj (by omega) (by omega)]; exact c10), s_ck h.1]
    have m0 := M_eight (d := d) hT h.mt hk
    unfold pb
    cases r0 : markP T e k with
    | error p =>
      rw [r0] at m0
      obtain ⟨x, b, hb, m0⟩ := m0
      have hp : p < 1000000 := by
        unfold markP at r0
        have := sk_le (T := T) hk
        dsimp only at r0
        split at r0
        · cases r0
        · cases r0; omega
      rw [m0, Option.bind_some]
      try dsimp only
      rw [s_ck h.1, M_eight1 h.mt hp, Option.bind_some]
      try dsimp only
      rw [s_g12 h.1, Option.bind_some, if_neg (show ¬ N p = -1 by rw [m1_, N_m1 (by omega)]; exact id)]
      exact ⟨A, b, hb, by rw [← s0]⟩
    | ok o0 =>
      rw [r0] at m0
      have m0' : FX8_eight 62 (ms σ (N k) M1 d) = some (N o0.1, ms σ (N o0.2) M1 d) := m0
      have hk1 : o0.2 ≤ e := by
        unfold markP at r0
        have := sk_le (T := T) hk
        have := dg_le (T := T) (e := e) (k := sk T e k) this
        dsimp only at r0
        split at r0
        · cases r0; assumption
        · cases r0
      rw [m0', Option.bind_some]
      try dsimp only
      rw [s_ck h.1]
      have m1 := M_eight (d := d) hT h.mt hk1
      cases r1 : markP T e o0.2 with
      | error p =>
        rw [r1] at m1
        obtain ⟨x, b, hb, m1⟩ := m1
        have hp : p < 1000000 := by
          unfold markP at r1
          have := sk_le (T := T) hk1
          dsimp only at r1
          split at r1
          · cases r1
          · cases r1; omega
        rw [m1, Option.bind_some]
        try dsimp only
        rw [s_g12 h.1, Option.bind_some, if_neg (show ¬ N p = -1 by rw [m1_, N_m1 (by omega)]; exact id)]
        exact ⟨A, b, hb, by rw [← s0]⟩
      | ok o1 =>
        rw [r1] at m1
        have m1' : FX8_eight 62 (ms σ (N o0.2) M1 d) = some (N o1.1, ms σ (N o1.2) M1 d) := m1
        rw [m1', Option.bind_some]
        try dsimp only
        rw [s_g12 h.1, Option.bind_some, if_pos (show M1 = -1 from rfl), s0, d_gR1 h, Option.bind_some, d_rd h (by omega), Option.bind_some, hnn, d_ck h]
        obtain ⟨g', t1, t2⟩ := M_who_95 (np := np) (d := d) (a := N o1.2) (f := M1) h (by omega) (fun (σ : Mm) => (gR 8 1 (some 62) σ).bind fun x51 => (aI 100 x51 (N 3) σ).bind fun x52 => (sI x51 (N 3) (x52 + 1) σ).bind fun σ53 => some σ53) 10 0 fu (up1 (up1 (up1 (up1 (up1 (up1 A (12 + 6 * np + 0) (N o0.1)) (12 + 6 * np + 1) (N o1.1)) (12 + 6 * np + 2) (N np)) (12 + 6 * np + 3) M1) (12 + 6 * np + 4) M1) (12 + 6 * np + 5) (N 0)) (by omega) (by unfold fu; omega)
        have g3 : g' 3 = N np := by
          rw [t2 3, if_neg (by omega), if_neg (by omega), up1_app, if_neg (by omega), up1_app, if_neg (by omega), up1_app, if_neg (by omega), up1_app, if_neg (by omega), up1_app, if_neg (by omega), up1_app, if_neg (by omega), hnn]
        have fin : up1 g' 3 (N (np + 1)) = rWho A np o0.1 o1.1 := by
          funext i
          unfold rWho
          rw [up1_app]
          by_cases i3 : i = 3
          · rw [if_pos i3, if_pos i3]
          · rw [if_neg i3, if_neg i3, t2 i]
            simp only [up1_app]
            by_cases c0 : i = 12 + 6 * np
            · rw [if_neg (by omega), if_neg (by omega), if_neg (by omega), if_neg (by omega), if_neg (by omega), if_neg (by omega), if_neg (by omega), if_pos (by omega), if_pos c0]
            · rw [if_neg c0]
              by_cases c1 : i = 13 + 6 * np
              · rw [if_neg (by omega), if_neg (by omega), if_neg (by omega), if_neg (by omega), if_neg (by omega), if_neg (by omega), if_pos (by omega), if_pos c1]
              · rw [if_neg c1]
                by_cases c2 : i = 14 + 6 * np
                · rw [if_neg (by omega), if_neg (by omega), if_neg (by omega), if_neg (by omega), if_neg (by omega), if_pos (by omega), if_pos c2]
                · rw [if_neg c2]
                  by_cases c3 : i = 15 + 6 * np
                  · rw [if_neg (by omega), if_neg (by omega), if_neg (by omega), if_neg (by omega), if_pos (by omega), if_pos c3]
                  · rw [if_neg c3]
                    by_cases c4 : i = 16 + 6 * np
                    · rw [if_neg (by omega), if_neg (by omega), if_neg (by omega), if_pos (by omega), if_pos c4]
                    · rw [if_neg c4]
                      by_cases c5 : i = 17 + 6 * np
                      · rw [if_neg (by omega), if_neg (by omega), if_pos (by omega), if_pos c5]
                      · rw [if_neg c5]
                        by_cases c6 : 72 + 10 * np ≤ i ∧ i < 82 + 10 * np
                        · rw [if_pos (by omega), if_pos c6]
                        · rw [if_neg (by omega), if_neg c6]
                          by_cases c7 : 172 ≤ i ∧ i < 272 ∧ ((i - 172) / 10 = np ∨ (i - 172) % 10 = np)
                          · rw [if_pos (by omega), if_pos c7]
                          · rw [if_neg (by omega), if_neg c7, if_neg (by omega), if_neg (by omega), if_neg (by omega), if_neg (by omega), if_neg (by omega), if_neg (by omega)]
        rw [m1_, l1_, l2_, l0_, show (4 : Int32) = N 4 from rfl, show (5 : Int32) = N 5 from rfl, d_has h (by omega) (by omega), Option.bind_some, d_ck h, d_has h (by omega) (by omega), Option.bind_some, d_ck h, d_has h (by omega) (by omega), Option.bind_some, d_ck h, d_has h (by omega) (by omega), Option.bind_some, d_ck h, d_has h (by omega) (by omega), Option.bind_some, d_ck h, d_has h (by omega) (by omega), Option.bind_some]
        rw [l1_] at t1
        rw [t1, d_gR1 h, Option.bind_some, d_rd h (by omega), Option.bind_some, g3, N_add, d_wr h (by omega), Option.bind_some, fin]
        show some (ms (wA σ 63 (rWho A np o0.1 o1.1)) (N o1.2) M1 d) = some (ms (wA (wA σ 63 A) 63 (rWho A np o0.1 o1.1)) (N o1.2) M1 d)
        rw [wA_wA]
end
