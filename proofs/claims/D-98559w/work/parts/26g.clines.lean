/-! THE PLAIN LAW, 145: the component's lines -/
set_option maxRecDepth 100000
section
variable {T : Nat → Nat} {e k np nh : Nat} {σ : Mm} {b d : Int32} {A : Row}
theorem C_numB (hT : TX T e) (h : RT T e σ) (h0 : 76 ≤ mN σ) (hN : mN σ < BIG) {lo n : Nat} (hlo : lo < 1000000) (hn : n ≤ 1000000) (hk : k ≤ e) : match numP T e lo n k with
    | .ok o => FX3_number 37 (N lo) (dN n) (rs σ (N k) b d) = some (.inl (N o.1, rs σ (N o.2) (N (sk T e k)) d), 0, 0)
    | .error p => ∃ τ a, FX3_number 37 (N lo) (dN n) (rs σ (N k) b d) = some (.inr (1, rs τ a (N p) d), 1, 6) ∧ FA σ τ ∧ mN τ = mN σ + 1 := by
  have he := hT.1
  have h1 := sk_le (T := T) hk
  have h3 := dg_ge (T := T) (e := e) (k := sk T e k)
  have h4 := dg_le (T := T) (e := e) (k := sk T e k) h1
  have hv : nv T (sk T e k) (min (dg T e (sk T e k) - sk T e k) 3) < 1000 := by
    have := nv_lt (T := T) (k := sk T e k) (min (dg T e (sk T e k) - sk T e k) 3) fun j hj => dg_in (T := T) (e := e) (k := sk T e k) (by omega) (by omega)
    have h5 : 10 ^ min (dg T e (sk T e k) - sk T e k) 3 ≤ 10 ^ 3 := Nat.pow_le_pow_right (by omega) (by omega)
    omega
  obtain ⟨τ, w1, -, -, w4, w5⟩ := C_wrongI (a := N (dg T e (sk T e k))) (b := N (sk T e k)) (d := d) h0 hN h.1
  have run : FX3_figures 37 (N lo) (dN n) 3 (rs σ (N k) b d) = if dg T e (sk T e k) = sk T e k ∨ 3 < dg T e (sk T e k) - sk T e k ∨ nv T (sk T e k) (dg T e (sk T e k) - sk T e k) < lo ∨ n ≤ nv T (sk T e k) (dg T e (sk T e k) - sk T e k) then some (.inr (1, rs τ (N (dg T e (sk T e k))) (N (sk T e k)) d), 1, 6) else some (.inl (N (nv T (sk T e k) (dg T e (sk T e k) - sk T e k)), rs σ (N (dg T e (sk T e k))) (N (sk T e k)) d), 0, 0) := by
    unfold FX3_figures
    rw [c_ck h.1, C_blanks hT h (by omega), Option.bind_some, l3_]
    have hl := fun kx => C_fig_7 (d := d) hT h (N lo) (dN n) kx (sk T e k) h1 (dg T e (sk T e k) - sk T e k) 0 fu (by omega) (by unfold fu; omega)
    rw [Nat.add_zero] at hl
    refine Eq.trans (hl _) ?_
    unfold jn
    dsimp only
    rw [c_g3 h.1, Option.bind_some, c_g4 h.1, Option.bind_some]
    have tl : ck 3 37 (rs σ (N (dg T e (sk T e k))) (N (sk T e k)) d) (pay 1 6 ((FX3_wrong 37 (rs σ (N (dg T e (sk T e k))) (N (sk T e k)) d)).bind fun x => (thrd x.1 x.2 : DX (Int32 × Mm)))) = some (.inr (1, rs τ (N (dg T e (sk T e k))) (N (sk T e k)) d), 1, 6) := by rw [c_ck h.1, w1]
    by_cases c1 : dg T e (sk T e k) = sk T e k
    · rw [if_pos (by rw [c1]), if_pos (Or.inl c1)]
      exact tl
    rw [if_neg (by rw [N_inj (by omega) (by omega)]; exact c1), Option.bind_some, Option.bind_some, N_sub h3]
    by_cases c2 : 3 < dg T e (sk T e k) - sk T e k
    · rw [if_pos (by rw [N_lt (by omega) (by omega)]; exact c2), if_pos (Or.inr (Or.inl c2))]
      exact tl
    have c3 : min (dg T e (sk T e k) - sk T e k) 3 = dg T e (sk T e k) - sk T e k := by omega
    rw [if_neg (by rw [N_lt (by omega) (by omega)]; exact c2)]
    rw [c3] at hv ⊢
    rw [C_in_dN (by omega) hlo hn, Option.bind_some]
    by_cases c4 : lo ≤ nv T (sk T e k) (dg T e (sk T e k) - sk T e k) ∧ nv T (sk T e k) (dg T e (sk T e k) - sk T e k) < n
    · rw [if_pos c4]
      dsimp only
      rw [if_neg (show ¬ (N 1 : Int32) = 0 by decide), if_neg (by omega)]
      rfl
    · rw [if_neg c4]
      dsimp only
      rw [if_pos (show (N 0 : Int32) = 0 from rfl), if_pos (by omega)]
      exact tl
  unfold numP
  dsimp only
  unfold FX3_number
  rw [c_ck h.1, run]
  by_cases c : dg T e (sk T e k) = sk T e k ∨ 3 < dg T e (sk T e k) - sk T e k ∨ nv T (sk T e k) (dg T e (sk T e k) - sk T e k) < lo ∨ n ≤ nv T (sk T e k) (dg T e (sk T e k) - sk T e k)
  · rw [if_pos c, if_pos c]
    exact ⟨τ, _, rfl, w4, w5⟩
  · rw [if_neg c, if_neg c]
    rfl

/-- what the draft's reading leaves -/
def DF (σ τ : Mm) : Prop := mN σ ≤ mN τ ∧ mN τ ≤ BIG ∧ (∀ q, q < mN σ ∨ BIG ≤ q → mS τ q = mS σ q ∧ mL τ q = mL σ q ∧ mR τ q = mR σ q) ∧ (∀ q, q < mN σ ∨ BIG ≤ q → q < 13 ∨ 25 ≤ q → mI τ q = mI σ q) ∧ ∀ q, mN σ ≤ q → q < mN τ → mS τ q ≠ 2 ∧ mS τ q ≠ 100
theorem DF.rf (h : mN σ ≤ BIG) : DF σ σ := ⟨Nat.le_refl _, h, fun _ _ => ⟨rfl, rfl, rfl⟩, fun _ _ _ => rfl, fun q h1 h2 => by omega⟩
theorem DF.tr {σ τ υ : Mm} (h : DF σ τ) (g : DF τ υ) : DF σ υ := by
  obtain ⟨h1, h2, h3, h4, h5⟩ := h
  obtain ⟨g1, g2, g3, g4, g5⟩ := g
  refine ⟨by omega, g2, fun q hq => ?_, fun q hq h6 => (g4 q (by omega) h6).trans (h4 q hq h6), fun q q1 q2 => ?_⟩
  · obtain ⟨a1, a2, a3⟩ := h3 q hq
    obtain ⟨b1, b2, b3⟩ := g3 q (by omega)
    exact ⟨b1.trans a1, b2.trans a2, b3.trans a3⟩
  · by_cases c : q < mN τ
    · rw [(g3 q (Or.inl c)).1]; exact h5 q q1 c
    · exact g5 q (by omega) q2
theorem FA.df {σ τ : Mm} (h : FA σ τ) : DF σ τ := ⟨h.1, h.2.1, fun q hq => by
  obtain ⟨a1, a2, a3, a4⟩ := h.2.2.1 q hq
  exact ⟨a1, a2, a4⟩, fun q hq _ => (h.2.2.1 q hq).2.2.1, h.2.2.2⟩
theorem DF.w {p : Nat} {f : Nat → Int32} (hN : mN σ ≤ BIG) (hp : 13 ≤ p ∧ p < 25) : DF σ (wA σ p f) := ⟨Nat.le_refl _, hN, fun _ _ => ⟨rfl, rfl, rfl⟩, fun q _ h => by rw [mI_wA, if_neg (by omega)], fun q h1 h2 => by
  have : mN (wA σ p f) = mN σ := rfl
  omega⟩
theorem DF.fc {σ τ : Mm} (h : DF σ τ) (h0 : 76 ≤ mN σ) (hf : FC σ) : FC τ := FC_at (fun q hq => ⟨(h.2.2.1 q (by omega)).1, (h.2.2.1 q (by omega)).2.1⟩) (fun q k hq _ => by rw [(h.2.2.1 q (by omega)).2.2]) hf
theorem DF.rt {σ τ : Mm} (h : DF σ τ) (h0 : 76 ≤ mN σ) (hf : RT T e σ) : RT T e τ := ⟨h.fc h0 hf.1, by rw [h.2.2.2.1 37 (by omega) (by omega)]; exact hf.2.1, by rw [h.2.2.2.1 38 (by omega) (by omega)]; exact hf.2.2⟩
theorem DF.ks {σ τ : Mm} (h : DF σ τ) (hf : KS σ) : KS τ := by
  have hB : BIG = 1000000 := rfl
  refine ⟨fun p hp => ?_, fun p k hp hk => ?_⟩
  · obtain ⟨a1, a2, a3⟩ := h.2.2.1 p (Or.inr hp)
    rw [a1, a2, h.2.2.2.1 p (Or.inr hp) (by omega)]; exact hf.1 p hp
  · rw [(h.2.2.1 p (Or.inr hp)).2.2]; exact hf.2 p k hp hk
theorem rs_w {p : Nat} {f : Nat → Int32} {a : Int32} (hp : p ≠ 37) : wA (rs σ a b d) p f = rs (wA σ p f) a b d := by
  unfold rs
  rw [wA_cm (fun z => hp z.symm), mI_wA, if_neg (fun z => hp z.symm)]
theorem RT_w {p : Nat} {f : Nat → Int32} (h : RT T e σ) (hp : 13 ≤ p ∧ p < 25) : RT T e (wA σ p f) := ⟨h.1, by rw [mI_wA, if_neg (by omega)]; exact h.2.1, by rw [mI_wA, if_neg (by omega)]; exact h.2.2⟩
theorem db_inr {α β : Type} {x : Nat × Mm} {c z : Nat} (f : α → DX β) : db (some (.inr x, c, z)) f = some (.inr x, c, z) := rfl
def COL (σ : Mm) (d : Int32) (r : PR Row) (o : DX Mm) : Prop := match r with
  | .ok x => ∃ τ b, o = some (.inl (rs τ (N x.2) b d), 0, 0) ∧ DF σ τ ∧ mN τ = mN σ ∧ RW 13 x.1 (ix (x.1 3)) τ
  | .error p => ∃ τ a, o = some (.inr (1, rs τ a (N p) d), 1, 6) ∧ DF σ τ ∧ mN τ = mN σ + 1
theorem COL_wrong {p : Nat} {a : Int32} (hC : FC σ) (h0 : 76 ≤ mN σ) (hN : mN σ < BIG) : COL σ d (.error p) (pay 1 6 <| (FX3_wrong 37 (rs σ a (N p) d)).bind fun (x60, σ61) => (thrd x60 σ61 : DX Mm)) := by
  obtain ⟨τ, -, -, w3, w4, w5⟩ := C_wrongI (a := a) (b := N p) (d := d) h0 hN hC
  exact ⟨τ, a, w3, w4.df, w5⟩
/-- a scalar of a World -/
theorem RW_scl {c i j : Nat} {x : Int32} (hk : i = 2 ∧ j = 4 ∨ i = 4 ∧ j = 6 ∨ i = 5 ∧ j = 7) (hn : np ≤ 10) (hr : RW c A np σ) : RW c (up1 A j x) np (wA σ c (up1 (mI σ c) i x)) := by
  have o : ∀ u, 0 < u → mI (wA σ c (up1 (mI σ c) i x)) (c + u) = mI σ (c + u) := fun u hu => if_neg (by omega)
  have o0 : mI (wA σ c (up1 (mI σ c) i x)) c = up1 (mI σ c) i x := if_pos rfl
  have f : ∀ u, u ≠ j → up1 A j x u = A u := fun u hu => if_neg hu
  have fP : ∀ q w, q < 10 → w < 6 → PA (up1 A j x) q w = PA A q w := fun q w hq hw => f _ (by omega)
  obtain ⟨h1, h2, h3, h4, h5, h6⟩ := hr
  refine ⟨?_, fun q hq => ?_, fun u hu => ?_, fun u hu => ?_, fun u hu => ?_, ?_⟩
  · rw [o0]
    obtain ⟨g0, g1, g2, g3, g4, g5, g6, g7⟩ := h1
    rcases hk with ⟨rfl, rfl⟩ | ⟨rfl, rfl⟩ | ⟨rfl, rfl⟩
    · exact ⟨g0, g1, rfl, g3, g4, g5, g6, g7⟩
    · exact ⟨g0, g1, g2, g3, rfl, g5, g6, g7⟩
    · exact ⟨g0, g1, g2, g3, g4, rfl, g6, g7⟩
  · rw [o 1 (by omega), o 2 (by omega), o 3 (by omega), o 4 (by omega), o 5 (by omega), o 6 (by omega), fP q _ hq (by omega), fP q _ hq (by omega), fP q _ hq (by omega), fP q _ hq (by omega), fP q _ hq (by omega), fP q _ hq (by omega)]
    exact h2 q hq
  · rw [o 7 (by omega), f _ (by omega)]; exact h3 u hu
  · have : HA (up1 A j x) u = HA A u := f _ (by omega)
    rw [o 10 (by omega), this]; exact h4 u hu
  · rw [o 11 (by omega), f _ (by omega)]; exact h5 u hu
  · rw [o 8 (by omega), o 9 (by omega)]
    exact WS_A (fun u h1 h2 => f u (by omega)) hn h6
theorem C_fldL {i j : Nat} (hT : TX T e) (h : RT T e σ) (h0 : 76 ≤ mN σ) (hN : mN σ < BIG) (hr : RW 13 A np σ) (hnn : A 3 = N np) (hn : np ≤ 10) (hk : k ≤ e) (hj : i = 4 ∧ j = 6 ∨ i = 5 ∧ j = 7) : COL σ d (fldP T e A j k) ((rv 3 (some 37) (rs σ (N k) b d)).bind fun q47 => db (FX3_number q47 0 100 (rs σ (N k) b d)) fun (x49, σ50) => (pI 2 i (some 13) x49 σ50).bind fun σ51 => rt σ51) := by
  have m := C_numB (b := b) (d := d) hT h h0 hN (lo := 0) (n := 101) (by omega) (by omega) hk
  rw [show dN 101 = 100 from rfl, show N 0 = 0 from rfl] at m
  rw [fc_rv37 (FC_rs h.1), Option.bind_some]
  unfold fldP pb
  cases r : numP T e 0 101 k with
  | error p =>
    rw [r] at m
    obtain ⟨τ, a, m1, m2, m3⟩ := m
    rw [m1, db_inr]
    exact ⟨τ, a, rfl, m2.df, m3⟩
  | ok o =>
    rw [r] at m
    have m' : FX3_number 37 0 100 (rs σ (N k) b d) = rt (N o.1, rs σ (N o.2) (N (sk T e k)) d) := m
    rw [m', db_rt]
    dsimp only
    rw [fw_pI (FC_rs h.1).w13, Option.bind_some, rs_w (by omega), rs_q (by omega)]
    refine ⟨_, _, rfl, DF.w (by omega) (by omega), rfl, ?_⟩
    show RW 13 (up1 A j (N o.1)) (ix (up1 A j (N o.1) 3)) _
    rw [up1_app, if_neg (by omega), hnn, ix_N (by omega)]
    exact RW_scl (by omega) hn hr
theorem C_pt (hT : TX T e) (h : RT T e σ) (h0 : 76 ≤ mN σ) (hN : mN σ < BIG) (hr : RW 13 A np σ) (hnn : A 3 = N np) (hn : np ≤ 10) (hk : k ≤ e) : match numP T e 0 np k with
    | .ok o => FX1_personTold 0 (some 13) (rs σ (N k) b d) = rt (N o.1, rs σ (N o.2) (N (sk T e k)) d)
    | .error p => ∃ τ a, FX1_personTold 0 (some 13) (rs σ (N k) b d) = some (.inr (1, rs τ a (N p) d), 1, 6) ∧ FA σ τ ∧ mN τ = mN σ + 1 := by
  have m := C_numB (b := b) (d := d) hT h h0 hN (lo := 0) (n := np) (by omega) (by omega) hk
  unfold FX1_personTold
  rw [fc_gR0_4 (FC_rs h.1), Option.bind_some, fw_gI (FC_rs h.1).w13, Option.bind_some, rs_q (by omega), rw1 hr, hnn, fc_rv37 (FC_rs h.1), Option.bind_some, l0_, l1_, dN_sub np (by omega)]
  cases r : numP T e 0 np k with
  | error p =>
    rw [r] at m
    obtain ⟨τ, a, m1, m2, m3⟩ := m
    rw [m1, db_inr]
    exact ⟨τ, a, rfl, m2, m3⟩
  | ok o =>
    rw [r] at m
    have m' : FX3_number 37 (N 0) (dN np) (rs σ (N k) b d) = rt (N o.1, rs σ (N o.2) (N (sk T e k)) d) := m
    rw [m', db_rt]
theorem C_hook_13 {y : Int32} (h : RT T e σ) (hr : RW 13 A np σ) (hnn : A 3 = N np) (hn : np ≤ 10) {a : Int32} (K1 K2 : Mm → DX Mm) : ∀ (j v m : Nat), v + j = 12 → j < m → FX1_theHooks_13 0 (some 13) y m (N v) (rs σ a b d) K1 K2 = if tkFrom A np j v = true then K2 (rs σ a b d) else K1 (rs σ a b d) := by
  have hF : FW 13 (rs σ a b d) := (FC_rs h.1).w13
  have hr' : RW 13 A np (rs σ a b d) := RW_eq (fun k hk => rs_q (by omega)) hr
  intro j
  induction j with
  | zero =>
    intro v m hv hm
    obtain ⟨m, rfl⟩ : ∃ x, m = x + 1 := ⟨m - 1, by omega⟩
    rw [FX1_theHooks_13, if_pos (by rw [l12_, N_le (by omega) (by omega)]; omega), tkFrom, if_neg Bool.false_ne_true]
  | succ j ih =>
    intro v m hv hm
    obtain ⟨m, rfl⟩ : ∃ x, m = x + 1 := ⟨m - 1, by omega⟩
    have ih' := ih (v + 1) m (by omega) (by omega)
    rw [FX1_theHooks_13, if_neg (by rw [l12_, N_le (by omega) (by omega)]; omega), fw_gR17 hF, Option.bind_some, fw_rd10 hF (by omega), Option.bind_some, rwH hr' (by omega), m1_, l1_, N_add, tkFrom]
    unfold tkH
    by_cases c : HA A v = M1
    · rw [if_pos c, fw_rv hF, Option.bind_some, W_ticket hF hr' hnn hn, Option.bind_some, decide_eq_true c, Bool.not_true, Bool.false_or]
      try dsimp only
      cases (aTicket A np (N v)).isSome
      · rw [if_pos (show bN false = (0 : Int32) from rfl), Bool.false_or, ih']
      · rw [if_neg (show ¬ bN true = (0 : Int32) by decide), Bool.true_or, if_pos rfl]
    · rw [if_neg c, decide_eq_false c, Bool.not_false, Bool.true_or, Bool.true_or, if_pos rfl]
theorem C_hookL (hT : TX T e) (h : RT T e σ) (h0 : 76 ≤ mN σ) (hN : mN σ < BIG) (hr : RW 13 A np σ) (hnn : A 3 = N np) (hn : np ≤ 10) (hk : k ≤ e) : COL σ d (hookP T e A np k) (FX1_theHooks 0 (some 13) (rs σ (N k) b d)) := by
  have m := C_numB (b := b) (d := d) hT h h0 hN (lo := 1) (n := 13) (by omega) (by omega) hk
  rw [show dN 13 = 12 from rfl, show N 1 = 1 from rfl] at m
  have nk := numP_k (lo := 1) (n := 13) hT hk
  unfold FX1_theHooks
  rw [fc_gR0_4 (FC_rs h.1), Option.bind_some, fc_rv37 (FC_rs h.1), Option.bind_some]
  unfold hookP pb
  cases r : numP T e 1 13 k with
  | error p =>
    rw [r] at m
    obtain ⟨τ, a, m1, m2, m3⟩ := m
    rw [m1, db_inr]
    exact ⟨τ, a, rfl, m2.df, m3⟩
  | ok o =>
    rw [r] at m nk
    obtain ⟨n1, n2, n3, n4⟩ := nk
    have m' : FX3_number 37 1 12 (rs σ (N k) b d) = rt (N o.1, rs σ (N o.2) (N (sk T e k)) d) := m
    rw [m', db_rt]
    dsimp only
    rw [C_hook_13 h hr hnn hn _ _ (12 - o.1) o.1 fu (by omega) (by unfold fu; omega)]
    by_cases c : tkFrom A np (12 - o.1) o.1 = true
    · rw [if_pos c, if_pos c, fc_gR0_4 (FC_rs h.1), Option.bind_some, fc_rv37 (FC_rs h.1), Option.bind_some]
      exact COL_wrong h.1 h0 hN
    · rw [if_neg c, if_neg c, fw_pI (FC_rs h.1).w13, Option.bind_some, rs_w (by omega), rs_q (by omega)]
      refine ⟨_, _, rfl, DF.w (by omega) (by omega), rfl, ?_⟩
      show RW 13 (up1 A 4 (N o.1)) (ix (up1 A 4 (N o.1) 3)) _
      rw [up1_app, if_neg (by omega), hnn, ix_N (by omega)]
      exact RW_scl (by omega) hn hr
theorem C_single {x : Row} (hT : TX T e) (h : RT T e σ) (h0 : 76 ≤ mN σ) (hN : mN σ < BIG) (hr : RW 13 A np σ) (hnn : A 3 = N np) (hn : np ≤ 10) (hk : k ≤ e) : match numP T e 0 np k with
    | .ok o => if PA A o.1 4 = M1 then FX1_singleTold 0 (some 13) (rs σ (N k) b d) = rt (N o.1, rs σ (N o.2) (N (sk T e k)) d) else ∃ τ a, FX1_singleTold 0 (some 13) (rs σ (N k) b d) = some (.inr (1, rs τ a (N (sk T e k)) d), 1, 6) ∧ FA σ τ ∧ mN τ = mN σ + 1
    | .error p => ∃ τ a, FX1_singleTold 0 (some 13) (rs σ (N k) b d) = some (.inr (1, rs τ a (N p) d), 1, 6) ∧ FA σ τ ∧ mN τ = mN σ + 1 := by
  have m := C_pt (b := b) (d := d) hT h h0 hN hr hnn hn hk
  have nk := numP_k (lo := 0) (n := np) hT hk
  unfold FX1_singleTold
  rw [fc_ck0 (FC_rs h.1)]
  cases r : numP T e 0 np k with
  | error p =>
    rw [r] at m
    obtain ⟨τ, a, m1, m2, m3⟩ := m
    rw [m1, db_inr]
    exact ⟨τ, a, rfl, m2, m3⟩
  | ok o =>
    rw [r] at m nk
    have m' : FX1_personTold 0 (some 13) (rs σ (N k) b d) = rt (N o.1, rs σ (N o.2) (N (sk T e k)) d) := m
    have o10 : o.1 < 10 := by have := nk.2.1; omega
    have hF : FW 13 (rs σ (N o.2) (N (sk T e k)) d) := (FC_rs h.1).w13
    rw [m', db_rt]
    dsimp only
    rw [fw_gR12 hF, Option.bind_some, fw_rd5 hF o10, Option.bind_some, rs_q (by omega), rwS hr o10, m1_]
    by_cases c : PA A o.1 4 = M1
    · rw [if_pos c, if_pos c]
    · obtain ⟨τ, w1, -, -, w4, w5⟩ := C_wrongI (a := N o.2) (b := N (sk T e k)) (d := d) h0 hN h.1
      rw [if_neg c, if_neg c, fc_gR0_4 (FC_rs h.1), Option.bind_some, fc_rv37 (FC_rs h.1), Option.bind_some]
      exact ⟨τ, _, w1, w4, w5⟩
theorem C_wedL (hT : TX T e) (h : RT T e σ) (h0 : 76 ≤ mN σ) (hN : mN σ < BIG) (hr : RW 13 A np σ) (hnn : A 3 = N np) (hn : np ≤ 10) (hk : k ≤ e) : COL σ d (wedP T e A np k) (FX1_aWedding 0 (some 13) (rs σ (N k) b d)) := by
  have m := C_single (x := A) (b := b) (d := d) hT h h0 hN hr hnn hn hk
  have nk := numP_k (lo := 0) (n := np) hT hk
  unfold FX1_aWedding wedP pb
  rw [fc_ck0 (FC_rs h.1)]
  cases r : numP T e 0 np k with
  | error p =>
    rw [r] at m
    obtain ⟨τ, a, m1, m2, m3⟩ := m
    rw [m1, db_inr]
    exact ⟨τ, a, rfl, m2.df, m3⟩
  | ok o =>
    rw [r] at m nk
    obtain ⟨n1, n2, n3, n4⟩ := nk
    dsimp only at m ⊢
    by_cases c : PA A o.1 4 = M1
    · rw [if_pos c] at m
      rw [if_pos c, m, db_rt]
      dsimp only
      have m2 := C_single (x := A) (b := N (sk T e k)) (d := d) hT h h0 hN hr hnn hn n4
      have nk2 := numP_k (lo := 0) (n := np) hT n4
      rw [fc_ck0 (FC_rs h.1)]
      cases r2 : numP T e 0 np o.2 with
      | error p =>
        rw [r2] at m2
        obtain ⟨τ, a, m1, m2, m3⟩ := m2
        rw [m1, db_inr]
        exact ⟨τ, a, rfl, m2.df, m3⟩
      | ok o2 =>
        rw [r2] at m2 nk2
        obtain ⟨p1, p2, p3, p4⟩ := nk2
        dsimp only at m2 ⊢
        by_cases c2 : PA A o2.1 4 = M1
        · rw [if_pos c2] at m2
          rw [m2, db_rt]
          dsimp only
          by_cases c3 : o2.1 = o.1
          · rw [if_neg (show ¬ (PA A o2.1 4 = M1 ∧ o2.1 ≠ o.1) from fun z => z.2 c3), if_pos (show N o.1 = N o2.1 by rw [c3]), fc_gR0_4 (FC_rs h.1), Option.bind_some, fc_rv37 (FC_rs h.1), Option.bind_some]
            exact COL_wrong h.1 h0 hN
          · have hF : FW 13 (rs σ (N o2.2) (N (sk T e o.2)) d) := (FC_rs h.1).w13
            have hF2 : FW 13 (rs (wA σ 18 (up1 (mI σ 18) o.1 (N o2.1))) (N o2.2) (N (sk T e o.2)) d) := (FC_rs (FC_w h.1)).w13
            have r1 : RW 13 (up1 A (12 + 6 * o.1 + 4) (N o2.1)) np (wA σ 18 (up1 (mI σ 18) o.1 (N o2.1))) := RW_P hn (show o.1 < 10 by omega) (show 4 < 6 by omega) hr
            have r2 : RW 13 (up1 (up1 A (12 + 6 * o.1 + 4) (N o2.1)) (12 + 6 * o2.1 + 4) (N o.1)) np (wA (wA σ 18 (up1 (mI σ 18) o.1 (N o2.1))) 18 (up1 (mI (wA σ 18 (up1 (mI σ 18) o.1 (N o2.1))) 18) o2.1 (N o.1))) := RW_P hn (show o2.1 < 10 by omega) (show 4 < 6 by omega) r1
            rw [if_neg (show ¬ N o.1 = N o2.1 by rw [N_inj (by omega) (by omega)]; exact fun z => c3 z.symm), if_pos ⟨c2, c3⟩, fw_gR12 hF, Option.bind_some, fw_wr5 hF (by omega), Option.bind_some, rs_w (by omega), rs_q (by omega), fw_gR12 hF2, Option.bind_some, fw_wr5 hF2 (by omega), Option.bind_some, rs_w (by omega), rs_q (by omega)]
            refine ⟨_, _, rfl, (DF.w (by omega) (by omega)).tr (DF.w (show mN (wA σ 18 _) ≤ BIG from Nat.le_of_lt hN) (by omega)), rfl, ?_⟩
            show RW 13 (up1 (up1 A (12 + 6 * o.1 + 4) (N o2.1)) (12 + 6 * o2.1 + 4) (N o.1)) (ix (up1 (up1 A (12 + 6 * o.1 + 4) (N o2.1)) (12 + 6 * o2.1 + 4) (N o.1) 3)) _
            rw [up1_app, if_neg (by omega), up1_app, if_neg (by omega), hnn, ix_N (by omega)]
            exact r2
        · rw [if_neg c2] at m2
          obtain ⟨τ, a, m1, m2, m3⟩ := m2
          rw [m1, db_inr, if_neg (fun z => c2 z.1)]
          exact ⟨τ, a, rfl, m2.df, m3⟩
    · rw [if_neg c] at m
      obtain ⟨τ, a, m1, m2, m3⟩ := m
      rw [if_neg c, m1, db_inr]
      exact ⟨τ, a, rfl, m2.df, m3⟩
theorem C_know_11 {p : Nat} (hT : TX T e) (hn : np ≤ 10) (hp : p < np) (K1 : Mm → DX Mm) : ∀ n (A : Row) (σ : Mm) (b : Int32) k m, RT T e σ → 76 ≤ mN σ → mN σ < BIG → RW 13 A np σ → WF A np nh → k ≤ e → e - k < n → n < m → match knP T e np p n A k with
    | .ok o => ∃ τ b', FX1_aKnowing_11 0 (some 13) (some 37) (N p) m (rs σ (N k) b d) K1 (fun (σ : Mm) => rt σ) = some (.inl (rs τ (N o.2) b' d), 0, 0) ∧ DF σ τ ∧ mN τ = mN σ ∧ RW 13 o.1 np τ
    | .error q => (∃ τ a, FX1_aKnowing_11 0 (some 13) (some 37) (N p) m (rs σ (N k) b d) K1 (fun (σ : Mm) => rt σ) = some (.inr (1, rs τ a (N q) d), 1, 6) ∧ DF σ τ ∧ mN τ = mN σ + 1) ∨ ∃ τ a, FX1_aKnowing_11 0 (some 13) (some 37) (N p) m (rs σ (N k) b d) K1 (fun (σ : Mm) => rt σ) = K1 (rs τ a (N q) d) ∧ DF σ τ ∧ mN τ = mN σ := by
  intro n
  induction n with
  | zero => intro A σ b k m _ _ _ _ _ _ hh; omega
  | succ n ih =>
    intro A σ b k m h h0 hN hr hw hk hh hm
    obtain ⟨m, rfl⟩ : ∃ x, m = x + 1 := ⟨m - 1, by omega⟩
    have hnn := hw.1.1
    have mf := C_pt (b := b) (d := d) hT h h0 hN hr hnn hn hk
    have nk := numP_k (lo := 0) (n := np) hT hk
    rw [knP, FX1_aKnowing_11, fc_ck0 (FC_rs h.1)]
    unfold pb
    cases r : numP T e 0 np k with
    | error q =>
      rw [r] at mf
      obtain ⟨τ, a, m1, m2, m3⟩ := mf
      rw [m1, db_inr]
      exact Or.inl ⟨τ, a, rfl, m2.df, m3⟩
    | ok o =>
      rw [r] at mf nk
      obtain ⟨n1, n2, n3, n4⟩ := nk
      have mf' : FX1_personTold 0 (some 13) (rs σ (N k) b d) = rt (N o.1, rs σ (N o.2) (N (sk T e k)) d) := mf
      have s1 := sk_le (T := T) n4
      have s2 := sk_ge (T := T) (e := e) (k := o.2)
      rw [mf', db_rt]
      dsimp only
      by_cases c : o.1 = p
      · rw [if_pos c, if_pos (by rw [c])]
        exact Or.inr ⟨σ, _, rfl, DF.rf (by omega), rfl⟩
      · have hF : FW 13 (rs σ (N o.2) (N (sk T e k)) d) := (FC_rs h.1).w13
        have r1 : RW 13 (up1 A (12 + 6 * p + 5) (PA A p 5 ||| bt o.1)) np (wA σ 19 (up1 (mI σ 19) p (PA A p 5 ||| bt o.1))) := RW_P hn (show p < 10 by omega) (show 5 < 6 by omega) hr
        have w1 := WF_bt hw hp n2
        have h1 : RT T e (wA σ 19 (up1 (mI σ 19) p (PA A p 5 ||| bt o.1))) := RT_w h (by omega)
        have d1 : DF σ (wA σ 19 (up1 (mI σ 19) p (PA A p 5 ||| bt o.1))) := DF.w (by omega) (by omega)
        have eo : (1 : Int32) <<< (N o.1 &&& 31) = bt o.1 := rfl
        rw [if_neg c, if_neg (show ¬ N o.1 = N p by rw [N_inj (by omega) (by omega)]; exact c), fw_gR13 hF, Option.bind_some, fw_rd6 hF (by omega), Option.bind_some, rs_q (by omega), rwK hr (by omega), eo, fw_wr6 hF (by omega), Option.bind_some, rs_w (by omega), rs_q (by omega), fc_rv37 (FC_rs h1.1), Option.bind_some, C_isFig hT h1 n4, Option.bind_some]
        dsimp only
        by_cases cf : fgB T (sk T e o.2) = true
        · have cf2 := fg_iff.mp cf
          have ih' := ih (up1 A (12 + 6 * p + 5) (PA A p 5 ||| bt o.1)) (wA σ 19 (up1 (mI σ 19) p (PA A p 5 ||| bt o.1))) (N (sk T e o.2)) (sk T e o.2) m h1 h0 hN r1 w1 s1 (by omega) (by omega)
          rw [if_pos cf, if_pos cf2, if_neg (show ¬ N 1 = 0 by decide)]
          revert ih'
          cases knP T e np p n (up1 A (12 + 6 * p + 5) (PA A p 5 ||| bt o.1)) (sk T e o.2) with
          | error q =>
            rintro (⟨τ, a, i1, i2, i3⟩ | ⟨τ, a, i1, i2, i3⟩)
            · exact Or.inl ⟨τ, a, i1, d1.tr i2, i3⟩
            · exact Or.inr ⟨τ, a, i1, d1.tr i2, i3⟩
          | ok o2 =>
            rintro ⟨τ, b', i1, i2, i3, i4⟩
            exact ⟨τ, b', i1, d1.tr i2, i3, i4⟩
        · have cf2 : ¬ (48 ≤ T (sk T e o.2) ∧ T (sk T e o.2) ≤ 57) := fun z => cf (fg_iff.mpr z)
          rw [if_neg cf, if_neg cf2, if_pos (show N 0 = 0 from rfl)]
          exact ⟨_, _, rfl, d1, rfl, r1⟩
theorem C_knowL (hT : TX T e) (h : RT T e σ) (h0 : 76 ≤ mN σ) (hN : mN σ < BIG) (hr : RW 13 A np σ) (hw : WF A np nh) (hk : k ≤ e) : COL σ d (knowP T e A np k) (FX1_aKnowing 0 (some 13) (rs σ (N k) b d)) := by
  have hnn := hw.1.1
  have hn := hw.1.2.1
  have he := hT.1
  have mf := C_pt (b := b) (d := d) hT h h0 hN hr hnn hn hk
  have nk := numP_k (lo := 0) (n := np) hT hk
  unfold FX1_aKnowing knowP pb
  rw [fc_gR0_4 (FC_rs h.1), Option.bind_some, fc_ck0 (FC_rs h.1)]
  cases r : numP T e 0 np k with
  | error p =>
    rw [r] at mf
    obtain ⟨τ, a, m1, m2, m3⟩ := mf
    rw [m1, db_inr]
    exact ⟨τ, a, rfl, m2.df, m3⟩
  | ok o =>
    rw [r] at mf nk
    obtain ⟨n1, n2, n3, n4⟩ := nk
    have mf' : FX1_personTold 0 (some 13) (rs σ (N k) b d) = rt (N o.1, rs σ (N o.2) (N (sk T e k)) d) := mf
    rw [mf', db_rt]
    dsimp only
    have w := C_know_11 (d := d) hT hn n2 (fun (σ : Mm) => (rv 3 (some 37) σ).bind fun q37 => pay 1 6 <| (FX3_wrong q37 σ).bind fun (x39, σ40) => thrd x39 σ40) (e + 1) A σ (N (sk T e k)) o.2 fu h h0 hN hr hw n4 (by omega) (by unfold fu; omega)
    cases r2 : knP T e np o.1 (e + 1) A o.2 with
    | error q =>
      rw [r2] at w
      rcases w with ⟨τ, a, i1, i2, i3⟩ | ⟨τ, a, i1, i2, i3⟩
      · exact ⟨τ, a, i1, i2, i3⟩
      · have hCτ := i2.fc h0 h.1
        obtain ⟨υ, -, -, w3, w4, w5⟩ := C_wrongI (a := a) (b := N q) (d := d) (show 76 ≤ mN τ by omega) (show mN τ < BIG by omega) hCτ
        refine ⟨υ, a, i1.trans ?_, i2.tr w4.df, by omega⟩
        rw [fc_rv37 (FC_rs hCτ), Option.bind_some]
        exact w3
    | ok o2 =>
      have ko := knP_ok hT n2 (e + 1) A o.2 o2 hw n4 r2
      rw [r2] at w
      obtain ⟨τ, b', i1, i2, i3, i4⟩ := w
      refine ⟨τ, b', i1, i2, i3, ?_⟩
      rw [ko.1.1.1, ix_N (by omega)]
      exact i4
end
