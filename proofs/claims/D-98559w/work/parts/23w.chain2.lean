/-! THE PLAIN LAW, 126: chain, asked of both -/
set_option maxRecDepth 100000
theorem if_iff {α : Type} {c d : Prop} [Decidable c] [Decidable d] {x y : α} (h : c ↔ d) : (if c then x else y) = if d then x else y := by
  by_cases hc : c
  · rw [if_pos hc, if_pos (h.mp hc)]
  · rw [if_neg hc, if_neg (fun hd => hc (h.mpr hd))]
section
variable {np nh x : Nat} {σ : Mm} {A : Nat → Int32}
theorem C_chain_26 {s : Nat} {y2 y4 : Int32} (K : Co np nh σ) (hs : s < 1024) (Kx : Int32 → Mm → DX (Int32 × Mm)) : ∀ (k v n a : Nat), v + k = np → k < n → FX1_chain_26 0 y2 (N s) y4 n (N a) (N v) σ Kx = Kx (N (fd (stS (mI σ 63) s) v k a)) σ := by
  have hC := K.c; have hr := K.r; have hn0 := K.n0
  intro k
  induction k with
  | zero =>
    intro v n a hv hn
    obtain ⟨n, rfl⟩ : ∃ m, n = m + 1 := ⟨n - 1, by omega⟩
    rw [FX1_chain_26, fc_gR0_0 hC, Option.bind_some, fw_gI hC.1, Option.bind_some, rw1 hr, K.n, if_pos (by rw [N_le (by omega) (by omega)]; omega), fd]
  | succ k ih =>
    intro v n a hv hn
    obtain ⟨n, rfl⟩ : ∃ m, n = m + 1 := ⟨n - 1, by omega⟩
    have ih' := ih (v + 1) n (stS (mI σ 63) s v a) (by omega) (by omega)
    rw [FX1_chain_26, fc_gR0_0 hC, Option.bind_some, fw_gI hC.1, Option.bind_some, rw1 hr, K.n, if_neg (by rw [N_le (by omega) (by omega)]; omega), C_has, Option.bind_some, l1_, N_add, fd, ← ih']
    unfold jn stS
    try dsimp only
    simp (disch := omega) only [tb_N]
    by_cases c : s.testBit v = true
    · rw [if_pos c, if_pos c, if_neg (show ¬ N 1 = 0 by decide), fc_gR0_0 hC, Option.bind_some, fw_gR13 hC.1, Option.bind_some, fw_rd6 hC.1 (by omega), Option.bind_some, rwK hr (by omega), (kn5_ok K.w (by omega)).2, N_or]
    · rw [if_neg c, if_neg c, if_pos (show N 0 = 0 from rfl), l0_, N_or]
theorem C_chain_13 {y : Nat} (K : Co np nh σ) (hx : x < np) (hy : y < np) (K1 : Mm → DX (Int32 × Mm)) (K2 : Int32 → Mm → DX (Int32 × Mm)) : ∀ (m k n : Nat), k + m = 9 → m + 1 < n → FX1_chain_13 0 (N y) n (N (rk (mI σ 63) np x k)) (N (k + 1)) σ K1 K2 = (match chR (mI σ 63) np x y m (k + 1) with | none => K1 σ | some j => K2 (N j) σ) := by
  have hn0 := K.n0
  intro m
  induction m with
  | zero =>
    intro k n hk hn
    obtain ⟨n, rfl⟩ : ∃ m, n = m + 1 := ⟨n - 1, by omega⟩
    rw [FX1_chain_13, if_pos (by rw [l10_, N_le (by omega) (by omega)]; omega), chR]
  | succ m ih =>
    intro k n hk hn
    obtain ⟨n, rfl⟩ : ∃ m, n = m + 1 := ⟨n - 1, by omega⟩
    have r1 := p1024 hn0 (rk_lt K.w hx k)
    have r2 := p1024 hn0 (rk_lt K.w hx (k + 1))
    have ih' := ih (k + 1) n (by omega) (by omega)
    rw [FX1_chain_13, if_neg (by rw [l10_, N_le (by omega) (by omega)]; omega), l0_]
    refine (C_chain_26 K r1 _ np 0 fu _ (by omega) (by unfold fu; omega)).trans ?_
    rw [show fd (stS (mI σ 63) (rk (mI σ 63) np x k)) 0 np (rk (mI σ 63) np x k) = rk (mI σ 63) np x (k + 1) from rfl, C_has, Option.bind_some, chR]
    try dsimp only
    simp (disch := omega) only [tb_N]
    by_cases c : (rk (mI σ 63) np x (k + 1)).testBit y = true
    · rw [if_pos c, if_pos c, if_neg (show ¬ N 1 = N 0 by decide)]
    · rw [if_neg c, if_neg c, if_pos rfl, l1_, N_add, ih']
theorem M_chain_72 {y2 : Int32} {u d : Nat} (h : FM σ) (hA : mI σ 63 = A) (hw : WF A np nh) (hu : u < np) (hd : d < 10) (Kx : Mm → Option (Int32 × Mm)) : ∀ (k v n : Nat) (g : Nat → Int32), v + k = np → k < n → ∃ g', FX8_chain_72 62 y2 (N d) (N u) n (N v) (wA σ 74 g) Kx = Kx (wA σ 74 g') ∧ ∀ j, g' j = if v ≤ j ∧ j < np ∧ g j = M1 ∧ g u = N d ∧ (kn5 A u).testBit j = true then N (d + 1) else g j := by
  have hn0 := hw.1.2.1
  intro k
  induction k with
  | zero =>
    intro v n g hv hn
    obtain ⟨n, rfl⟩ : ∃ m, n = m + 1 := ⟨n - 1, by omega⟩
    have h' : FM (wA σ 74 g) := FM_w h
    have e63 : mI (wA σ 74 g) 63 = A := hA
    refine ⟨g, ?_, fun j => by rw [if_neg (by omega)]⟩
    rw [FX8_chain_72, fm_gR1 h', Option.bind_some, l3_, fm_rd63 h' (by omega), Option.bind_some, e63, hw.1.1, if_pos (by rw [N_le (by omega) (by omega)]; omega)]
  | succ k ih =>
    intro v n g hv hn
    obtain ⟨n, rfl⟩ : ∃ m, n = m + 1 := ⟨n - 1, by omega⟩
    have h' : FM (wA σ 74 g) := FM_w h
    have e63 : mI (wA σ 74 g) 63 = A := hA
    obtain ⟨k1, k2⟩ := kn5_ok hw hu
    have k3 := p1024 hn0 k1
    have same : ¬ (g v = M1 ∧ g u = N d ∧ (kn5 A u).testBit v = true) → ∃ g', FX8_chain_72 62 y2 (N d) (N u) n (N (v + 1)) (wA σ 74 g) Kx = Kx (wA σ 74 g') ∧ ∀ j, g' j = if v ≤ j ∧ j < np ∧ g j = M1 ∧ g u = N d ∧ (kn5 A u).testBit j = true then N (d + 1) else g j := fun hno => by
      obtain ⟨g', t1, t2⟩ := ih (v + 1) n g (by omega) (by omega)
      refine ⟨g', t1, fun j => ?_⟩
      rw [t2 j]
      by_cases e : j = v
      · subst e
        rw [if_neg (by omega), if_neg (fun hh => hno hh.2.2)]
      · have : (v + 1 ≤ j ∧ j < np ∧ g j = M1 ∧ g u = N d ∧ (kn5 A u).testBit j = true) ↔ (v ≤ j ∧ j < np ∧ g j = M1 ∧ g u = N d ∧ (kn5 A u).testBit j = true) := ⟨fun hh => ⟨by omega, hh.2⟩, fun hh => ⟨by omega, hh.2⟩⟩
        exact if_iff this
    rw [FX8_chain_72, fm_gR1 h', Option.bind_some, l3_, fm_rd63 h' (by omega), Option.bind_some, e63, hw.1.1, if_neg (by rw [N_le (by omega) (by omega)]; omega), fm_gR25 h', Option.bind_some, fm_rd74 h' (by omega), Option.bind_some, mI_wA, if_pos rfl, m1_, l1_, N_add]
    by_cases c1 : g u = N d
    · rw [if_pos c1, Option.bind_some, fm_rd74 h' (by omega), Option.bind_some, mI_wA, if_pos rfl]
      by_cases c2 : g v = M1
      · rw [if_pos c2, fm_ck h', l5_, M_of h' (by omega) (by omega), Option.bind_some, e63, k2]
        try dsimp only
        rw [M_isOf, Option.bind_some]
        try dsimp only
        simp (disch := omega) only [tb_N]
        by_cases c3 : (kn5 A u).testBit v = true
        · obtain ⟨g', t1, t2⟩ := ih (v + 1) n (up1 g v (N (d + 1))) (by omega) (by omega)
          have huv : u ≠ v := fun e => by
            rw [e, c2, m1_N (by omega)] at c1; exact c1
          refine ⟨g', ?_, fun j => ?_⟩
          · rw [if_pos c3, if_neg (show ¬ N 1 = 0 by decide), fm_gR25 h', Option.bind_some, N_add, fm_wr74 h' (by omega), Option.bind_some, mI_wA, if_pos rfl, wA_wA, t1]
          · rw [t2 j, up1_app, up1_app, if_neg huv]
            by_cases e : j = v
            · subst e
              rw [if_neg (by omega), if_pos rfl, if_pos ⟨by omega, by omega, c2, c1, c3⟩]
            · rw [if_neg e]
              have : (v + 1 ≤ j ∧ j < np ∧ g j = M1 ∧ g u = N d ∧ (kn5 A u).testBit j = true) ↔ (v ≤ j ∧ j < np ∧ g j = M1 ∧ g u = N d ∧ (kn5 A u).testBit j = true) := ⟨fun hh => ⟨by omega, hh.2⟩, fun hh => ⟨by omega, hh.2⟩⟩
              exact if_iff this
        · rw [if_neg c3, if_pos (show N 0 = 0 from rfl)]
          exact same (fun hh => c3 hh.2.2)
      · rw [if_neg c2]
        exact same (fun hh => c2 hh.1)
    · rw [if_neg c1]
      exact same (fun hh => c1 hh.2.1)
theorem M_chain_58 {y2 : Int32} {d : Nat} (h : FM σ) (hA : mI σ 63 = A) (hw : WF A np nh) (hd : d < 10) (Kx : Mm → Option (Int32 × Mm)) : ∀ (k u n : Nat) (g : Nat → Int32), u + k = np → k < n → ∃ g', FX8_chain_58 62 y2 (N d) n (N u) (wA σ 74 g) Kx = Kx (wA σ 74 g') ∧ ∀ j, j < np → (hitB A np d g u j → g' j = N (d + 1)) ∧ (¬ hitB A np d g u j → g' j = g j) := by
  have hn0 := hw.1.2.1
  intro k
  induction k with
  | zero =>
    intro u n g hv hn
    obtain ⟨n, rfl⟩ : ∃ m, n = m + 1 := ⟨n - 1, by omega⟩
    have h' : FM (wA σ 74 g) := FM_w h
    have e63 : mI (wA σ 74 g) 63 = A := hA
    refine ⟨g, ?_, fun j _ => ⟨fun ⟨_, v, h1, h2, _⟩ => (by omega), fun _ => rfl⟩⟩
    rw [FX8_chain_58, fm_gR1 h', Option.bind_some, l3_, fm_rd63 h' (by omega), Option.bind_some, e63, hw.1.1, if_pos (by rw [N_le (by omega) (by omega)]; omega)]
  | succ k ih =>
    intro u n g hv hn
    obtain ⟨n, rfl⟩ : ∃ m, n = m + 1 := ⟨n - 1, by omega⟩
    have h' : FM (wA σ 74 g) := FM_w h
    have e63 : mI (wA σ 74 g) 63 = A := hA
    obtain ⟨g1, a1, a2⟩ := M_chain_72 (y2 := y2) (u := u) (d := d) h hA hw (by omega) hd (fun (σ : Mm) => FX8_chain_58 62 y2 (N d) n (N (u + 1)) σ Kx) np 0 fu g (by omega) (by unfold fu; omega)
    obtain ⟨g2, b1, b2⟩ := ih (u + 1) n g1 (by omega) (by omega)
    refine ⟨g2, ?_, fun j hj => ?_⟩
    · rw [FX8_chain_58, fm_gR1 h', Option.bind_some, l3_, fm_rd63 h' (by omega), Option.bind_some, e63, hw.1.1, if_neg (by rw [N_le (by omega) (by omega)]; omega), l0_, l1_, N_add, a1, b1]
    · have nd : ∀ v, g1 v = N d ↔ g v = N d := fun v => by
        rw [a2 v]
        split
        · rename_i hh
          rw [hh.2.2.1, N_inj (by omega) (by omega), m1_N (by omega)]
          exact ⟨fun e => by omega, False.elim⟩
        · exact Iff.rfl
      have b3 := b2 j hj
      by_cases c : g j = M1 ∧ g u = N d ∧ (kn5 A u).testBit j = true
      · have e1 : g1 j = N (d + 1) := by rw [a2 j, if_pos ⟨by omega, hj, c⟩]
        have n1 : ¬ hitB A np d g1 (u + 1) j := fun hh => by have := hh.1; rw [e1, N_m1 (by omega)] at this; exact this
        refine ⟨fun _ => (b3.2 n1).trans e1, fun hh => absurd ⟨c.1, u, by omega, by omega, c.2⟩ hh⟩
      · have e1 : g1 j = g j := by rw [a2 j, if_neg (fun hh => c hh.2.2)]
        have e2 : hitB A np d g1 (u + 1) j ↔ hitB A np d g u j := by
          unfold hitB
          rw [e1]
          constructor
          · rintro ⟨h1, v, h2, h3, h4, h5⟩
            exact ⟨h1, v, by omega, h3, (nd v).mp h4, h5⟩
          · rintro ⟨h1, v, h2, h3, h4, h5⟩
            by_cases e : v = u
            · subst e; exact absurd ⟨h1, h4, h5⟩ c
            · exact ⟨h1, v, by omega, h3, (nd v).mpr h4, h5⟩
        refine ⟨fun hh => b3.1 (e2.mpr hh), fun hh => (b3.2 fun h9 => hh (e2.mp h9)).trans e1⟩
theorem M_chain_49 {y2 : Int32} (h : FM σ) (hA : mI σ 63 = A) (hw : WF A np nh) (Kx : Mm → Option (Int32 × Mm)) : ∀ (k d n : Nat) (g : Nat → Int32), d + k = 10 → k < n → (∀ j, j < np → g j = fr A np x d j) → ∃ g', FX8_chain_49 62 y2 n (N d) (wA σ 74 g) Kx = Kx (wA σ 74 g') ∧ ∀ j, j < np → g' j = fr A np x 10 j := by
  have hn0 := hw.1.2.1
  intro k
  induction k with
  | zero =>
    intro d n g hd hn hg
    obtain ⟨n, rfl⟩ : ∃ m, n = m + 1 := ⟨n - 1, by omega⟩
    have e : d = 10 := by omega
    subst e
    exact ⟨g, by rw [FX8_chain_49, if_pos (show (10 : Int32) ≤ N 10 by decide)], hg⟩
  | succ k ih =>
    intro d n g hd hn hg
    obtain ⟨n, rfl⟩ : ∃ m, n = m + 1 := ⟨n - 1, by omega⟩
    obtain ⟨g1, a1, a2⟩ := M_chain_58 (y2 := y2) (d := d) h hA hw (by omega) (fun (σ : Mm) => FX8_chain_49 62 y2 n (N (d + 1)) σ Kx) np 0 fu g (by omega) (by unfold fu; omega)
    obtain ⟨g2, b1, b2⟩ := ih (d + 1) n g1 (by omega) (by omega) (fun j hj => by
      obtain ⟨f1, f2⟩ := fr_step (A := A) (np := np) (x := x) (d := d) (g := g) (by omega) hj hg
      obtain ⟨f3, f4⟩ := a2 j hj
      by_cases c : hitB A np d g 0 j
      · rw [f1 c, f3 c]
      · rw [f2 c, f4 c])
    refine ⟨g2, ?_, b2⟩
    rw [FX8_chain_49, if_neg (show ¬ (10 : Int32) ≤ N d by rw [l10_, N_le (by omega) (by omega)]; omega), l0_, l1_, N_add, a1, b1]
theorem M_chain_21 {y1 y2 : Int32} (h : FM σ) (Kx : Mm → Option (Int32 × Mm)) : ∀ (k v n : Nat) (g : Nat → Int32), v + k = 10 → k < n → ∃ g', FX8_chain_21 62 y1 y2 n (N v) (wA σ 74 g) Kx = Kx (wA σ 74 g') ∧ (∀ j, v ≤ j → j < 10 → g' j = M1) ∧ ∀ j, j < v → g' j = g j := by
  intro k
  induction k with
  | zero =>
    intro v n g hv hn
    obtain ⟨n, rfl⟩ : ∃ m, n = m + 1 := ⟨n - 1, by omega⟩
    exact ⟨g, by rw [FX8_chain_21, if_pos (by rw [l10_, N_le (by omega) (by omega)]; omega)], fun j h1 h2 => by omega, fun _ _ => rfl⟩
  | succ k ih =>
    intro v n g hv hn
    obtain ⟨n, rfl⟩ : ∃ m, n = m + 1 := ⟨n - 1, by omega⟩
    have h' : FM (wA σ 74 g) := FM_w h
    obtain ⟨g', t1, t2, t3⟩ := ih (v + 1) n (up1 g v M1) (by omega) (by omega)
    refine ⟨g', ?_, fun j h1 h2 => ?_, fun j hj => ?_⟩
    · rw [FX8_chain_21, if_neg (by rw [l10_, N_le (by omega) (by omega)]; omega), fm_gR25 h', Option.bind_some, m1_, fm_wr74 h' (by omega), Option.bind_some, mI_wA, if_pos rfl, wA_wA, l1_, N_add, t1]
    · by_cases e : j = v
      · subst e; rw [t3 j (by omega), up1_app, if_pos rfl]
      · exact t2 j (by omega) h2
    · rw [t3 j (by omega), up1_app, if_neg (by omega)]
theorem q_chain (K : Co np nh σ) (x y : Int32) : QW (FX0_chain (some 0) x y (some 75)) (FX8_chain 62 x y) σ := by
  have hC := K.c; have hr := K.r; have hn0 := K.n0; have h := K.m
  rcases N_in x np (by omega) with ⟨a, ha, rfl⟩ | hx
  · rcases N_in y np (by omega) with ⟨b, hb, rfl⟩ | hy
    · by_cases hab : a = b
      · refine QW_th (k := 2) (σ1 := σ) (σ2 := thr_ σ 2) (b := N 0) (c := 1) (z := 6) (by omega) ?_ (by omega) (by omega) ?_ rfl Kp.rf thr_k
        · unfold FX0_chain FX1_chain FX1_twoAt FX1_demand
          simp (disch := first | omega | ((repeat (first | apply FC_t | apply FC_o | apply FC_w)); exact hC)) only [↓m1_, l0_, l1_, l2_, l3_, l4_, l5_, l6_, l7_, l8_, l9_, l10_, l11_, l12_, l13_, l14_, l15_, l16_, l17_, l18_, l19_, l20_, l21_, l22_, l23_, l24_, l25_, l26_, l27_, l28_, l29_, l30_, l31_, l32_, l40_, l48_, l57_, l59_, l60_, l61_, l62_, l63_, l72_, l77_, l90_, l97_, l99_, l100_, l122_, l128_, l172_, l255_, l272_, l284_, l285_, l286_, l287_, l288_, l289_, l299_, l300_, l320_, l400_, l584_, l984_, l999_, l1023_, l1024_, l4095_, l6424_, l7008_, l10240_, l12345_, l32767_, l100000_, l1103515245_, l2000000000_, N_add, N_mul, up1_app, mI_wA, wA_wA, Option.bind_some, Option.bind_none, jn, fc_ck0, fc_rv0, fc_gI0, fc_pI0, fc_ck37, fc_rv37, fc_gI37, fc_pI37, fc_ck39, fc_rv39, fc_gI39, fc_pI39, fc_ck40, fc_rv40, fc_gI40, fc_pI40, fc_ck41, fc_rv41, fc_gI41, fc_pI41, fc_ck44, fc_rv44, fc_gI44, fc_pI44, fc_ck47, fc_rv47, fc_gI47, fc_pI47, fc_rd38, fc_wr38, fc_rd42, fc_wr42, fc_rd43, fc_wr43, fc_rd45, fc_wr45, fc_rd46, fc_wr46, fc_rd48, fc_wr48, fc_rd49, fc_wr49, fc_rd75, fc_wr75, fc_gR0_0, fc_gR0_1, fc_gR0_2, fc_gR0_4, fc_gR0_5, fc_gR0_6, fc_gR0_7, fc_gR0_8, fc_gR0_9, fc_gR0_10, fc_gR37_0, fc_gR41_0, fc_gR41_1, fc_gR41_3, fc_gR44_0, fc_gR44_1, fc_gR44_2, fc_gR47_0, fc_gR47_1, fc_gR47_3, w1_ck, w1_rv, w1_gI, w1_pI, w1_gL, w1_gR8, w1_rd1, w1_wr1, w1_gR9, w1_rd2, w1_wr2, w1_gR10, w1_rd3, w1_wr3, w1_gR11, w1_rd4, w1_wr4, w1_gR12, w1_rd5, w1_wr5, w1_gR13, w1_rd6, w1_wr6, w1_gR14, w1_rd7, w1_wr7, w1_gR15, w1_rd8, w1_wr8, w1_gR16, w1_rd9, w1_wr9, w1_gR17, w1_rd10, w1_wr10, w1_gR18, w1_rd11, w1_wr11, nle1_, nle2_, nle3_, nle0_, nlt1_, nlt2_, nlt3_, nlt0_, neq10_, neq01_, neq20_, neq30_, neq21_, neq31_, neq12_, neq32_, neq00_, neq11_, if_true, if_false, N_lt, N_le, N_inj, N_m1, m1_N, m1_lt, m1_le, N_ltm, N_lem, m1_m1, C_person_in K ha, C_person_in K hb, db_rt, hab, db_thw, dt_thw, if_true, show ((3 : Nat) = 3) = True from by decide]
          rfl
        · unfold FX8_chain FX8_two
          simp (disch := first | omega | ((repeat (first | apply FM_t | apply FM_o | apply FM_w)); exact h)) only [↓m1_, l0_, l1_, l2_, l3_, l4_, l5_, l6_, l7_, l8_, l9_, l10_, l11_, l12_, l13_, l14_, l15_, l16_, l17_, l18_, l19_, l20_, l21_, l22_, l23_, l24_, l25_, l26_, l27_, l28_, l29_, l30_, l31_, l32_, l40_, l48_, l57_, l59_, l60_, l61_, l62_, l63_, l72_, l77_, l90_, l97_, l99_, l100_, l122_, l128_, l172_, l255_, l272_, l284_, l285_, l286_, l287_, l288_, l289_, l299_, l300_, l320_, l400_, l584_, l984_, l999_, l1023_, l1024_, l4095_, l6424_, l7008_, l10240_, l12345_, l32767_, l100000_, l1103515245_, l2000000000_, N_add, N_mul, up1_app, mI_wA, wA_wA, Option.bind_some, Option.bind_none, jn, fm_ck, fm_rv, fm_gI, fm_pI, fm_gR1, fm_gR2, fm_gR4, fm_gR5, fm_gR7, fm_gR14, fm_gR19, fm_gR21, fm_gR22, fm_gR23, fm_gR24, fm_gR25, fm_rd63, fm_wr63, fm_rd64, fm_wr64, fm_rd65, fm_wr65, fm_rd66, fm_wr66, fm_rd67, fm_wr67, fm_rd68, fm_wr68, fm_rd69, fm_wr69, fm_rd70, fm_wr70, fm_rd71, fm_wr71, fm_rd72, fm_wr72, fm_rd73, fm_wr73, fm_rd74, fm_wr74, nle1_, nle2_, nle3_, nle0_, nlt1_, nlt2_, nlt3_, nlt0_, neq10_, neq01_, neq20_, neq30_, neq21_, neq31_, neq12_, neq32_, neq00_, neq11_, if_true, if_false, N_lt, N_le, N_inj, N_m1, m1_N, m1_lt, m1_le, N_ltm, N_lem, m1_m1, pa_, ha_, M_isPerson_in h K.n hn0 ha, M_isPerson_in h K.n hn0 hb, thr_w, thr_0, hab]
      · obtain ⟨w, hw⟩ : ∃ w, w = fr (mI σ 63) np a 10 b := ⟨_, rfl⟩
        have ec := chain_eq K.w ha hab
        rw [← hw] at ec
        have h' : FM (thr_ (o75 σ w) 0) := FM_t (FM_o h)
        have e63 : mI (thr_ (o75 σ w) 0) 63 = mI σ 63 := rfl
        obtain ⟨g1, a1, a2, -⟩ := M_chain_21 (y1 := N a) (y2 := N b) h' (fun (σ : Mm) => (
          (gR 8 25 (some 62) σ).bind fun x29 =>
          (sI x29 (N a) 0 σ).bind fun σ30 =>
          FX8_chain_49 62 (N b) fu (N 0) σ30 (fun (σ : Mm) => (
          (gR 8 25 (some 62) σ).bind fun x52 =>
          (aI 100 x52 (N b) σ).bind fun x53 =>
          some (x53, σ))))) 10 0 fu (mI (thr_ (o75 σ w) 0) 74) (by omega) (by unfold fu; omega)
        obtain ⟨g2, b1, b2⟩ := M_chain_49 (x := a) (y2 := N b) h' e63 K.w (fun (σ : Mm) => (
          (gR 8 25 (some 62) σ).bind fun x52 =>
          (aI 100 x52 (N b) σ).bind fun x53 =>
          some (x53, σ))) 10 0 fu (up1 g1 a (N 0)) (by omega) (by unfold fu; omega) (fun j hj => by
            rw [fr, up1_app]
            by_cases e : j = a
            · rw [if_pos e, if_pos e]
            · rw [if_neg e, if_neg e]; exact a2 j (by omega) (by omega))
        rw [wA_self] at a1
        refine QW_ok (σ1 := σ) (σ2 := wA (thr_ (o75 σ w) 0) 74 g2) (v := w) (c := 0) (z := 0) ?_ (by omega) (by omega) ?_ rfl rfl Kp.rf (thr_k.trans (Kp_wA (by omega)))
        · have tw : FX1_twoAt 0 (N a) (N b) σ = rt σ := by
            unfold FX1_twoAt FX1_demand
            simp (disch := first | omega | ((repeat (first | apply FC_t | apply FC_o | apply FC_w)); exact hC)) only [↓m1_, l0_, l1_, l2_, l3_, l4_, l5_, l6_, l7_, l8_, l9_, l10_, l11_, l12_, l13_, l14_, l15_, l16_, l17_, l18_, l19_, l20_, l21_, l22_, l23_, l24_, l25_, l26_, l27_, l28_, l29_, l30_, l31_, l32_, l40_, l48_, l57_, l59_, l60_, l61_, l62_, l63_, l72_, l77_, l90_, l97_, l99_, l100_, l122_, l128_, l172_, l255_, l272_, l284_, l285_, l286_, l287_, l288_, l289_, l299_, l300_, l320_, l400_, l584_, l984_, l999_, l1023_, l1024_, l4095_, l6424_, l7008_, l10240_, l12345_, l32767_, l100000_, l1103515245_, l2000000000_, N_add, N_mul, up1_app, mI_wA, wA_wA, Option.bind_some, Option.bind_none, jn, fc_ck0, fc_rv0, fc_gI0, fc_pI0, fc_ck37, fc_rv37, fc_gI37, fc_pI37, fc_ck39, fc_rv39, fc_gI39, fc_pI39, fc_ck40, fc_rv40, fc_gI40, fc_pI40, fc_ck41, fc_rv41, fc_gI41, fc_pI41, fc_ck44, fc_rv44, fc_gI44, fc_pI44, fc_ck47, fc_rv47, fc_gI47, fc_pI47, fc_rd38, fc_wr38, fc_rd42, fc_wr42, fc_rd43, fc_wr43, fc_rd45, fc_wr45, fc_rd46, fc_wr46, fc_rd48, fc_wr48, fc_rd49, fc_wr49, fc_rd75, fc_wr75, fc_gR0_0, fc_gR0_1, fc_gR0_2, fc_gR0_4, fc_gR0_5, fc_gR0_6, fc_gR0_7, fc_gR0_8, fc_gR0_9, fc_gR0_10, fc_gR37_0, fc_gR41_0, fc_gR41_1, fc_gR41_3, fc_gR44_0, fc_gR44_1, fc_gR44_2, fc_gR47_0, fc_gR47_1, fc_gR47_3, w1_ck, w1_rv, w1_gI, w1_pI, w1_gL, w1_gR8, w1_rd1, w1_wr1, w1_gR9, w1_rd2, w1_wr2, w1_gR10, w1_rd3, w1_wr3, w1_gR11, w1_rd4, w1_wr4, w1_gR12, w1_rd5, w1_wr5, w1_gR13, w1_rd6, w1_wr6, w1_gR14, w1_rd7, w1_wr7, w1_gR15, w1_rd8, w1_wr8, w1_gR16, w1_rd9, w1_wr9, w1_gR17, w1_rd10, w1_wr10, w1_gR18, w1_rd11, w1_wr11, nle1_, nle2_, nle3_, nle0_, nlt1_, nlt2_, nlt3_, nlt0_, neq10_, neq01_, neq20_, neq30_, neq21_, neq31_, neq12_, neq32_, neq00_, neq11_, if_true, if_false, N_lt, N_le, N_inj, N_m1, m1_N, m1_lt, m1_le, N_ltm, N_lem, m1_m1, C_person_in K ha, C_person_in K hb, db_rt, hab]
          have c13 := C_chain_13 (x := a) (y := b) K ha hb (fun (σ : Mm) => (rt (M1, σ))) (fun (x38 : Int32) (σ : Mm) => (rt (x38, σ))) 9 0 fu (by omega) (by unfold fu; omega)
          have e2 : (1 : Int32) <<< (N a &&& 31) = N (rk (mI σ 63) np a 0) := by
            show bt a = N (2 ^ a)
            exact bt_N a (by omega)
          unfold FX0_chain FX1_chain
          rw [fc_rv0 hC, Option.bind_some, fc_ck0 hC, tw, db_rt, e2, m1_, l1_]
          refine (congrArg (fun q => dt q _ _) c13).trans ?_
          have fin : (match chR (mI σ 63) np a b 9 (0 + 1) with | none => (rt (M1, σ) : DX (Int32 × Mm)) | some j => rt (N j, σ)) = rt (w, σ) := by
            rw [ec]
            cases chR (mI σ 63) np a b 9 1 <;> rfl
          refine (congrArg (fun q => dt q _ _) fin).trans ?_
          rw [dt_rt]
          try dsimp only
          rw [l0_, show sL (some 75) (N 0) w σ = some (o75 σ w) from sL_w hC, Option.bind_some]
          rfl
        · have ho := FM_o (v := w) h
          have h2 : FM (wA (thr_ (o75 σ w) 0) 74 g1) := FM_w h'
          have h3 : FM (wA (thr_ (o75 σ w) 0) 74 g2) := FM_w h'
          have tw : FX8_two 62 (N a) (N b) (o75 σ w) = some (N 0, o75 σ w) := by
            unfold FX8_two
            simp (disch := first | omega | ((repeat (first | apply FM_t | apply FM_o | apply FM_w)); exact h)) only [↓m1_, l0_, l1_, l2_, l3_, l4_, l5_, l6_, l7_, l8_, l9_, l10_, l11_, l12_, l13_, l14_, l15_, l16_, l17_, l18_, l19_, l20_, l21_, l22_, l23_, l24_, l25_, l26_, l27_, l28_, l29_, l30_, l31_, l32_, l40_, l48_, l57_, l59_, l60_, l61_, l62_, l63_, l72_, l77_, l90_, l97_, l99_, l100_, l122_, l128_, l172_, l255_, l272_, l284_, l285_, l286_, l287_, l288_, l289_, l299_, l300_, l320_, l400_, l584_, l984_, l999_, l1023_, l1024_, l4095_, l6424_, l7008_, l10240_, l12345_, l32767_, l100000_, l1103515245_, l2000000000_, N_add, N_mul, up1_app, mI_wA, wA_wA, Option.bind_some, Option.bind_none, jn, fm_ck, fm_rv, fm_gI, fm_pI, fm_gR1, fm_gR2, fm_gR4, fm_gR5, fm_gR7, fm_gR14, fm_gR19, fm_gR21, fm_gR22, fm_gR23, fm_gR24, fm_gR25, fm_rd63, fm_wr63, fm_rd64, fm_wr64, fm_rd65, fm_wr65, fm_rd66, fm_wr66, fm_rd67, fm_wr67, fm_rd68, fm_wr68, fm_rd69, fm_wr69, fm_rd70, fm_wr70, fm_rd71, fm_wr71, fm_rd72, fm_wr72, fm_rd73, fm_wr73, fm_rd74, fm_wr74, nle1_, nle2_, nle3_, nle0_, nlt1_, nlt2_, nlt3_, nlt0_, neq10_, neq01_, neq20_, neq30_, neq21_, neq31_, neq12_, neq32_, neq00_, neq11_, if_true, if_false, N_lt, N_le, N_inj, N_m1, m1_N, m1_lt, m1_le, N_ltm, N_lem, m1_m1, pa_, ha_, M_isPerson_in (σ := o75 σ _) h K.n hn0 ha, M_isPerson_in (σ := o75 σ _) h K.n hn0 hb, hab]
          unfold FX8_chain
          rw [fm_ck ho, tw, Option.bind_some]
          try dsimp only
          rw [fm_pI ho, Option.bind_some, thr_w, fm_gI h', Option.bind_some, thr_0, if_pos (by decide), l0_]
          refine a1.trans ?_
          try dsimp only
          rw [fm_gR25 h2, Option.bind_some, l0_, fm_wr74 h2 (by omega), Option.bind_some, mI_wA, if_pos rfl, wA_wA]
          refine b1.trans ?_
          try dsimp only
          rw [fm_gR25 h3, Option.bind_some, fm_rd74 h3 (by omega), Option.bind_some, mI_wA, if_pos rfl, b2 b hb, hw]
    · refine QW_th (k := 1) (σ1 := σ) (σ2 := thr_ σ 1) (b := N 0) (c := 1) (z := 6) (by omega) ?_ (by omega) (by omega) ?_ rfl Kp.rf thr_k
      · unfold FX0_chain FX1_chain FX1_twoAt FX1_demand
        simp (disch := first | omega | ((repeat (first | apply FC_t | apply FC_o | apply FC_w)); exact hC)) only [↓m1_, l0_, l1_, l2_, l3_, l4_, l5_, l6_, l7_, l8_, l9_, l10_, l11_, l12_, l13_, l14_, l15_, l16_, l17_, l18_, l19_, l20_, l21_, l22_, l23_, l24_, l25_, l26_, l27_, l28_, l29_, l30_, l31_, l32_, l40_, l48_, l57_, l59_, l60_, l61_, l62_, l63_, l72_, l77_, l90_, l97_, l99_, l100_, l122_, l128_, l172_, l255_, l272_, l284_, l285_, l286_, l287_, l288_, l289_, l299_, l300_, l320_, l400_, l584_, l984_, l999_, l1023_, l1024_, l4095_, l6424_, l7008_, l10240_, l12345_, l32767_, l100000_, l1103515245_, l2000000000_, N_add, N_mul, up1_app, mI_wA, wA_wA, Option.bind_some, Option.bind_none, jn, fc_ck0, fc_rv0, fc_gI0, fc_pI0, fc_ck37, fc_rv37, fc_gI37, fc_pI37, fc_ck39, fc_rv39, fc_gI39, fc_pI39, fc_ck40, fc_rv40, fc_gI40, fc_pI40, fc_ck41, fc_rv41, fc_gI41, fc_pI41, fc_ck44, fc_rv44, fc_gI44, fc_pI44, fc_ck47, fc_rv47, fc_gI47, fc_pI47, fc_rd38, fc_wr38, fc_rd42, fc_wr42, fc_rd43, fc_wr43, fc_rd45, fc_wr45, fc_rd46, fc_wr46, fc_rd48, fc_wr48, fc_rd49, fc_wr49, fc_rd75, fc_wr75, fc_gR0_0, fc_gR0_1, fc_gR0_2, fc_gR0_4, fc_gR0_5, fc_gR0_6, fc_gR0_7, fc_gR0_8, fc_gR0_9, fc_gR0_10, fc_gR37_0, fc_gR41_0, fc_gR41_1, fc_gR41_3, fc_gR44_0, fc_gR44_1, fc_gR44_2, fc_gR47_0, fc_gR47_1, fc_gR47_3, w1_ck, w1_rv, w1_gI, w1_pI, w1_gL, w1_gR8, w1_rd1, w1_wr1, w1_gR9, w1_rd2, w1_wr2, w1_gR10, w1_rd3, w1_wr3, w1_gR11, w1_rd4, w1_wr4, w1_gR12, w1_rd5, w1_wr5, w1_gR13, w1_rd6, w1_wr6, w1_gR14, w1_rd7, w1_wr7, w1_gR15, w1_rd8, w1_wr8, w1_gR16, w1_rd9, w1_wr9, w1_gR17, w1_rd10, w1_wr10, w1_gR18, w1_rd11, w1_wr11, nle1_, nle2_, nle3_, nle0_, nlt1_, nlt2_, nlt3_, nlt0_, neq10_, neq01_, neq20_, neq30_, neq21_, neq31_, neq12_, neq32_, neq00_, neq11_, if_true, if_false, N_lt, N_le, N_inj, N_m1, m1_N, m1_lt, m1_le, N_ltm, N_lem, m1_m1, C_person_in K ha, C_person_out K hy, db_rt, db_thw, dt_thw, if_true]
        rfl
      · unfold FX8_chain FX8_two
        simp (disch := first | omega | ((repeat (first | apply FM_t | apply FM_o | apply FM_w)); exact h)) only [↓m1_, l0_, l1_, l2_, l3_, l4_, l5_, l6_, l7_, l8_, l9_, l10_, l11_, l12_, l13_, l14_, l15_, l16_, l17_, l18_, l19_, l20_, l21_, l22_, l23_, l24_, l25_, l26_, l27_, l28_, l29_, l30_, l31_, l32_, l40_, l48_, l57_, l59_, l60_, l61_, l62_, l63_, l72_, l77_, l90_, l97_, l99_, l100_, l122_, l128_, l172_, l255_, l272_, l284_, l285_, l286_, l287_, l288_, l289_, l299_, l300_, l320_, l400_, l584_, l984_, l999_, l1023_, l1024_, l4095_, l6424_, l7008_, l10240_, l12345_, l32767_, l100000_, l1103515245_, l2000000000_, N_add, N_mul, up1_app, mI_wA, wA_wA, Option.bind_some, Option.bind_none, jn, fm_ck, fm_rv, fm_gI, fm_pI, fm_gR1, fm_gR2, fm_gR4, fm_gR5, fm_gR7, fm_gR14, fm_gR19, fm_gR21, fm_gR22, fm_gR23, fm_gR24, fm_gR25, fm_rd63, fm_wr63, fm_rd64, fm_wr64, fm_rd65, fm_wr65, fm_rd66, fm_wr66, fm_rd67, fm_wr67, fm_rd68, fm_wr68, fm_rd69, fm_wr69, fm_rd70, fm_wr70, fm_rd71, fm_wr71, fm_rd72, fm_wr72, fm_rd73, fm_wr73, fm_rd74, fm_wr74, nle1_, nle2_, nle3_, nle0_, nlt1_, nlt2_, nlt3_, nlt0_, neq10_, neq01_, neq20_, neq30_, neq21_, neq31_, neq12_, neq32_, neq00_, neq11_, if_true, if_false, N_lt, N_le, N_inj, N_m1, m1_N, m1_lt, m1_le, N_ltm, N_lem, m1_m1, pa_, ha_, M_isPerson_in h K.n hn0 ha, M_isPerson_out h K.n hn0 hy, thr_w, thr_0]
  · refine QW_th (k := 1) (σ1 := σ) (σ2 := thr_ σ 1) (b := N 0) (c := 1) (z := 6) (by omega) ?_ (by omega) (by omega) ?_ rfl Kp.rf thr_k
    · unfold FX0_chain FX1_chain FX1_twoAt FX1_demand
      simp (disch := first | omega | ((repeat (first | apply FC_t | apply FC_o | apply FC_w)); exact hC)) only [↓m1_, l0_, l1_, l2_, l3_, l4_, l5_, l6_, l7_, l8_, l9_, l10_, l11_, l12_, l13_, l14_, l15_, l16_, l17_, l18_, l19_, l20_, l21_, l22_, l23_, l24_, l25_, l26_, l27_, l28_, l29_, l30_, l31_, l32_, l40_, l48_, l57_, l59_, l60_, l61_, l62_, l63_, l72_, l77_, l90_, l97_, l99_, l100_, l122_, l128_, l172_, l255_, l272_, l284_, l285_, l286_, l287_, l288_, l289_, l299_, l300_, l320_, l400_, l584_, l984_, l999_, l1023_, l1024_, l4095_, l6424_, l7008_, l10240_, l12345_, l32767_, l100000_, l1103515245_, l2000000000_, N_add, N_mul, up1_app, mI_wA, wA_wA, Option.bind_some, Option.bind_none, jn, fc_ck0, fc_rv0, fc_gI0, fc_pI0, fc_ck37, fc_rv37, fc_gI37, fc_pI37, fc_ck39, fc_rv39, fc_gI39, fc_pI39, fc_ck40, fc_rv40, fc_gI40, fc_pI40, fc_ck41, fc_rv41, fc_gI41, fc_pI41, fc_ck44, fc_rv44, fc_gI44, fc_pI44, fc_ck47, fc_rv47, fc_gI47, fc_pI47, fc_rd38, fc_wr38, fc_rd42, fc_wr42, fc_rd43, fc_wr43, fc_rd45, fc_wr45, fc_rd46, fc_wr46, fc_rd48, fc_wr48, fc_rd49, fc_wr49, fc_rd75, fc_wr75, fc_gR0_0, fc_gR0_1, fc_gR0_2, fc_gR0_4, fc_gR0_5, fc_gR0_6, fc_gR0_7, fc_gR0_8, fc_gR0_9, fc_gR0_10, fc_gR37_0, fc_gR41_0, fc_gR41_1, fc_gR41_3, fc_gR44_0, fc_gR44_1, fc_gR44_2, fc_gR47_0, fc_gR47_1, fc_gR47_3, w1_ck, w1_rv, w1_gI, w1_pI, w1_gL, w1_gR8, w1_rd1, w1_wr1, w1_gR9, w1_rd2, w1_wr2, w1_gR10, w1_rd3, w1_wr3, w1_gR11, w1_rd4, w1_wr4, w1_gR12, w1_rd5, w1_wr5, w1_gR13, w1_rd6, w1_wr6, w1_gR14, w1_rd7, w1_wr7, w1_gR15, w1_rd8, w1_wr8, w1_gR16, w1_rd9, w1_wr9, w1_gR17, w1_rd10, w1_wr10, w1_gR18, w1_rd11, w1_wr11, nle1_, nle2_, nle3_, nle0_, nlt1_, nlt2_, nlt3_, nlt0_, neq10_, neq01_, neq20_, neq30_, neq21_, neq31_, neq12_, neq32_, neq00_, neq11_, if_true, if_false, N_lt, N_le, N_inj, N_m1, m1_N, m1_lt, m1_le, N_ltm, N_lem, m1_m1, C_person_out K hx, db_rt, db_thw, dt_thw, if_true]
      rfl
    · unfold FX8_chain FX8_two
      simp (disch := first | omega | ((repeat (first | apply FM_t | apply FM_o | apply FM_w)); exact h)) only [↓m1_, l0_, l1_, l2_, l3_, l4_, l5_, l6_, l7_, l8_, l9_, l10_, l11_, l12_, l13_, l14_, l15_, l16_, l17_, l18_, l19_, l20_, l21_, l22_, l23_, l24_, l25_, l26_, l27_, l28_, l29_, l30_, l31_, l32_, l40_, l48_, l57_, l59_, l60_, l61_, l62_, l63_, l72_, l77_, l90_, l97_, l99_, l100_, l122_, l128_, l172_, l255_, l272_, l284_, l285_, l286_, l287_, l288_, l289_, l299_, l300_, l320_, l400_, l584_, l984_, l999_, l1023_, l1024_, l4095_, l6424_, l7008_, l10240_, l12345_, l32767_, l100000_, l1103515245_, l2000000000_, N_add, N_mul, up1_app, mI_wA, wA_wA, Option.bind_some, Option.bind_none, jn, fm_ck, fm_rv, fm_gI, fm_pI, fm_gR1, fm_gR2, fm_gR4, fm_gR5, fm_gR7, fm_gR14, fm_gR19, fm_gR21, fm_gR22, fm_gR23, fm_gR24, fm_gR25, fm_rd63, fm_wr63, fm_rd64, fm_wr64, fm_rd65, fm_wr65, fm_rd66, fm_wr66, fm_rd67, fm_wr67, fm_rd68, fm_wr68, fm_rd69, fm_wr69, fm_rd70, fm_wr70, fm_rd71, fm_wr71, fm_rd72, fm_wr72, fm_rd73, fm_wr73, fm_rd74, fm_wr74, nle1_, nle2_, nle3_, nle0_, nlt1_, nlt2_, nlt3_, nlt0_, neq10_, neq01_, neq20_, neq30_, neq21_, neq31_, neq12_, neq32_, neq00_, neq11_, if_true, if_false, N_lt, N_le, N_inj, N_m1, m1_N, m1_lt, m1_le, N_ltm, N_lem, m1_m1, pa_, ha_, M_isPerson_out h K.n hn0 hx, thr_w, thr_0]
end
