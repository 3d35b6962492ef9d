/-! THE PLAIN LAW, 146: the component's persons and wishes -/
set_option maxRecDepth 100000
section
variable {T : Nat → Nat} {e k np nh : Nat} {σ ρ : Mm} {b d : Int32} {A : Row}
theorem C_told_2 {p f : Nat} {l : List Nat} (hF : FW 13 ρ) (hp : p < 10) (hf : f < 10) (hl : l.length ≤ 10) (hl2 : ∀ x ∈ l, x < 10) (h22 : mI ρ 22 p = N l.length) (h21 : ∀ i, i < l.length → mI ρ 21 (10 * p + i) = N (l.getD i 0)) (K1 K2 : Mm → Option (Int32 × Mm)) : ∀ (j v m : Nat), v + j = l.length → j < m → FX2_isTold_2 13 (N p) (N f) m (N v) ρ K1 K2 = if (l.drop v).contains f = true then K2 ρ else K1 ρ := by
  intro j
  induction j with
  | zero =>
    intro v m hv hm
    obtain ⟨m, rfl⟩ : ∃ x, m = x + 1 := ⟨m - 1, by omega⟩
    rw [FX2_isTold_2, fw_gR16 hF, Option.bind_some, fw_rd9 hF hp, Option.bind_some, show mI ρ (13 + 9) p = N l.length from h22, if_pos (by rw [N_le (by omega) (by omega)]; omega), List.drop_of_length_le (by omega), List.contains_nil, if_neg Bool.false_ne_true]
  | succ j ih =>
    intro v m hv hm
    obtain ⟨m, rfl⟩ : ∃ x, m = x + 1 := ⟨m - 1, by omega⟩
    have hvl : v < l.length := by omega
    have e1 : l.getD v 0 = l[v] := by rw [List.getD_eq_getElem?_getD, List.getElem?_eq_getElem hvl]; rfl
    have hx : l[v] < 10 := hl2 _ (List.getElem_mem hvl)
    rw [FX2_isTold_2, fw_gR16 hF, Option.bind_some, fw_rd9 hF hp, Option.bind_some, show mI ρ (13 + 9) p = N l.length from h22, if_neg (by rw [N_le (by omega) (by omega)]; omega), fw_gR15 hF, Option.bind_some, l10_, N_mul, N_add, fw_rd8 hF (by omega), Option.bind_some, show mI ρ (13 + 8) (10 * p + v) = N (l.getD v 0) from h21 v hvl, e1, List.drop_eq_getElem_cons hvl, List.contains_cons]
    by_cases c : l[v] = f
    · rw [if_pos (by rw [c]), c, beq_self_eq_true, Bool.true_or, if_pos rfl]
    · rw [if_neg (by rw [N_inj (by omega) (by omega)]; exact c), show (f == l[v]) = false from beq_eq_false_iff_ne.mpr fun z => c z.symm, Bool.false_or, l1_, N_add]
      exact ih (v + 1) m (by omega) (by omega)
theorem C_isTold {p f : Nat} {l : List Nat} (hF : FW 13 ρ) (hp : p < 10) (hf : f < 10) (hl : l.length ≤ 10) (hl2 : ∀ x ∈ l, x < 10) (h22 : mI ρ 22 p = N l.length) (h21 : ∀ i, i < l.length → mI ρ 21 (10 * p + i) = N (l.getD i 0)) : FX2_isTold 13 (N p) (N f) ρ = some (bN (l.contains f), ρ) := by
  unfold FX2_isTold
  rw [l0_, C_told_2 hF hp hf hl hl2 h22 h21 _ _ l.length 0 fu (by omega) (by unfold fu; omega), List.drop_zero]
  cases l.contains f
  · rw [if_neg Bool.false_ne_true, rZ_0]; rfl
  · rw [if_pos rfl, l1_, rZ_1]; rfl
theorem C_fill_9 {p n' : Nat} {l : List Nat} (hF : FW 13 ρ) (h1 : mI ρ 13 1 = N n') (hn : n' ≤ 10) (hp : p < 10) (hl : l.length ≤ 10) (hl2 : ∀ x ∈ l, x < 10) (h22 : mI ρ 22 p = N l.length) (Kx : Mm → Option Mm) : ∀ (j v c m : Nat) (g : Row), v + j = n' → l.length ≤ c → c + ((List.range' v j).filter fun x => !l.contains x).length ≤ 10 → j < m → (∀ i, i < l.length → g (10 * p + i) = N (l.getD i 0)) → ∃ g', FX2_fillsWishes_9 13 (N p) m (N c) (N v) (wA ρ 21 g) Kx = Kx (wA ρ 21 g') ∧ ∀ i, g' i = if 10 * p + c ≤ i ∧ i < 10 * p + c + ((List.range' v j).filter fun x => !l.contains x).length then N (((List.range' v j).filter fun x => !l.contains x).getD (i - (10 * p + c)) 0) else g i := by
  intro j
  induction j with
  | zero =>
    intro v c m g hv _ _ hm _
    obtain ⟨m, rfl⟩ : ∃ x, m = x + 1 := ⟨m - 1, by omega⟩
    have hF' : FW 13 (wA ρ 21 g) := FW_w hF
    refine ⟨g, by rw [FX2_fillsWishes_9, fw_gI hF', Option.bind_some, show mI (wA ρ 21 g) 13 1 = N n' from h1, if_pos (by rw [N_le (by omega) (by omega)]; omega)], fun i => ?_⟩
    rw [if_neg]
    intro z
    have : ((List.range' v 0).filter fun x => !l.contains x).length = 0 := rfl
    omega
  | succ j ih =>
    intro v c m g hv hc hcl hm hg
    obtain ⟨m, rfl⟩ : ∃ x, m = x + 1 := ⟨m - 1, by omega⟩
    have hF' : FW 13 (wA ρ 21 g) := FW_w hF
    rw [List.range'_succ, List.filter_cons] at hcl ⊢
    rw [FX2_fillsWishes_9, fw_gI hF', Option.bind_some, show mI (wA ρ 21 g) 13 1 = N n' from h1, if_neg (by rw [N_le (by omega) (by omega)]; omega), fw_ck hF', C_isTold (l := l) hF' hp (show v < 10 by omega) hl hl2 (by rw [mI_wA, if_neg (by omega)]; exact h22) (fun i hi => by rw [mI_wA, if_pos rfl]; exact hg i hi), Option.bind_some, l1_, N_add]
    try dsimp only
    cases cl : l.contains v with
    | true =>
      rw [cl] at hcl
      obtain ⟨g', t1, t2⟩ := ih (v + 1) c m g (by omega) hc hcl (by omega) hg
      rw [if_neg (show ¬ bN true = (0 : Int32) by decide), Bool.not_true, if_neg Bool.false_ne_true, N_add]
      exact ⟨g', t1, t2⟩
    | false =>
      rw [cl, Bool.not_false, if_pos rfl, List.length_cons] at hcl
      obtain ⟨g', t1, t2⟩ := ih (v + 1) (c + 1) m (up1 g (10 * p + c) (N v)) (by omega) (by omega) (by omega) (by omega) (fun i hi => by rw [up1_app, if_neg (by omega)]; exact hg i hi)
      refine ⟨g', ?_, fun i => ?_⟩
      · rw [if_pos (show bN false = (0 : Int32) from rfl), fw_gR15 hF', Option.bind_some, l10_, N_mul, N_add, fw_wr8 hF' (by omega), Option.bind_some, show mI (wA ρ 21 g) (13 + 8) = g from by rw [mI_wA, if_pos rfl], wA_wA, N_add, t1]
      · rw [t2 i, up1_app, Bool.not_false, if_pos rfl, List.length_cons]
        by_cases c1 : i = 10 * p + c
        · rw [if_neg (by omega), if_pos c1, if_pos (by omega), c1, Nat.sub_self]; rfl
        · by_cases c2 : 10 * p + (c + 1) ≤ i ∧ i < 10 * p + (c + 1) + ((List.range' (v + 1) j).filter fun x => !l.contains x).length
          · rw [if_pos c2, if_pos (by omega), show i - (10 * p + c) = i - (10 * p + (c + 1)) + 1 by omega]; rfl
          · rw [if_neg c2, if_neg c1, if_neg (by omega)]
/-- the wishes of one are filled up -/
theorem C_fills {p n' : Nat} {l : List Nat} (hF : FW 13 ρ) (h1 : mI ρ 13 1 = N n') (hn : n' ≤ 10) (hp : p < 10) (hl : wlG n' l) (h22 : mI ρ 22 p = N l.length) {g : Row} (hg : ∀ i, i < l.length → g (10 * p + i) = N (l.getD i 0)) : ∃ g', FX2_fillsWishes 13 (N p) (wA ρ 21 g) = some (wA ρ 21 g') ∧ (∀ i, i < n' → g' (10 * p + i) = N ((l ++ rest n' l).getD i 0)) ∧ ∀ i, (i < 10 * p ∨ 10 * p + 10 ≤ i) → g' i = g i := by
  have hlen := nd_len hn hl.1 hl.2
  have hr : ((List.range' 0 n').filter fun x => !l.contains x) = rest n' l := by unfold rest; rw [List.range_eq_range']
  have hrl : l.length + (rest n' l).length = n' := by
    have := rest_len (n := n') hl.1 hl.2
    rw [List.length_append] at this
    exact this
  obtain ⟨g', t1, t2⟩ := C_fill_9 (p := p) (l := l) hF h1 hn hp hlen (fun x hx => by have := hl.2 x hx; omega) h22 (fun (σ : Mm) => some σ) n' 0 l.length fu g (by omega) (Nat.le_refl _) (by rw [hr]; omega) (by unfold fu; omega) hg
  rw [hr] at t2
  have hF' : FW 13 (wA ρ 21 g) := FW_w hF
  refine ⟨g', ?_, fun i hi => ?_, fun i hi => ?_⟩
  · unfold FX2_fillsWishes
    rw [fw_gR16 hF', Option.bind_some, fw_rd9 hF' hp, Option.bind_some, show mI (wA ρ 21 g) (13 + 9) p = N l.length from by rw [mI_wA, if_neg (by omega)]; exact h22, l0_, t1]
  · rw [t2]
    by_cases c : l.length ≤ i
    · rw [if_pos (by omega), List.getD_eq_getElem?_getD, List.getD_eq_getElem?_getD, List.getElem?_append_right c, show 10 * p + i - (10 * p + l.length) = i - l.length by omega]
    · rw [if_neg (by omega), hg i (by omega), List.getD_eq_getElem?_getD, List.getD_eq_getElem?_getD, List.getElem?_append_left (by omega)]
  · rw [t2, if_neg (by omega)]
theorem C_who_124 {n' : Nat} {l : Nat → List Nat} (hF : FW 13 ρ) (h1 : mI ρ 13 1 = N n') (hn : n' ≤ 10) (hl : ∀ u, u < n' → wlG n' (l u)) (h22 : ∀ u, u < n' → mI ρ 22 u = N (l u).length) (Kx : Mm → DX Mm) : ∀ (j v m : Nat) (g : Row), v + j = n' → j < m → (∀ u, u < n' → ∀ i, i < (l u).length → g (10 * u + i) = N ((l u).getD i 0)) → ∃ g', FX1_aPerson_124 (some 13) m (N v) (wA ρ 21 g) Kx = Kx (wA ρ 21 g') ∧ (∀ u, v ≤ u → u < n' → ∀ i, i < n' → g' (10 * u + i) = N ((l u ++ rest n' (l u)).getD i 0)) ∧ ∀ u, u < v → ∀ i, i < 10 → g' (10 * u + i) = g (10 * u + i) := by
  intro j
  induction j with
  | zero =>
    intro v m g hv hm _
    obtain ⟨m, rfl⟩ : ∃ x, m = x + 1 := ⟨m - 1, by omega⟩
    have hF' : FW 13 (wA ρ 21 g) := FW_w hF
    exact ⟨g, by rw [FX1_aPerson_124, fw_gI hF', Option.bind_some, show mI (wA ρ 21 g) 13 1 = N n' from h1, if_pos (by rw [N_le (by omega) (by omega)]; omega)], fun u a1 a2 => by omega, fun _ _ _ _ => rfl⟩
  | succ j ih =>
    intro v m g hv hm hg
    obtain ⟨m, rfl⟩ : ∃ x, m = x + 1 := ⟨m - 1, by omega⟩
    have hF' : FW 13 (wA ρ 21 g) := FW_w hF
    obtain ⟨g1, a1, a2, a3⟩ := C_fills (p := v) hF h1 hn (by omega) (hl v (by omega)) (h22 v (by omega)) (hg v (by omega))
    have hlv := nd_len hn (hl v (by omega)).1 (hl v (by omega)).2
    have hrl : (l v).length + (rest n' (l v)).length = n' := by
      have := rest_len (n := n') (hl v (by omega)).1 (hl v (by omega)).2
      rw [List.length_append] at this
      exact this
    obtain ⟨g2, b1, b2, b3⟩ := ih (v + 1) m g1 (by omega) (by omega) (fun u hu i hi => by
      have hlu := nd_len hn (hl u hu).1 (hl u hu).2
      by_cases c : u = v
      · subst c
        rw [a2 i (by omega), List.getD_eq_getElem?_getD, List.getD_eq_getElem?_getD, List.getElem?_append_left hi]
      · rw [a3 _ (by omega)]; exact hg u hu i hi)
    refine ⟨g2, ?_, fun u u1 u2 i hi => ?_, fun u hu i hi => ?_⟩
    · rw [FX1_aPerson_124, fw_gI hF', Option.bind_some, show mI (wA ρ 21 g) 13 1 = N n' from h1, if_neg (by rw [N_le (by omega) (by omega)]; omega), fw_rv hF', Option.bind_some, a1, Option.bind_some, l1_, N_add, b1]
    · by_cases c : u = v
      · subst c
        rw [b3 u (by omega) i (by omega)]; exact a2 i hi
      · exact b2 u (by omega) u2 i hi
    · rw [b3 u (by omega) i hi, a3 _ (by omega)]
theorem C_who_76 (hF : FW 13 ρ) (hn : np < 10) (Kx : Mm → DX Mm) : ∀ (j v m : Nat) (g : Row), v + j = 10 → j < m → ∃ g', FX1_aPerson_76 (some 13) (N np) m (N v) (wA ρ 20 g) Kx = Kx (wA ρ 20 g') ∧ ∀ i, i < 100 → g' i = if (i / 10 = np ∧ v ≤ i % 10) ∨ (i % 10 = np ∧ v ≤ i / 10) then N 0 else g i := by
  intro j
  induction j with
  | zero =>
    intro v m g hv hm
    obtain ⟨m, rfl⟩ : ∃ x, m = x + 1 := ⟨m - 1, by omega⟩
    refine ⟨g, by rw [FX1_aPerson_76, if_pos (by rw [l10_, N_le (by omega) (by omega)]; omega)], fun i hi => ?_⟩
    rw [if_neg (by omega)]
  | succ j ih =>
    intro v m g hv hm
    obtain ⟨m, rfl⟩ : ∃ x, m = x + 1 := ⟨m - 1, by omega⟩
    have hF' : FW 13 (wA ρ 20 g) := FW_w hF
    have hF2 : FW 13 (wA ρ 20 (up1 g (10 * np + v) (N 0))) := FW_w hF
    obtain ⟨g', t1, t2⟩ := ih (v + 1) m (up1 (up1 g (10 * np + v) (N 0)) (10 * v + np) (N 0)) (by omega) (by omega)
    refine ⟨g', ?_, fun i hi => ?_⟩
    · rw [FX1_aPerson_76, if_neg (by rw [l10_, N_le (by omega) (by omega)]; omega), fw_gR14 hF', Option.bind_some, l10_, l0_, N_mul, N_add, fw_wr7 hF' (by omega), Option.bind_some, show mI (wA ρ 20 g) (13 + 7) = g from by rw [mI_wA, if_pos rfl], wA_wA, fw_gR14 hF2, Option.bind_some, N_mul, N_add, fw_wr7 hF2 (by omega), Option.bind_some, show mI (wA ρ 20 (up1 g (10 * np + v) (N 0))) (13 + 7) = up1 g (10 * np + v) (N 0) from by rw [mI_wA, if_pos rfl], wA_wA, l1_, N_add, t1]
    · rw [t2 i hi, up1_app, up1_app]
      by_cases c : (i / 10 = np ∧ v ≤ i % 10) ∨ (i % 10 = np ∧ v ≤ i / 10)
      · rw [if_pos c]
        by_cases c2 : (i / 10 = np ∧ v + 1 ≤ i % 10) ∨ (i % 10 = np ∧ v + 1 ≤ i / 10)
        · rw [if_pos c2]
        · rw [if_neg c2]
          by_cases c3 : i = 10 * v + np
          · rw [if_pos c3]
          · rw [if_neg c3, if_pos (by omega)]
      · rw [if_neg c, if_neg (by omega), if_neg (by omega), if_neg (by omega)]
theorem C_whoL {w0 : Nat} (hT : TX T e) (h : RT T e σ) (h0 : 76 ≤ mN σ) (hN : mN σ < BIG) (hr : RW 13 A np σ) (hnn : A 3 = N np) (hn : np ≤ 10) (hk : k ≤ e) : COL σ d (whoP T e A np w0 k) (FX1_aPerson 0 (some 13) (rs σ (N k) (N w0) d)) := by
  have hF0 : FW 13 (rs σ (N k) (N w0) d) := (FC_rs h.1).w13
  unfold FX1_aPerson whoP
  rw [fw_gI hF0, Option.bind_some, rs_q (by omega), rw1 hr, hnn]
  by_cases c10 : np = 10
  · rw [if_pos c10, if_pos (show N np = 10 by rw [c10]; rfl), fc_gR0_4 (FC_rs h.1), Option.bind_some, fc_rv37 (FC_rs h.1), Option.bind_some]
    exact COL_wrong h.1 h0 hN
  have hn10 : np < 10 := by omega
  rw [if_neg c10, if_neg (show ¬ N np = 10 by rw [l10_, N_inj (by omega) (by omega)]; exact c10), fw_gR8 hF0, Option.bind_some, fc_ck0 (FC_rs h.1)]
  unfold pb
  have m0 := C_marksT (b := N w0) (d := d) hT h h0 hN hk
  have mk0 := markP_k hT hk
  cases r0 : markP T e k with
  | error p =>
    rw [r0] at m0
    obtain ⟨τ, a, m1, m2, m3⟩ := m0
    rw [m1, db_inr]
    exact ⟨τ, a, rfl, m2.df, m3⟩
  | ok o0 =>
    rw [r0] at m0 mk0
    obtain ⟨b1, m0⟩ := m0
    obtain ⟨-, -, mk3⟩ := mk0
    have m0' : FX1_marksTold 0 (rs σ (N k) (N w0) d) = rt (N o0.1, rs σ (N o0.2) b1 d) := m0
    have hF1 : FW 13 (rs σ (N o0.2) b1 d) := (FC_rs h.1).w13
    rw [m0', db_rt]
    dsimp only
    obtain ⟨τ1, hτ1⟩ : ∃ τ1, τ1 = wA σ 14 (up1 (mI σ 14) np (N o0.1)) := ⟨_, rfl⟩
    have h1 : RT T e τ1 := by rw [hτ1]; exact RT_w h (by omega)
    have d1 : DF σ τ1 := by rw [hτ1]; exact DF.w (by omega) (by omega)
    have n1 : mN τ1 = mN σ := by rw [hτ1]; rfl
    have hF2 : FW 13 (rs τ1 (N o0.2) b1 d) := (FC_rs h1.1).w13
    rw [fw_wr1 hF1 hn10, Option.bind_some, rs_w (by omega), rs_q (by omega), ← hτ1, fw_gR9 hF2, Option.bind_some, fc_ck0 (FC_rs h1.1)]
    have m1 := C_marksT (b := b1) (d := d) hT h1 (by omega) (by omega) mk3
    cases r1 : markP T e o0.2 with
    | error p =>
      rw [r1] at m1
      obtain ⟨τ, a, q1, q2, q3⟩ := m1
      rw [q1, db_inr]
      exact ⟨τ, a, rfl, d1.tr q2.df, by omega⟩
    | ok o1 =>
      rw [r1] at m1
      obtain ⟨b2, m1⟩ := m1
      have m1' : FX1_marksTold 0 (rs τ1 (N o0.2) b1 d) = rt (N o1.1, rs τ1 (N o1.2) b2 d) := m1
      rw [m1', db_rt]
      dsimp only
      -- the writes
      obtain ⟨l, hl⟩ := rwWS hr
      obtain ⟨τ7, hτ7⟩ : ∃ τ7, τ7 = wA (wA (wA (wA (wA (wA τ1 15 (up1 (mI τ1 15) np (N o1.1))) 16 (up1 (mI τ1 16) np (N np))) 17 (up1 (mI τ1 17) np M1)) 18 (up1 (mI τ1 18) np M1)) 19 (up1 (mI τ1 19) np (N 0))) 22 (up1 (mI τ1 22) np (N 0)) := ⟨_, rfl⟩
      have hC7 : FC τ7 := by rw [hτ7]; exact FC_w (FC_w (FC_w (FC_w (FC_w (FC_w h1.1)))))
      obtain ⟨g20, a1, a2⟩ := C_who_76 (ρ := rs τ7 (N o1.2) b2 d) (np := np) (FC_rs hC7).w13 hn10 (fun (σ : Mm) => (gI 2 1 (some 13) σ).bind fun x47 => (pI 2 1 (some 13) (x47 + 1) σ).bind fun σ48 => FX1_aPerson_124 (some 13) fu (N 0) σ48 (fun (σ : Mm) => rt σ)) 10 0 fu (mI (rs τ7 (N o1.2) b2 d) 20) (by omega) (by unfold fu; omega)
      rw [wA_self] at a1
      obtain ⟨τ9, hτ9⟩ : ∃ τ9, τ9 = wA (wA τ7 20 g20) 13 (up1 (mI τ7 13) 1 (N (np + 1))) := ⟨_, rfl⟩
      have hC9 : FC τ9 := by rw [hτ9]; exact FC_w (FC_w hC7)
      have i9 : ∀ q, q ≠ 13 → q ≠ 14 → q ≠ 15 → q ≠ 16 → q ≠ 17 → q ≠ 18 → q ≠ 19 → q ≠ 20 → q ≠ 22 → mI τ9 q = mI σ q := fun q c1 c2 c3 c4 c5 c6 c7 c8 c9 => by
        rw [hτ9, mI_wA, if_neg c1, mI_wA, if_neg c8, hτ7, mI_wA, if_neg c9, mI_wA, if_neg c7, mI_wA, if_neg c6, mI_wA, if_neg c5, mI_wA, if_neg c4, mI_wA, if_neg c3, hτ1, mI_wA, if_neg c2]
      have e13 : mI τ9 13 = up1 (mI σ 13) 1 (N (np + 1)) := by rw [hτ9, hτ7, hτ1]; rfl
      have e14 : mI τ9 14 = up1 (mI σ 14) np (N o0.1) := by rw [hτ9, hτ7, hτ1]; rfl
      have e15 : mI τ9 15 = up1 (mI σ 15) np (N o1.1) := by rw [hτ9, hτ7, hτ1]; rfl
      have e16 : mI τ9 16 = up1 (mI σ 16) np (N np) := by rw [hτ9, hτ7, hτ1]; rfl
      have e17 : mI τ9 17 = up1 (mI σ 17) np M1 := by rw [hτ9, hτ7, hτ1]; rfl
      have e18 : mI τ9 18 = up1 (mI σ 18) np M1 := by rw [hτ9, hτ7, hτ1]; rfl
      have e19 : mI τ9 19 = up1 (mI σ 19) np (N 0) := by rw [hτ9, hτ7, hτ1]; rfl
      have e20 : mI τ9 20 = g20 := by rw [hτ9]; rfl
      have e22 : mI τ9 22 = up1 (mI σ 22) np (N 0) := by rw [hτ9, hτ7, hτ1]; rfl
      have s20 : mI (rs τ7 (N o1.2) b2 d) 20 = mI σ 20 := by rw [rs_q (by omega), hτ7, hτ1]; rfl
      obtain ⟨lf, hlf⟩ : ∃ lf : Nat → List Nat, lf = fun u => if u = np then [] else l u := ⟨_, rfl⟩
      have lfn : lf np = [] := by rw [hlf]; exact if_pos rfl
      have lfo : ∀ u, u ≠ np → lf u = l u := fun u hu => by rw [hlf]; exact if_neg hu
      have lg : ∀ u, u < np + 1 → wlG (np + 1) (lf u) := fun u hu => by
        by_cases c : u = np
        · rw [c, lfn]; exact ⟨List.nodup_nil, fun x hx => by cases hx⟩
        · rw [lfo u c]
          obtain ⟨-, w2, w3, -⟩ := hl u (by omega)
          exact ⟨w2, fun x hx => by have := w3 x hx; omega⟩
      have l22 : ∀ u, u < np + 1 → mI (rs τ9 (N o1.2) b2 d) 22 u = N (lf u).length := fun u hu => by
        rw [rs_q (by omega), e22, up1_app]
        by_cases c : u = np
        · rw [if_pos c, c, lfn]; rfl
        · rw [if_neg c, lfo u c]; exact (hl u (by omega)).1
      have hg : ∀ u, u < np + 1 → ∀ i, i < (lf u).length → mI (rs τ9 (N o1.2) b2 d) 21 (10 * u + i) = N ((lf u).getD i 0) := fun u hu i hi => by
        rw [rs_q (by omega), i9 21 (by omega) (by omega) (by omega) (by omega) (by omega) (by omega) (by omega) (by omega) (by omega)]
        by_cases c : u = np
        · rw [c, lfn] at hi; exact absurd hi (Nat.not_lt_zero _)
        · rw [lfo u c] at hi ⊢
          obtain ⟨-, w2, w3, w4, -⟩ := hl u (by omega)
          have hll := nd_len hn w2 w3
          have hle : (l u).length ≤ np := by
            have := w2.length_le_of_subset (l₂ := List.range np) fun x hx => List.mem_range.mpr (w3 x hx)
            rw [List.length_range] at this; exact this
          have := w4 i (by omega)
          rw [show mI σ (13 + 8) = mI σ 21 from rfl] at this
          rw [this, List.getD_eq_getElem?_getD, List.getD_eq_getElem?_getD, List.getElem?_append_left hi]
      obtain ⟨g21, b1', b2', -⟩ := C_who_124 (ρ := rs τ9 (N o1.2) b2 d) (n' := np + 1) (l := lf) (FC_rs hC9).w13 (by rw [rs_q (by omega), e13, up1_app, if_pos rfl]) (by omega) lg l22 (fun (σ : Mm) => rt σ) (np + 1) 0 fu (mI (rs τ9 (N o1.2) b2 d) 21) (by omega) (by unfold fu; omega) hg
      rw [wA_self] at b1'
      obtain ⟨τ, hτ⟩ : ∃ τ, τ = wA τ9 21 g21 := ⟨_, rfl⟩
      have it : ∀ q, q ≠ 21 → mI τ q = mI τ9 q := fun q hq => by rw [hτ, mI_wA, if_neg hq]
      have run : FX1_aPerson_76 (some 13) (N np) fu (N 0) (rs τ7 (N o1.2) b2 d) (fun (σ : Mm) => (gI 2 1 (some 13) σ).bind fun x47 => (pI 2 1 (some 13) (x47 + 1) σ).bind fun σ48 => FX1_aPerson_124 (some 13) fu (N 0) σ48 (fun (σ : Mm) => rt σ)) = rt (rs τ (N o1.2) b2 d) := by
        have hF8 : FW 13 (rs (wA τ7 20 g20) (N o1.2) b2 d) := (FC_rs (FC_w hC7)).w13
        have e8 : mI (wA τ7 20 g20) 13 1 = N np := by
          rw [mI_wA, if_neg (by omega), hτ7, hτ1]
          exact (rw1 hr).trans hnn
        rw [a1, rs_w (by omega), fw_gI hF8, Option.bind_some, rs_q (by omega), e8, l1_, N_add, fw_pI hF8, Option.bind_some, rs_w (by omega), rs_q (by omega), show wA (wA τ7 20 g20) 13 (up1 (mI (wA τ7 20 g20) 13) 1 (N (np + 1))) = τ9 by rw [hτ9, mI_wA, if_neg (by omega)], b1', rs_w (by omega), ← hτ]
      have dfin : DF σ τ := by
        have st : ∀ {x : Mm} {p : Nat} {f : Row}, mN x ≤ BIG → 13 ≤ p ∧ p < 25 → DF σ x → DF σ (wA x p f) := fun hx hp hd => hd.tr (DF.w hx hp)
        have bx : mN τ1 ≤ BIG := by omega
        rw [hτ, hτ9, hτ7]
        exact st bx (by omega) (st bx (by omega) (st bx (by omega) (st bx (by omega) (st bx (by omega) (st bx (by omega) (st bx (by omega) (st bx (by omega) (st bx (by omega) d1))))))))
      have nfin : mN τ = mN σ := by rw [hτ, hτ9, hτ7]; exact n1
      have rfin : RW 13 (rWho A np o0.1 o1.1) (np + 1) τ := by
        obtain ⟨⟨s0, s1, s2, s3, s4, s5, s6, s7⟩, rp, rth, rh, rl, -⟩ := hr
        have ro : ∀ j, (j ≠ 3 ∧ ¬ (12 + 6 * np ≤ j ∧ j < 18 + 6 * np) ∧ ¬ (72 + 10 * np ≤ j ∧ j < 82 + 10 * np) ∧ ¬ (172 ≤ j ∧ j < 272 ∧ ((j - 172) / 10 = np ∨ (j - 172) % 10 = np))) → rWho A np o0.1 o1.1 j = A j := fun j hj => by
          unfold rWho
          rw [if_neg hj.1, if_neg (by omega), if_neg (by omega), if_neg (by omega), if_neg (by omega), if_neg (by omega), if_neg (by omega), if_neg hj.2.2.1, if_neg hj.2.2.2]
        refine ⟨⟨?_, ?_, ?_, ?_, ?_, ?_, ?_, ?_⟩, fun p hp => ⟨?_, ?_, ?_, ?_, ?_, ?_⟩, fun j hj => ?_, fun q hq => ?_, fun j hj => ?_, lf, fun p hp => ?_⟩
        · rw [it 13 (by omega), e13, up1_app, if_neg (by omega), ro 0 (by omega)]; exact s0
        · rw [it 13 (by omega), e13, up1_app, if_pos rfl]; exact (if_pos rfl).symm
        · rw [it 13 (by omega), e13, up1_app, if_neg (by omega), ro 4 (by omega)]; exact s2
        · rw [it 13 (by omega), e13, up1_app, if_neg (by omega), ro 5 (by omega)]; exact s3
        · rw [it 13 (by omega), e13, up1_app, if_neg (by omega), ro 6 (by omega)]; exact s4
        · rw [it 13 (by omega), e13, up1_app, if_neg (by omega), ro 7 (by omega)]; exact s5
        · rw [it 13 (by omega), e13, up1_app, if_neg (by omega), ro 8 (by omega)]; exact s6
        · rw [it 13 (by omega), e13, up1_app, if_neg (by omega), ro 9 (by omega)]; exact s7
        · rw [it 14 (by omega), e14, up1_app]
          by_cases c : p = np
          · rw [if_pos c, c]; unfold PA rWho; rw [if_neg (by omega), if_pos (by omega)]
          · rw [if_neg c]; unfold PA; rw [ro _ (by omega)]; exact (rp p hp).1
        · rw [it 15 (by omega), e15, up1_app]
          by_cases c : p = np
          · rw [if_pos c, c]; unfold PA rWho; rw [if_neg (by omega), if_neg (by omega), if_pos (by omega)]
          · rw [if_neg c]; unfold PA; rw [ro _ (by omega)]; exact (rp p hp).2.1
        · rw [it 16 (by omega), e16, up1_app]
          by_cases c : p = np
          · rw [if_pos c, c]; unfold PA rWho; rw [if_neg (by omega), if_neg (by omega), if_neg (by omega), if_pos (by omega)]
          · rw [if_neg c]; unfold PA; rw [ro _ (by omega)]; exact (rp p hp).2.2.1
        · rw [it 17 (by omega), e17, up1_app]
          by_cases c : p = np
          · rw [if_pos c, c]; unfold PA rWho; rw [if_neg (by omega), if_neg (by omega), if_neg (by omega), if_neg (by omega), if_pos (by omega)]
          · rw [if_neg c]; unfold PA; rw [ro _ (by omega)]; exact (rp p hp).2.2.2.1
        · rw [it 18 (by omega), e18, up1_app]
          by_cases c : p = np
          · rw [if_pos c, c]; unfold PA rWho; rw [if_neg (by omega), if_neg (by omega), if_neg (by omega), if_neg (by omega), if_neg (by omega), if_pos (by omega)]
          · rw [if_neg c]; unfold PA; rw [ro _ (by omega)]; exact (rp p hp).2.2.2.2.1
        · rw [it 19 (by omega), e19, up1_app]
          by_cases c : p = np
          · rw [if_pos c, c]; unfold PA rWho; rw [if_neg (by omega), if_neg (by omega), if_neg (by omega), if_neg (by omega), if_neg (by omega), if_neg (by omega), if_pos (by omega)]
          · rw [if_neg c]; unfold PA; rw [ro _ (by omega)]; exact (rp p hp).2.2.2.2.2
        · rw [it 20 (by omega), e20, a2 j hj, s20]
          by_cases c : j / 10 = np ∨ j % 10 = np
          · rw [if_pos (by omega)]
            unfold rWho
            rw [if_neg (by omega), if_neg (by omega), if_neg (by omega), if_neg (by omega), if_neg (by omega), if_neg (by omega), if_neg (by omega), if_neg (by omega), if_pos (by omega)]
          · rw [if_neg (by omega), ro _ (by omega)]; exact rth j hj
        · rw [it 23 (by omega), i9 23 (by omega) (by omega) (by omega) (by omega) (by omega) (by omega) (by omega) (by omega) (by omega)]
          unfold HA
          rw [ro _ (by omega)]; exact rh q hq
        · rw [it 24 (by omega), i9 24 (by omega) (by omega) (by omega) (by omega) (by omega) (by omega) (by omega) (by omega) (by omega), ro _ (by omega)]; exact rl j hj
        · obtain ⟨g1, g2⟩ := lg p hp
          refine ⟨?_, g1, g2, fun i hi => ?_, fun i hi => ?_⟩
          · rw [it 22 (by omega)]
            have := l22 p hp
            rw [rs_q (by omega)] at this
            exact this
          · rw [hτ, mI_wA, if_pos rfl]; exact b2' p (by omega) hp i hi
          · by_cases c : p = np
            · rw [c, lfn]
              unfold rWho
              rw [if_neg (by omega), if_neg (by omega), if_neg (by omega), if_neg (by omega), if_neg (by omega), if_neg (by omega), if_neg (by omega), if_pos (by omega), List.nil_append]
              have er : rest 10 [] = List.range 10 := by decide
              rw [er, List.getD_eq_getElem?_getD, List.getElem?_range hi, show 72 + 10 * np + i - (72 + 10 * np) = i by omega]
              rfl
            · rw [lfo p c, ro _ (by omega)]
              exact (hl p (by omega)).2.2.2.2 i hi
      have hF3 : FW 13 (rs τ1 (N o1.2) b2 d) := (FC_rs h1.1).w13
      have stp : ∀ (x : Mm), FC x → FW 13 (rs x (N o1.2) b2 d) := fun x hx => (FC_rs hx).w13
      have c1 := FC_w (p := 15) (f := up1 (mI τ1 15) np (N o1.1)) h1.1
      have c2 := FC_w (p := 16) (f := up1 (mI τ1 16) np (N np)) c1
      have c3 := FC_w (p := 17) (f := up1 (mI τ1 17) np M1) c2
      have c4 := FC_w (p := 18) (f := up1 (mI τ1 18) np M1) c3
      have c5 := FC_w (p := 19) (f := up1 (mI τ1 19) np (N 0)) c4
      refine ⟨τ, b2, ?_, dfin, nfin, ?_⟩
      · rw [fw_wr2 hF3 hn10, Option.bind_some, rs_w (by omega), rs_q (by omega), fw_gR10 (stp _ c1), Option.bind_some, fw_wr3 (stp _ c1) hn10, Option.bind_some, rs_w (by omega), rs_q (by omega)]
        rw [show mI (wA τ1 (13 + 2) (up1 (mI τ1 (13 + 2)) np (N o1.1))) (13 + 3) = mI τ1 16 from rfl]
        rw [fw_gR11 (stp _ c2), Option.bind_some, m1_, fw_wr4 (stp _ c2) hn10, Option.bind_some, rs_w (by omega), rs_q (by omega)]
        rw [show mI (wA (wA τ1 (13 + 2) (up1 (mI τ1 (13 + 2)) np (N o1.1))) (13 + 3) (up1 (mI τ1 16) np (N np))) (13 + 4) = mI τ1 17 from rfl]
        rw [fw_gR12 (stp _ c3), Option.bind_some, fw_wr5 (stp _ c3) hn10, Option.bind_some, rs_w (by omega), rs_q (by omega)]
        rw [show mI (wA (wA (wA τ1 (13 + 2) (up1 (mI τ1 (13 + 2)) np (N o1.1))) (13 + 3) (up1 (mI τ1 16) np (N np))) (13 + 4) (up1 (mI τ1 17) np M1)) (13 + 5) = mI τ1 18 from rfl]
        rw [fw_gR13 (stp _ c4), Option.bind_some, l0_, fw_wr6 (stp _ c4) hn10, Option.bind_some, rs_w (by omega), rs_q (by omega)]
        rw [show mI (wA (wA (wA (wA τ1 (13 + 2) (up1 (mI τ1 (13 + 2)) np (N o1.1))) (13 + 3) (up1 (mI τ1 16) np (N np))) (13 + 4) (up1 (mI τ1 17) np M1)) (13 + 5) (up1 (mI τ1 18) np M1)) (13 + 6) = mI τ1 19 from rfl]
        rw [fw_gR16 (stp _ c5), Option.bind_some, fw_wr9 (stp _ c5) hn10, Option.bind_some, rs_w (by omega), rs_q (by omega)]
        rw [show mI (wA (wA (wA (wA (wA τ1 (13 + 2) (up1 (mI τ1 (13 + 2)) np (N o1.1))) (13 + 3) (up1 (mI τ1 16) np (N np))) (13 + 4) (up1 (mI τ1 17) np M1)) (13 + 5) (up1 (mI τ1 18) np M1)) (13 + 6) (up1 (mI τ1 19) np (N 0))) (13 + 9) = mI τ1 22 from rfl]
        rw [hτ7] at run
        exact run
      · rw [show ix ((rWho A np o0.1 o1.1, o1.2).1 3) = np + 1 from by show ix (rWho A np o0.1 o1.1 3) = np + 1; rw [show rWho A np o0.1 o1.1 3 = N (np + 1) from if_pos rfl, ix_N (by omega)]]
        exact rfin
end
