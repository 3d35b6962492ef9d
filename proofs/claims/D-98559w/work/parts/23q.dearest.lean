/-! THE PLAIN LAW, 120: the dearest of a set -/
set_option maxRecDepth 100000
def dIx (A : Nat → Int32) (D : Nat → List Nat) (p v : Nat) : Nat := (D p).idxOf (ix (PA A v 2))
def pt1 (A : Nat → Int32) (D : Nat → List Nat) (p v : Nat) : Option Nat → Option Nat
  | none => some v
  | some b => if dIx A D p v < dIx A D p b then some v else some b
def ptO (A : Nat → Int32) (D : Nat → List Nat) (p s : Nat) : Nat → Nat → Option Nat → Option Nat
  | 0, _, o => o
  | k + 1, v, o => ptO A D p s k (v + 1) (if s.testBit v then pt1 A D p v o else o)
def dst (A : Nat → Int32) (D : Nat → List Nat) (np s p : Nat) : Nat := (ptO A D p s np 0 none).getD 0
def isD (A : Nat → Int32) (D : Nat → List Nat) (np s p q : Nat) : Prop := q < np ∧ s.testBit q = true ∧ ∀ r, r < np → s.testBit r = true → dIx A D p q ≤ dIx A D p r
theorem ptO_ok {A : Nat → Int32} {D : Nat → List Nat} {p s : Nat} : ∀ k v o, (∀ b, o = some b → isD A D v s p b) → (o = none → ∀ r, r < v → s.testBit r = false) → (∀ b, ptO A D p s k v o = some b → isD A D (v + k) s p b) ∧ (ptO A D p s k v o = none → ∀ r, r < v + k → s.testBit r = false) := by
  intro k
  induction k with
  | zero => intro v o h1 h2; exact ⟨h1, h2⟩
  | succ k ih =>
    intro v o h1 h2
    rw [ptO, show v + (k + 1) = v + 1 + k by omega]
    apply ih
    · intro b hb
      by_cases c : s.testBit v = true
      · rw [if_pos c] at hb
        cases o with
        | none =>
          have hb : some v = some b := hb
          cases hb
          refine ⟨by omega, c, fun r hr ht => ?_⟩
          by_cases e : r = v
          · rw [e]; omega
          · rw [h2 rfl r (by omega)] at ht; cases ht
        | some b' =>
          obtain ⟨g1, g2, g3⟩ := h1 b' rfl
          have hb : (if dIx A D p v < dIx A D p b' then some v else some b') = some b := hb
          by_cases d : dIx A D p v < dIx A D p b'
          · rw [if_pos d] at hb
            cases hb
            refine ⟨by omega, c, fun r hr ht => ?_⟩
            by_cases e : r = v
            · rw [e]; omega
            · have := g3 r (by omega) ht; omega
          · rw [if_neg d] at hb
            cases hb
            refine ⟨by omega, g2, fun r hr ht => ?_⟩
            by_cases e : r = v
            · rw [e]; omega
            · exact g3 r (by omega) ht
      · rw [if_neg c] at hb
        obtain ⟨g1, g2, g3⟩ := h1 b hb
        refine ⟨by omega, g2, fun r hr ht => ?_⟩
        by_cases e : r = v
        · rw [e] at ht; exact absurd ht c
        · exact g3 r (by omega) ht
    · intro hn r hr
      by_cases c : s.testBit v = true
      · rw [if_pos c] at hn
        cases o with
        | none =>
          have hn : some v = none := hn
          cases hn
        | some b' =>
          have hn : (if dIx A D p v < dIx A D p b' then some v else some b') = none := hn
          split at hn <;> cases hn
      · rw [if_neg c] at hn
        by_cases e : r = v
        · rw [e]; exact Bool.eq_false_iff.mpr c
        · exact h2 hn r (by omega)
theorem dst_ok {A : Nat → Int32} {D : Nat → List Nat} {np p s : Nat} (h : ∃ r, r < np ∧ s.testBit r = true) : isD A D np s p (dst A D np s p) ∧ ptO A D p s np 0 none = some (dst A D np s p) := by
  obtain ⟨h1, h2⟩ := ptO_ok (A := A) (D := D) (p := p) (s := s) np 0 none (fun b hb => by cases hb) (fun _ r hr => by omega)
  rw [Nat.zero_add] at h1 h2
  unfold dst
  cases e : ptO A D p s np 0 none with
  | none =>
    obtain ⟨r, hr, ht⟩ := h
    rw [h2 e r hr] at ht; cases ht
  | some b => exact ⟨h1 b e, rfl⟩
section
variable {np nh : Nat} {σ : Mm} {D : Nat → List Nat} {A W : Nat → Int32}
theorem M_points_5 {p s : Nat} (h : FM σ) (hA : mI σ 63 = A) (hnn : A 3 = N np) (hn0 : np ≤ 10) (hD : ∀ p, p < np → WL np A W p (D p)) (hs : s < 1024) (hw : hWS A np s) (hp : p < np) (Kx : Int32 → Mm → Option (Int32 × Mm)) : ∀ (k v n : Nat) (o : Option Nat), v + k = np → k < n → (∀ b, o = some b → b < v ∧ s.testBit b = true) → FX8_pointsTo_5 62 (N p) (N s) n (oN o) (N v) σ Kx = Kx (oN (ptO A D p s k v o)) σ := by
  intro k
  induction k with
  | zero =>
    intro v n o hv hn ho
    obtain ⟨n, rfl⟩ : ∃ m, n = m + 1 := ⟨n - 1, by omega⟩
    rw [FX8_pointsTo_5, fm_gR1 h, Option.bind_some, l3_, fm_rd63 h (by omega), Option.bind_some, hA, hnn, if_pos (by rw [N_le (by omega) (by omega)]; omega), ptO]
  | succ k ih =>
    intro v n o hv hn ho
    obtain ⟨n, rfl⟩ : ∃ m, n = m + 1 := ⟨n - 1, by omega⟩
    have ihv := fun (c : s.testBit v = true) => ih (v + 1) n (some v) (by omega) (by omega) (fun b hb => by cases hb; exact ⟨by omega, c⟩)
    have iho := ih (v + 1) n o (by omega) (by omega) (fun b hb => by have := ho b hb; exact ⟨by omega, this.2⟩)
    rw [FX8_pointsTo_5, fm_gR1 h, Option.bind_some, l3_, fm_rd63 h (by omega), Option.bind_some, hA, hnn, if_neg (by rw [N_le (by omega) (by omega)]; omega), m1_, l1_, N_add, M_isOf, Option.bind_some, ptO]
    unfold jn
    try dsimp only
    simp (disch := omega) only [tb_N]
    by_cases c : s.testBit v = true
    · rw [if_pos c, if_pos c, if_neg (show ¬ N 1 = 0 by decide)]
      cases o with
      | none => rw [if_pos (show oN none = M1 from rfl)]; exact ihv c
      | some b =>
        obtain ⟨hb, hbt⟩ := ho b rfl
        obtain ⟨f, hf, ef⟩ := hw v (by omega) c
        obtain ⟨g, hg, eg⟩ := hw b (by omega) hbt
        have a1 := WL_at (hD p hp) hf
        have a2 := WL_at (hD p hp) hg
        rw [if_neg (show ¬ oN (some b) = M1 by show ¬ N b = M1; rw [N_m1 (by omega)]; exact id), fm_ck h, l2_, M_of h (by omega) (by omega), Option.bind_some, hA, ef]
        try dsimp only
        rw [fm_ck h, M_dear h hn0 hp (by rw [hA]; exact hD p hp) (WL_lt (hD p hp)) hf, Option.bind_some]
        try dsimp only
        rw [fm_ck h, show oN (some b) = N b from rfl, M_of h (by omega) (by omega), Option.bind_some, hA, eg]
        try dsimp only
        rw [fm_ck h, M_dear h hn0 hp (by rw [hA]; exact hD p hp) (WL_lt (hD p hp)) hg, Option.bind_some]
        try dsimp only
        have e1 : dIx A D p v = (D p).idxOf f := by unfold dIx; rw [ef, ix_N (by omega)]
        have e2 : dIx A D p b = (D p).idxOf g := by unfold dIx; rw [eg, ix_N (by omega)]
        rw [show pt1 A D p v (some b) = if dIx A D p v < dIx A D p b then some v else some b from rfl, e1, e2]
        by_cases d : (D p).idxOf f < (D p).idxOf g
        · rw [if_pos d, if_neg (by rw [N_le (by omega) (by omega)]; omega)]; exact ihv c
        · rw [if_neg d, if_pos (by rw [N_le (by omega) (by omega)]; omega)]; exact iho
    · rw [if_neg c, if_neg c, if_pos (show N 0 = 0 from rfl), iho]
theorem M_points {p s : Nat} (h : FM σ) (hA : mI σ 63 = A) (hnn : A 3 = N np) (hn0 : np ≤ 10) (hD : ∀ p, p < np → WL np A W p (D p)) (hs : s < 1024) (hw : hWS A np s) (hp : p < np) (hne : ∃ r, r < np ∧ s.testBit r = true) : FX8_pointsTo 62 (N p) (N s) σ = some (N (dst A D np s p), σ) := by
  have f := M_points_5 h hA hnn hn0 hD hs hw hp (fun (x41 : Int32) (σ : Mm) => some (x41, σ)) np 0 fu none (by omega) (by unfold fu; omega) (fun b hb => by cases hb)
  unfold FX8_pointsTo
  refine f.trans ?_
  rw [(dst_ok hne).2]; rfl
theorem idxOf_at {D : List Nat} {k : Nat} (hk : k < D.length) (hD : D.Nodup) : D.idxOf (D.getD k 0) = k := by
  rw [List.getD_eq_getElem?_getD, List.getElem?_eq_getElem hk, Option.getD_some]
  exact hD.idxOf_getElem k hk
theorem C_dear_2 {p s q : Nat} (K : Co np nh σ) (hD : ∀ p, p < np → WL np (mI σ 63) (mI σ (1 + 8)) p (D p)) (hs : s < 1024) (h41 : mI σ 41 2 = N s) (hw : hWS (mI σ 63) np s) (hp : p < np) (hq : isD (mI σ 63) D np s p q) (K1 : Mm → Option (Int32 × Mm)) (K2 : Int32 → Mm → Option (Int32 × Mm)) : ∀ (d k n : Nat), k + d = dIx (mI σ 63) D p q → d < n → FX5_dearest_2 41 (N p) n (N k) σ K1 K2 = K2 (N q) σ := by
  have hC := K.c; have hr := K.r; have hn0 := K.n0
  obtain ⟨q1, q2, q3⟩ := hq
  obtain ⟨f, hf, ef⟩ := hw q q1 q2
  have hwl := hD p hp
  obtain ⟨a1, a2, a3⟩ := WL_at hwl hf
  have e0 : dIx (mI σ 63) D p q = (D p).idxOf f := by unfold dIx; rw [ef, ix_N (by omega)]
  rw [e0]
  intro d
  induction d with
  | zero =>
    intro k n hk hn
    obtain ⟨n, rfl⟩ : ∃ m, n = m + 1 := ⟨n - 1, by omega⟩
    have ek : k = (D p).idxOf f := by omega
    rw [FX5_dearest_2, fc_gR41_3 hC, Option.bind_some, fc_gR0_0 hC, Option.bind_some, fw_gI hC.1, Option.bind_some, rw1 hr, K.n, if_neg (by rw [N_le (by omega) (by omega)]; omega), Option.bind_some, fc_gR0_0 hC, Option.bind_some, Option.bind_some, fc_gR0_0 hC, Option.bind_some, fw_gR15 hC.1, Option.bind_some, l10_, N_mul, N_add, fw_rd8 hC.1 (by omega), Option.bind_some, hwl.2.2.2.1 k (by omega), ek, a2, fw_rv hC.1, Option.bind_some, W_wearer hC.1 hr K.n hn0, Option.bind_some]
    try dsimp only
    rw [show aWearer (mI σ 63) np (N f) = some q from (wr_iff K.w q1 hf).mp ef, if_neg (show ¬ oN (some q) = -1 by rw [m1_]; show ¬ N q = M1; rw [N_m1 (by omega)]; exact id), fc_gI41 hC, Option.bind_some, h41, C_has, Option.bind_some]
    try dsimp only
    rw [show oN (some q) = N q from rfl]
    simp (disch := omega) only [tb_N]
    rw [if_pos q2, if_neg (show ¬ N 1 = 0 by decide)]
  | succ d ih =>
    intro k n hk hn
    obtain ⟨n, rfl⟩ : ∃ m, n = m + 1 := ⟨n - 1, by omega⟩
    have ih' := ih (k + 1) n (by omega) (by omega)
    have hlen : (D p).length = np := hwl.1
    have hx : (D p).getD k 0 < np := by
      rw [List.getD_eq_getElem?_getD, List.getElem?_eq_getElem (show k < (D p).length by omega), Option.getD_some]
      exact WL_lt hwl _ (List.getElem_mem (show k < (D p).length by omega))
    rw [FX5_dearest_2, fc_gR41_3 hC, Option.bind_some, fc_gR0_0 hC, Option.bind_some, fw_gI hC.1, Option.bind_some, rw1 hr, K.n, if_neg (by rw [N_le (by omega) (by omega)]; omega), Option.bind_some, fc_gR0_0 hC, Option.bind_some, Option.bind_some, fc_gR0_0 hC, Option.bind_some, fw_gR15 hC.1, Option.bind_some, l10_, N_mul, N_add, fw_rd8 hC.1 (by omega), Option.bind_some, hwl.2.2.2.1 k (by omega), fw_rv hC.1, Option.bind_some, W_wearer hC.1 hr K.n hn0, Option.bind_some, m1_, l1_, N_add]
    try dsimp only
    cases hr' : aWearer (mI σ 63) np (N ((D p).getD k 0)) with
    | none => rw [if_pos (show oN none = M1 from rfl), ih']
    | some r =>
      have hrn : r < np := wearer_lt hr'
      rw [if_neg (show ¬ oN (some r) = M1 by show ¬ N r = M1; rw [N_m1 (by omega)]; exact id), fc_gI41 hC, Option.bind_some, h41, C_has, Option.bind_some]
      try dsimp only
      have er := (wr_iff K.w hrn hx).mpr hr'
      have nb : ¬ s.testBit r = true := fun ht => by
        have h3 := q3 r hrn ht
        rw [e0] at h3
        unfold dIx at h3
        rw [er, ix_N (by omega), idxOf_at (by omega) hwl.2.2.1] at h3
        omega
      rw [show oN (some r) = N r from rfl]
      simp (disch := omega) only [tb_N]
      rw [if_neg nb, if_pos (show N 0 = 0 from rfl), ih']
theorem C_dearest {p s : Nat} (K : Co np nh σ) (hD : ∀ p, p < np → WL np (mI σ 63) (mI σ (1 + 8)) p (D p)) (hs : s < 1024) (h41 : mI σ 41 2 = N s) (hw : hWS (mI σ 63) np s) (hp : p < np) (hne : ∃ r, r < np ∧ s.testBit r = true) : FX5_dearest 41 (N p) σ = some (N (dst (mI σ 63) D np s p), σ) := by
  have hn0 := K.n0
  obtain ⟨q1, q2, q3⟩ := (dst_ok (A := mI σ 63) (D := D) (p := p) hne).1
  obtain ⟨f, hf, ef⟩ := hw _ q1 q2
  have a1 := WL_at (hD p hp) hf
  have e0 : dIx (mI σ 63) D p (dst (mI σ 63) D np s p) = (D p).idxOf f := by unfold dIx; rw [ef, ix_N (by omega)]
  unfold FX5_dearest
  rw [l0_, C_dear_2 K hD hs h41 hw hp ⟨q1, q2, q3⟩ _ _ _ 0 fu (Nat.zero_add _) (by unfold fu; omega)]
end
