/-! THE PLAIN LAW, 118: rings that come round -/
set_option maxRecDepth 100000
theorem php (f : Nat → Nat) (n : Nat) (h : ∀ i, i ≤ n → f i < n) : ∃ i j, i < j ∧ j ≤ n ∧ f i = f j := by
  apply Classical.byContradiction
  intro hc
  have nd : ((List.range (n + 1)).map f).Nodup := by
    unfold List.Nodup
    rw [List.pairwise_map]
    refine List.Pairwise.imp_of_mem ?_ List.pairwise_lt_range
    intro a b ha hb hab e
    exact hc ⟨a, b, hab, by have := List.mem_range.mp hb; omega, e⟩
  have := List.Nodup.length_le_of_subset nd (l₂ := List.range n) (fun x hx => by
    obtain ⟨a, ha, rfl⟩ := List.mem_map.mp hx
    exact List.mem_range.mpr (h a (by have := List.mem_range.mp ha; omega)))
  rw [List.length_map, List.length_range, List.length_range] at this
  omega
def cycT (w : Nat → Option Nat) (x : Nat) : Nat → Option Nat → Prop
  | 0, _ => False
  | _ + 1, none => True
  | m + 1, some y => y = x ∨ cycT w x m (w y)
def cycB (w : Nat → Option Nat) (x : Nat) : Nat → Option Nat → Bool
  | 0, _ => false
  | _ + 1, none => false
  | m + 1, some y => if y = x then true else cycB w x m (w y)
theorem ncycT {w : Nat → Option Nat} {x : Nat} : ∀ m y, ¬ cycT w x m (w y) → ∃ g : Nat → Nat, g 0 = y ∧ (∀ i, i < m → w (g i) = some (g (i + 1))) ∧ ∀ i, 1 ≤ i → i ≤ m → g i ≠ x := by
  intro m
  induction m with
  | zero => intro y _; exact ⟨fun _ => y, rfl, fun i hi => by omega, fun i h1 h2 => by omega⟩
  | succ m ih =>
    intro y h
    cases hz : w y with
    | none => rw [hz] at h; exact absurd trivial h
    | some z =>
      rw [hz] at h
      have h1 : z ≠ x := fun e => h (Or.inl e)
      have h2 : ¬ cycT w x m (w z) := fun e => h (Or.inr e)
      obtain ⟨g, g0, g1, g2⟩ := ih z h2
      refine ⟨fun i => match i with | 0 => y | i + 1 => g i, rfl, fun i hi => ?_, fun i h3 h4 => ?_⟩
      · cases i with
        | zero => show w y = some (g 0); rw [hz, g0]
        | succ i => exact g1 i (by omega)
      · cases i with
        | zero => omega
        | succ i =>
          show g i ≠ x
          cases i with
          | zero => rw [g0]; exact h1
          | succ i => exact g2 (i + 1) (by omega) (by omega)
theorem cycT_ok {w : Nat → Option Nat} {n x : Nat} (hw : ∀ y z, w y = some z → z < n) (hi : ∀ y y' z, w y = some z → w y' = some z → y = y') (hx : x < n) : cycT w x n (w x) := by
  apply Classical.byContradiction
  intro h
  obtain ⟨g, g0, g1, g2⟩ := ncycT n x h
  obtain ⟨i, j, h1, h2, h3⟩ := php g n fun i hi => by
    cases i with
    | zero => rw [g0]; exact hx
    | succ i => exact hw _ _ (g1 i (by omega))
  have key : ∀ i j, i < j → j ≤ n → g i = g j → False := by
    intro i
    induction i with
    | zero => intro j h1 h2 h3; exact g2 j (by omega) h2 (by rw [← h3, g0])
    | succ i ih =>
      intro j h1 h2 h3
      have e1 := g1 i (by omega)
      have e2 := g1 (j - 1) (by omega)
      rw [show j - 1 + 1 = j by omega, ← h3] at e2
      exact ih (j - 1) (by omega) (by omega) (hi _ _ _ e1 e2)
  exact key i j h1 h2 h3
theorem cycT_mono {w : Nat → Option Nat} {x : Nat} : ∀ m o, cycT w x m o → cycT w x (m + 1) o := by
  intro m
  induction m with
  | zero => intro o h; exact absurd h id
  | succ m ih =>
    intro o h
    cases o with
    | none => exact trivial
    | some y => exact h.imp id (ih _)
theorem cycT_le {w : Nat → Option Nat} {x m n : Nat} {o : Option Nat} (h : cycT w x m o) (hn : m ≤ n) : cycT w x n o := by
  obtain ⟨d, rfl⟩ : ∃ d, n = m + d := ⟨n - m, by omega⟩
  clear hn
  induction d with
  | zero => exact h
  | succ d ih => exact cycT_mono _ _ ih
/-! the wearer -/
def wr (A : Nat → Int32) (np y : Nat) : Option Nat := aWearer A np (N y)
theorem wr_lt {A : Nat → Int32} {np y p : Nat} (h : wr A np y = some p) : p < np := wearer_lt h
theorem wr_at {A : Nat → Int32} {np y p : Nat} (h : wr A np y = some p) : PA A p 2 = N y := (sr_some np 0 p h).1
theorem wr_lt2 {A : Nat → Int32} {np nh y p : Nat} (hw : WF A np nh) (h : wr A np y = some p) (hy : y < 2147483647) : y < np := by
  have h1 := wr_at h
  have h0 := hw.1.2.1
  rcases (hw.2.1 p (wr_lt h)).1 with h2 | ⟨a, ha, h2⟩
  · rw [h1, N_m1 (by omega)] at h2; exact absurd h2 id
  · rw [h1, N_inj (by omega) (by omega)] at h2; omega
theorem wr_inj {A : Nat → Int32} {np y y' p : Nat} (hy : y < 2147483647) (hy' : y' < 2147483647) (h : wr A np y = some p) (h' : wr A np y' = some p) : y = y' := (N_inj (by omega) (by omega)).mp ((wr_at h).symm.trans (wr_at h'))
theorem wr_iff {A : Nat → Int32} {np nh p f : Nat} (hw : WF A np nh) (hp : p < np) (hf : f < np) : PA A p 2 = N f ↔ wr A np f = some p := by
  have h0 := hw.1.2.1
  constructor
  · intro h
    cases hr : wr A np f with
    | none => exact absurd h ((sr_none np 0).mp hr p (by omega) (by omega))
    | some r =>
      have h1 := wr_at hr
      rw [hw.2.2.2.2.1 r p (wr_lt hr) hp (h1.trans h.symm) (by rw [h1]; intro e; rw [N_m1 (by omega)] at e; exact e)]
  · exact wr_at
theorem wr_cycT {A : Nat → Int32} {np nh x : Nat} (hw : WF A np nh) (hx : x < np) : cycT (wr A np) x 10 (wr A np x) := by
  have hn0 := hw.1.2.1
  have h : cycT (fun y => if y < np then wr A np y else none) x np ((fun y => if y < np then wr A np y else none) x) := by
    refine cycT_ok (fun y z h => ?_) (fun y y' z h h' => ?_) hx
    · by_cases c : y < np
      · simp only [if_pos c] at h; exact wr_lt h
      · simp only [if_neg c] at h; cases h
    · by_cases c : y < np
      · by_cases c' : y' < np
        · simp only [if_pos c] at h; simp only [if_pos c'] at h'
          exact wr_inj (by omega) (by omega) h h'
        · simp only [if_neg c'] at h'; cases h'
      · simp only [if_neg c] at h; cases h
  have same : ∀ m o, (∀ y, o = some y → y < np) → cycT (fun y => if y < np then wr A np y else none) x m o → cycT (wr A np) x m o := by
    intro m
    induction m with
    | zero => intro o _ h; exact h
    | succ m ih =>
      intro o ho h
      cases o with
      | none => exact trivial
      | some y =>
        refine h.imp id fun h => ?_
        simp only [if_pos (ho y rfl)] at h
        exact ih _ (fun z hz => wr_lt hz) h
  simp only [if_pos hx] at h
  exact cycT_le (same np _ (fun z hz => wr_lt hz) h) hn0
/-! the set of a ring -/
theorem rgF_sub {A : Nat → Int32} {np : Nat} (hn0 : np ≤ 10) (n : Nat) : ∀ S o R, S < 1024 → R < 1024 → (∀ j, o = some j → j < 10) → rgF A np n (N S) (oN o) = some (N R) → ∀ j, S.testBit j = true → R.testBit j = true := by
  induction n with
  | zero => intro S o R _ _ _ h; cases h
  | succ n ih =>
    intro S o R hS hR ho h j hj
    rw [rgF] at h
    cases o with
    | none =>
      rw [if_pos (show oN none = M1 from rfl)] at h
      rw [← (N_inj (by omega) (by omega)).mp (Option.some.inj h)]; exact hj
    | some q =>
      have hq := ho q rfl
      rw [if_neg (show ¬ oN (some q) = M1 by show ¬ N q = M1; rw [N_m1 (by omega)]; exact id), show oN (some q) = N q from rfl] at h
      simp (disch := omega) only [tb_N] at h
      by_cases c : S.testBit q = true
      · rw [if_pos c] at h
        rw [← (N_inj (by omega) (by omega)).mp (Option.some.inj h)]; exact hj
      · rw [if_neg c, bt_or hq] at h
        exact ih _ _ R (or_lt hS hq) hR (fun i hi => by have := wearer_lt hi; omega) h j (by rw [Nat.testBit_or, hj, Bool.true_or])
theorem ring_one {A : Nat → Int32} {np v : Nat} (hn0 : np ≤ 10) (hv : v < 10) (h : wr A np v = none ∨ wr A np v = some v) : aRing A np v = N (2 ^ v) := by
  obtain ⟨n, hn⟩ : ∃ n, fu = n + 3 := ⟨99997, rfl⟩
  have h1 : (0 ||| 2 ^ v : Nat) = 2 ^ v := Nat.zero_or _
  have hp : 2 ^ v < 1024 := Nat.pow_lt_pow_right (n := 10) (by omega) hv
  have e : rgF A np (n + 3) (N 0) (N v) = some (N (2 ^ v)) := by
    rw [rgF, if_neg (by rw [N_m1 (by omega)]; exact id)]
    simp (disch := omega) only [tb_N]
    rw [if_neg (by rw [Nat.zero_testBit]; exact Bool.false_ne_true), bt_or hv, h1]
    show rgF A np (n + 2) (N (2 ^ v)) (oN (wr A np v)) = _
    rcases h with h | h
    · rw [h, rgF, if_pos (show oN none = M1 from rfl)]
    · rw [h, rgF, if_neg (show ¬ oN (some v) = M1 by show ¬ N v = M1; rw [N_m1 (by omega)]; exact id), show oN (some v) = N v from rfl]
      simp (disch := omega) only [tb_N]
      rw [if_pos (Nat.testBit_two_pow_self)]
  unfold aRing
  rw [hn, e]; rfl
theorem ring_two {A : Nat → Int32} {np v u : Nat} (hn0 : np ≤ 10) (hv : v < 10) (h : wr A np v = some u) (huv : u ≠ v) : ∃ R, R < 1024 ∧ aRing A np v = N R ∧ R.testBit v = true ∧ R.testBit u = true := by
  obtain ⟨R, h1, h2, h3⟩ := ring_some (A := A) hn0 hv
  obtain ⟨n, hn⟩ : ∃ n, fu = n + 3 := ⟨99997, rfl⟩
  have hu : u < 10 := by have := wr_lt h; omega
  have h0 : (0 ||| 2 ^ v : Nat) = 2 ^ v := Nat.zero_or _
  have hp : 2 ^ v < 1024 := Nat.pow_lt_pow_right (n := 10) (by omega) hv
  refine ⟨R, h1, h3, ?_⟩
  rw [hn, rgF, if_neg (by rw [N_m1 (by omega)]; exact id)] at h2
  simp (disch := omega) only [tb_N] at h2
  rw [if_neg (by rw [Nat.zero_testBit]; exact Bool.false_ne_true), bt_or hv, h0] at h2
  have h2 : rgF A np (n + 2) (N (2 ^ v)) (oN (wr A np v)) = some (N R) := h2
  rw [h, rgF, if_neg (show ¬ oN (some u) = M1 by show ¬ N u = M1; rw [N_m1 (by omega)]; exact id), show oN (some u) = N u from rfl] at h2
  simp (disch := omega) only [tb_N] at h2
  rw [if_neg (by rw [Nat.testBit_two_pow]; simp; omega), bt_or hu] at h2
  have key := rgF_sub hn0 (n + 1) _ (wr A np u) R (or_lt hp hu) h1 (fun i hi => by have := wr_lt hi; omega) h2
  refine ⟨key v (by rw [Nat.testBit_or, Nat.testBit_two_pow_self, Bool.true_or]), key u (by rw [Nat.testBit_or, Nat.testBit_two_pow_self, Bool.or_true])⟩
theorem pc_pos : ∀ s, s < 1024 → ∀ i, i < 10 → s.testBit i = true → 1 ≤ pc s := by decide +kernel
theorem pc_p2 : ∀ v, v < 10 → pc (2 ^ v) = 1 := by decide +kernel
theorem pc_2 {s u v : Nat} (hs : s < 1024) (hu : u < 10) (hv : v < 10) (huv : u ≠ v) (h1 : s.testBit v = true) (h2 : s.testBit u = true) : 2 ≤ pc s := by
  have e1 := pc_rm s hs v hv h1
  have e2 := pc_pos (s &&& (1023 - 2 ^ v)) (Nat.lt_of_le_of_lt Nat.and_le_left hs) u hu (by rw [tb_rm hv hu, h2, decide_eq_false huv]; rfl)
  omega
theorem lb_low : ∀ s, s < 1024 → ∀ v, v < 10 → s.testBit v = true → (lb s = v ↔ s &&& (2 ^ v - 1) = 0) := by decide +kernel
