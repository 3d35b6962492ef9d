/-! THE PLAIN LAW, 82: the act of a person in an hour -/
set_option maxRecDepth 100000
def aDid (A : Nat → Int32) (nh : Nat) (ls : List (Bool × Option Cn)) (p : Nat) : Bool := if PA A p 2 = M1 then (if PA A p 3 = M1 then false else lnE (aE A nh p) false ls) else if PA A p 3 = M1 then (if aHookOf A nh M1 = none then false else lnE (aE A nh p) true ls) else false
def aStep (A : Nat → Int32) (nh : Nat) (ls : List (Bool × Option Cn)) (p : Nat) : Nat → Int32 := if aDid A nh ls p then (if PA A p 2 = M1 then aGets A p (ix (PA A p 3)) else aHands A p ((aHookOf A nh M1).getD 0)) else A
def aAll (nh : Nat) (ls : List (Bool × Option Cn)) : Nat → Nat → (Nat → Int32) → Nat → Int32
  | 0, _, A => A
  | k + 1, i, A => aAll nh ls k (i + 1) (aStep A nh ls i)
def aNum (nh : Nat) (ls : List (Bool × Option Cn)) : Nat → Nat → (Nat → Int32) → Nat
  | 0, _, _ => 0
  | k + 1, i, A => (if aDid A nh ls i then 1 else 0) + aNum nh ls k (i + 1) (aStep A nh ls i)
theorem aNum_le {nh : Nat} {ls : List (Bool × Option Cn)} : ∀ k i A, aNum nh ls k i A ≤ k := by
  intro k
  induction k with
  | zero => intro i A; exact Nat.le_refl 0
  | succ k ih =>
    intro i A
    have := ih (i + 1) (aStep A nh ls i)
    show (if aDid A nh ls i then 1 else 0) + _ ≤ _
    split <;> omega
/-- the rows of A that an hour leaves -/
def R0 (A B : Nat → Int32) : Prop := ∀ j, j = 1 ∨ j = 2 ∨ 584 ≤ j → B j = A j
theorem R0.tr {A B C : Nat → Int32} (h : R0 A B) (g : R0 B C) : R0 A C := fun j hj => (g j hj).trans (h j hj)
theorem hookOf_ok {A : Nat → Int32} {nh h : Nat} {y : Int32} (e : aHookOf A nh y = some h) : h < nh ∧ HA A h = y := by
  obtain ⟨a, b, c, _⟩ := sr_some _ _ _ e
  exact ⟨by omega, a⟩
section
variable {b np nh p : Nat} {A B : Nat → Int32} {σ τ : Mm} {v : Option Nat} {ls : List (Bool × Option Cn)}
theorem aStep_ok (hA : WF A np nh) (hp : p < np) : WF (aStep A nh ls p) np nh ∧ R0 A (aStep A nh ls p) := by
  have hn0 := hA.1.2.1
  have hk0 := hA.1.2.2.2.2.1
  obtain ⟨h2, h3, -⟩ := hA.2.1 p hp
  unfold aStep
  by_cases hd : aDid A nh ls p = true
  · rw [if_pos hd]
    unfold aDid at hd
    by_cases c2 : PA A p 2 = M1
    · rw [if_pos c2] at hd ⊢
      rcases h3 with c3 | ⟨t, ht, c3⟩
      · rw [if_pos c3] at hd; cases hd
      · rw [c3, ix_N (by omega)]
        exact ⟨WF_gets hA hp ht c2, aGets_o (by omega) (by omega)⟩
    · rw [if_neg c2] at hd ⊢
      by_cases c3 : PA A p 3 = M1
      · rw [if_pos c3] at hd
        cases e : aHookOf A nh M1 with
        | none => rw [e, if_pos rfl] at hd; cases hd
        | some h =>
          obtain ⟨e1, e2⟩ := hookOf_ok e
          exact (show WF (aHands A p h) np nh ∧ R0 A (aHands A p h) from ⟨WF_hands hA hp e1 e2, aHands_o (by omega) (by omega)⟩)
      · rw [if_neg c3] at hd; cases hd
  · rw [if_neg hd]
    exact ⟨hA, fun j _ => rfl⟩
theorem aAll_ok {np : Nat} : ∀ k i A, i + k = np → WF A np nh → WF (aAll nh ls k i A) np nh ∧ R0 A (aAll nh ls k i A) := by
  intro k
  induction k with
  | zero => intro i A _ hA; exact ⟨hA, fun j _ => rfl⟩
  | succ k ih =>
    intro i A hi hA
    obtain ⟨h1, h2⟩ := aStep_ok (ls := ls) hA (show i < np by omega)
    obtain ⟨h3, h4⟩ := ih (i + 1) _ (by omega) h1
    exact ⟨h3, h2.tr h4⟩
/-- the component's side of an hour -/
def CS (b np nh : Nat) (v : Option Nat) (ls : List (Bool × Option Cn)) (A : Nat → Int32) (σ : Mm) : Prop := (b = 1 ∨ b = 50) ∧ FC σ ∧ KS σ ∧ FW b σ ∧ RW b A np σ ∧ WF A np nh ∧ mR σ b 19 = v ∧ LWs v A ls σ
def OH (b : Nat) (σ τ : Mm) : Prop := mS τ = mS σ ∧ mL τ = mL σ ∧ mR τ = mR σ ∧ mN τ = mN σ ∧ ∀ q, q ≠ 39 → q < b ∨ b + 12 ≤ q → mI τ q = mI σ q
theorem OH.rf : OH b σ σ := ⟨rfl, rfl, rfl, rfl, fun _ _ _ => rfl⟩
theorem OH.tr {υ : Mm} (h : OH b σ τ) (g : OH b τ υ) : OH b σ υ := ⟨g.1.trans h.1, g.2.1.trans h.2.1, g.2.2.1.trans h.2.2.1, g.2.2.2.1.trans h.2.2.2.1, fun q h1 h2 => (g.2.2.2.2 q h1 h2).trans (h.2.2.2.2 q h1 h2)⟩
theorem OW.oh (h : OW b σ τ) : OH b σ τ := ⟨h.1, h.2.1, h.2.2.1, h.2.2.2.1, fun q _ h2 => h.2.2.2.2 q h2⟩
theorem OH.w39 {f : Nat → Int32} : OH b σ (wA σ 39 f) := ⟨rfl, rfl, rfl, rfl, fun q h1 _ => if_neg h1⟩
theorem CS.go (h : CS b np nh v ls A σ) (g : OH b σ τ) (hr : RW b B np τ) (hB : WF B np nh) (h0 : R0 A B) : CS b np nh v ls B τ := by
  have hBG : BIG = 1000000 := rfl
  obtain ⟨hb, hC, hK, hW, -, -, hv, hl⟩ := h
  obtain ⟨g1, g2, g3, g4, g5⟩ := g
  refine ⟨hb, FC_eq g1 g2 g3 hC, ⟨fun q hq => ?_, fun q k hq h => by rw [g3]; exact hK.2 q k hq h⟩, FW_eq g1 g2 g3 hW, hr, hB, by rw [g3]; exact hv, hl.at h0 fun q hq => ⟨by rw [g1], by rw [g2], g5 q (by omega) (by omega), by rw [g3]⟩⟩
  rw [g1, g2, g5 q (by omega) (by omega)]
  exact hK.1 q hq
theorem CS.w39 {f : Nat → Int32} (h : CS b np nh v ls A σ) : CS b np nh v ls A (wA σ 39 f) := by
  obtain ⟨hb, hC, hK, hW, hr, hA, hv, hl⟩ := id h
  exact h.go OH.w39 (RW_eq (fun k hk => if_neg (by omega)) hr) hA fun _ _ => rfl
theorem rZ_bN (x : Bool) : rZ (bN x) σ = some (bN x, σ) := by
  cases x <;> rfl
theorem C_acts (h : CS b np nh v ls A σ) (hp : p < np) : ∃ τ, FX1_acts 0 (some b) (N p) σ = some (bN (aDid A nh ls p), τ) ∧ CS b np nh v ls (aStep A nh ls p) τ ∧ OH b σ τ := by
  have hBG : BIG = 1000000 := rfl
  obtain ⟨hb, hC, hK, hW, hr, hA, hv, hl⟩ := id h
  have hn0 := hA.1.2.1
  have hk := hA.1.2.2.1
  have hk0 := hA.1.2.2.2.2.1
  obtain ⟨h2, h3, -⟩ := hA.2.1 p hp
  obtain ⟨hS, hS0⟩ := aStep_ok (ls := ls) hA hp
  unfold FX1_acts
  rw [fw_rv hW, Option.bind_some, W_free hW hr hk hk0, Option.bind_some]
  dsimp only
  rw [fw_gR10 hW, Option.bind_some, fw_rd3 hW (by omega), Option.bind_some, rwW hr (by omega), m1_]
  unfold jn
  dsimp only
  by_cases c2 : PA A p 2 = M1
  · rw [if_pos c2]
    rw [fw_gR10 hW, Option.bind_some, fw_rd3 hW (by omega), Option.bind_some, rwW hr (by omega), if_pos c2, fw_gR11 hW, Option.bind_some, fw_rd4 hW (by omega), Option.bind_some, rwT hr (by omega)]
    rcases h3 with c3 | ⟨t, ht, c3⟩
    · have hd : aDid A nh ls p = false := by unfold aDid; rw [if_pos c2, if_pos c3]
      rw [if_pos c3, hd]
      refine ⟨σ, rfl, ?_, OH.rf⟩
      unfold aStep
      rw [hd]
      exact h
    · have c3' : ¬ PA A p 3 = M1 := by rw [c3, N_m1 (by omega)]; exact id
      have hd : aDid A nh ls p = lnE (aE A nh p) false ls := by unfold aDid; rw [if_pos c2, if_neg c3']
      obtain ⟨f, hf⟩ := C_says (hand := false) (x3 := 0) rfl (by omega) hC hK hW hr hA hp hv hl
      have hck : ∀ o : Option (Int32 × Mm), ck 1 0 σ o = o := fun o => fc_ck0 hC
      rw [if_neg c3', hck, hf, Option.bind_some, ← hd]
      dsimp only
      have hS' : aStep A nh ls p = if aDid A nh ls p then aGets A p t else A := by
        unfold aStep
        rw [if_pos c2, c3, ix_N (by omega)]
      cases hdd : aDid A nh ls p with
      | false =>
        rw [if_pos (show bN false = (0 : Int32) from rfl)]
        refine ⟨_, rfl, ?_, OH.w39⟩
        rw [hS', hdd]
        exact h.w39
      | true =>
        have h' := h.w39 (f := f)
        obtain ⟨-, hC', hK', hW', hr', hA', hv', hl'⟩ := id h'
        obtain ⟨τ, t1, t2, t3⟩ := W_fetches (by omega) hn0 (by omega) (by omega) c3 hW' hK' hr'
        rw [if_neg (show ¬ bN true = (0 : Int32) by decide), fw_rv hW', Option.bind_some, t1, Option.bind_some]
        refine ⟨τ, rfl, ?_, OH.w39.tr t3.oh⟩
        rw [hS', hdd, if_pos rfl] at hS hS0 ⊢
        exact h'.go t3.oh t2 hS hS0
  · rw [if_neg c2, fw_gR11 hW, Option.bind_some, fw_rd4 hW (by omega), Option.bind_some, rwT hr (by omega)]
    have no : aDid A nh ls p = false → ∃ τ, some (bN false, σ) = some (bN (aDid A nh ls p), τ) ∧ CS b np nh v ls (aStep A nh ls p) τ ∧ OH b σ τ := fun hd => by
      rw [hd]
      refine ⟨σ, rfl, ?_, OH.rf⟩
      unfold aStep
      rw [hd]
      exact h
    by_cases c3 : PA A p 3 = M1
    · rw [if_pos c3]
      cases e : aHookOf A nh M1 with
      | none =>
        rw [if_pos (show oN none = M1 from rfl), fw_gR10 hW, Option.bind_some, fw_rd3 hW (by omega), Option.bind_some, rwW hr (by omega), if_neg c2]
        exact no (by unfold aDid; rw [if_neg c2, if_pos c3, e]; rfl)
      | some t =>
        obtain ⟨ht, e2⟩ := hookOf_ok e
        rw [if_neg (show ¬ oN (some t) = M1 from by show ¬ N t = M1; rw [N_m1 (by omega)]; exact id)]
        have hd : aDid A nh ls p = lnE (aE A nh p) true ls := by unfold aDid; rw [if_neg c2, if_pos c3, e, if_neg (by intro z; cases z)]
        have hck : ∀ o : Option (Int32 × Mm), ck 1 0 σ o = o := fun o => fc_ck0 hC
        obtain ⟨f, hf⟩ := C_says (hand := true) (x3 := 1) rfl (by omega) hC hK hW hr hA hp hv hl
        rw [hck, hf, Option.bind_some, ← hd]
        dsimp only
        have hS' : aStep A nh ls p = if aDid A nh ls p then aHands A p t else A := by
          unfold aStep
          rw [if_neg c2, e]
          rfl
        have h' := h.w39 (f := f)
        obtain ⟨-, hC', hK', hW', hr', hA', hv', hl'⟩ := id h'
        cases hdd : aDid A nh ls p with
        | false =>
          rw [if_pos (show bN false = (0 : Int32) from rfl), fw_gR10 hW', Option.bind_some, fw_rd3 hW' (by omega), Option.bind_some, rwW hr' (by omega), if_neg c2]
          refine ⟨_, rfl, ?_, OH.w39⟩
          rw [hS', hdd]
          exact h'
        | true =>
          obtain ⟨τ, t1, t2, t3⟩ := W_hands (p := p) (h := t) (by omega) hn0 (by omega) (by omega) hW' hK' hr'
          rw [if_neg (show ¬ bN true = (0 : Int32) by decide), fw_rv hW', Option.bind_some]
          show ∃ τ', ((FX2_hands b (N p) (N t) (wA σ 39 f)).bind fun σ47 => rZ 1 σ47) = _ ∧ _
          rw [t1, Option.bind_some]
          refine ⟨τ, rfl, ?_, OH.w39.tr t3.oh⟩
          rw [hS', hdd, if_pos rfl] at hS hS0 ⊢
          exact h'.go t3.oh t2 hS hS0
    · rw [if_neg c3, fw_gR10 hW, Option.bind_some, fw_rd3 hW (by omega), Option.bind_some, rwW hr (by omega), if_neg c2]
      exact no (by unfold aDid; rw [if_neg c2, if_neg c3])
/-- the persons, one after another -/
theorem C_hour_4 : ∀ (k i n c : Nat) (A : Nat → Int32) (σ : Mm) (K : Int32 → Mm → Option (Int32 × Mm)), i + k = np → k < n → c + k < 1000000 → CS b np nh v ls A σ → ∃ τ, FX1_anHour_4 0 (some b) n (N c) (N i) σ K = K (N (c + aNum nh ls k i A)) τ ∧ CS b np nh v ls (aAll nh ls k i A) τ ∧ OH b σ τ := by
  intro k
  induction k with
  | zero =>
    intro i n c A σ K hi hn hc h
    obtain ⟨n, rfl⟩ : ∃ m, n = m + 1 := ⟨n - 1, by omega⟩
    obtain ⟨hb, hC, hK, hW, hr, hA, hv, hl⟩ := id h
    have hn0 := hA.1.2.1
    refine ⟨σ, ?_, h, OH.rf⟩
    rw [FX1_anHour_4, fw_gI hW, Option.bind_some, rw1 hr, hA.1.1, if_pos (by rw [N_le (by omega) (by omega)]; omega)]
    rfl
  | succ k ih =>
    intro i n c A σ K hi hn hc h
    obtain ⟨n, rfl⟩ : ∃ m, n = m + 1 := ⟨n - 1, by omega⟩
    obtain ⟨hb, hC, hK, hW, hr, hA, hv, hl⟩ := id h
    have hn0 := hA.1.2.1
    have hck : ∀ o : Option (Int32 × Mm), ck 1 0 σ o = o := fun o => fc_ck0 hC
    obtain ⟨τ, t1, t2, t3⟩ := C_acts h (show i < np by omega)
    obtain ⟨υ, u1, u2, u3⟩ := ih (i + 1) n (c + if aDid A nh ls i then 1 else 0) _ τ K (by omega) (by omega) (by split <;> omega) t2
    refine ⟨υ, ?_, u2, t3.tr u3⟩
    rw [FX1_anHour_4, fw_gI hW, Option.bind_some, rw1 hr, hA.1.1, if_neg (by rw [N_le (by omega) (by omega)]; omega), hck, t1, Option.bind_some]
    unfold jn
    dsimp only
    have e : aNum nh ls (k + 1) i A = (if aDid A nh ls i then 1 else 0) + aNum nh ls k (i + 1) (aStep A nh ls i) := rfl
    rw [e, ← Nat.add_assoc, ← u1, l1_, N_add]
    cases aDid A nh ls i with
    | true => rw [if_neg (show ¬ bN true = (0 : Int32) by decide), N_add]; rfl
    | false => rw [if_pos (show bN false = (0 : Int32) from rfl), l0_, N_add]; rfl
end
