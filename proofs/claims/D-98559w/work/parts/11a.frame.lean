/-! THE PLAIN LAW, 12: both sides; what a question leaves as it was -/
set_option maxRecDepth 100000
def Co (np nh : Nat) (σ : Mm) : Prop := FC σ ∧ FM σ ∧ RW 1 (mI σ 63) np σ ∧ WF (mI σ 63) np nh
section
variable {np nh : Nat} {σ : Mm}
theorem Co.c (h : Co np nh σ) : FC σ := h.1
theorem Co.m (h : Co np nh σ) : FM σ := h.2.1
theorem Co.r (h : Co np nh σ) : RW 1 (mI σ 63) np σ := h.2.2.1
theorem Co.w (h : Co np nh σ) : WF (mI σ 63) np nh := h.2.2.2
theorem Co.n (h : Co np nh σ) : mI σ 63 3 = N np := h.w.1.1
theorem Co.n0 (h : Co np nh σ) : np ≤ 10 := h.w.1.2.1
theorem Co.k (h : Co np nh σ) : mI σ 63 4 = N nh := h.w.1.2.2.1
theorem Co.k0 (h : Co np nh σ) : nh ≤ 12 := h.w.1.2.2.2.2.1
end
/-- places that a question leaves as they were -/
def KPl (p : Nat) : Prop := p < 13 ∨ (25 ≤ p ∧ p < 37) ∨ p = 38 ∨ p = 40 ∨ p = 63 ∨ p = 64 ∨ p = 66 ∨ p = 67 ∨ 76 ≤ p
/-- the model's flags are flags -/
def B62 (σ : Mm) : Prop := (∃ b, mI σ 62 15 = bN b) ∧ (∃ b, mI σ 62 16 = bN b) ∧ (∃ b, mI σ 62 17 = bN b) ∧ ∃ b, mI σ 62 18 = bN b
theorem B62_eq {σ σ' : Mm} (h : mI σ' 62 15 = mI σ 62 15 ∧ mI σ' 62 16 = mI σ 62 16 ∧ mI σ' 62 17 = mI σ 62 17 ∧ mI σ' 62 18 = mI σ 62 18) (hb : B62 σ) : B62 σ' := by
  unfold B62; rw [h.1, h.2.1, h.2.2.1, h.2.2.2]; exact hb
def Kp (σ σ' : Mm) : Prop := mS σ' = mS σ ∧ mL σ' = mL σ ∧ mR σ' = mR σ ∧ mN σ' = mN σ ∧ (∀ p, KPl p → mI σ' p = mI σ p) ∧ (mI σ' 37 1 = mI σ 37 1 ∧ mI σ' 37 5 = mI σ 37 5) ∧ mI σ' 62 3 = mI σ 62 3 ∧ mI σ' 62 6 = mI σ 62 6 ∧ mI σ' 62 8 = mI σ 62 8 ∧ mI σ' 62 12 = mI σ 62 12 ∧ (B62 σ → B62 σ')
theorem Kp.rf {σ : Mm} : Kp σ σ := ⟨rfl, rfl, rfl, rfl, fun _ _ => rfl, ⟨rfl, rfl⟩, rfl, rfl, rfl, rfl, id⟩
theorem Kp.trans {a b c : Mm} (h : Kp a b) (g : Kp b c) : Kp a c :=
  ⟨g.1.trans h.1, g.2.1.trans h.2.1, g.2.2.1.trans h.2.2.1, g.2.2.2.1.trans h.2.2.2.1, fun p hp => (g.2.2.2.2.1 p hp).trans (h.2.2.2.2.1 p hp), ⟨g.2.2.2.2.2.1.1.trans h.2.2.2.2.2.1.1, g.2.2.2.2.2.1.2.trans h.2.2.2.2.2.1.2⟩, g.2.2.2.2.2.2.1.trans h.2.2.2.2.2.2.1, g.2.2.2.2.2.2.2.1.trans h.2.2.2.2.2.2.2.1, g.2.2.2.2.2.2.2.2.1.trans h.2.2.2.2.2.2.2.2.1, g.2.2.2.2.2.2.2.2.2.1.trans h.2.2.2.2.2.2.2.2.2.1, fun z => g.2.2.2.2.2.2.2.2.2.2 (h.2.2.2.2.2.2.2.2.2.2 z)⟩
theorem Kp_wA {σ : Mm} {p : Nat} {f : Nat → Int32} (hp : (13 ≤ p ∧ p < 25) ∨ p = 39 ∨ (41 ≤ p ∧ p < 62) ∨ p = 65 ∨ (68 ≤ p ∧ p < 76)) : Kp σ (wA σ p f) := by
  have h : ∀ q, q ≠ p → mI (wA σ p f) q = mI σ q := fun q hq => if_neg hq
  refine ⟨rfl, rfl, rfl, rfl, fun q hq => h q ?_, ⟨?_, ?_⟩, ?_, ?_, ?_, ?_, B62_eq ⟨?_, ?_, ?_, ?_⟩⟩
  · unfold KPl at hq; omega
  all_goals rw [h _ (by omega)]
theorem Kp_w62 {σ : Mm} {k : Nat} {x : Int32} (hk : k ≠ 3 ∧ k ≠ 6 ∧ k ≠ 8 ∧ k ≠ 12 ∧ (k < 15 ∨ 18 < k)) : Kp σ (wA σ 62 (up1 (mI σ 62) k x)) := by
  have h : ∀ q, q ≠ 62 → mI (wA σ 62 (up1 (mI σ 62) k x)) q = mI σ q := fun q hq => if_neg hq
  have g : ∀ j, j ≠ k → mI (wA σ 62 (up1 (mI σ 62) k x)) 62 j = mI σ 62 j := fun j hj => if_neg hj
  refine ⟨rfl, rfl, rfl, rfl, fun q hq => h q ?_, ⟨?_, ?_⟩, g _ (by omega), g _ (by omega), g _ (by omega), g _ (by omega), B62_eq ⟨g _ (by omega), g _ (by omega), g _ (by omega), g _ (by omega)⟩⟩
  · unfold KPl at hq; omega
  all_goals rw [h _ (by omega)]
theorem Kp_w37 {σ : Mm} {k : Nat} {x : Int32} (hk : k ≠ 1 ∧ k ≠ 5) : Kp σ (wA σ 37 (up1 (mI σ 37) k x)) := by
  have h : ∀ q, q ≠ 37 → mI (wA σ 37 (up1 (mI σ 37) k x)) q = mI σ q := fun q hq => if_neg hq
  have g : ∀ j, j ≠ k → mI (wA σ 37 (up1 (mI σ 37) k x)) 37 j = mI σ 37 j := fun j hj => if_neg hj
  refine ⟨rfl, rfl, rfl, rfl, fun q hq => h q ?_, ⟨g _ (by omega), g _ (by omega)⟩, ?_, ?_, ?_, ?_, B62_eq ⟨?_, ?_, ?_, ?_⟩⟩
  · unfold KPl at hq; omega
  all_goals rw [h _ (by omega)]
theorem FM_eq {σ σ' : Mm} (h1 : mS σ' = mS σ) (h2 : mL σ' = mL σ) (h3 : mR σ' = mR σ) (h : FM σ) : FM σ' := by unfold FM; rw [h1, h2, h3]; exact h
theorem FW_eq {b : Nat} {σ σ' : Mm} (h1 : mS σ' = mS σ) (h2 : mL σ' = mL σ) (h3 : mR σ' = mR σ) (h : FW b σ) : FW b σ' := by unfold FW; rw [h1, h2, h3]; exact h
theorem FC_eq {σ σ' : Mm} (h1 : mS σ' = mS σ) (h2 : mL σ' = mL σ) (h3 : mR σ' = mR σ) (h : FC σ) : FC σ' := by unfold FC FW; rw [h1, h2, h3]; exact h
theorem RW_eq {b np : Nat} {A : Nat → Int32} {σ σ' : Mm} (h : ∀ k, k < 12 → mI σ' (b + k) = mI σ (b + k)) (hr : RW b A np σ) : RW b A np σ' := by
  have h0 : mI σ' b = mI σ b := h 0 (by omega)
  unfold RW
  rw [h0, h 1 (by omega), h 2 (by omega), h 3 (by omega), h 4 (by omega), h 5 (by omega), h 6 (by omega), h 7 (by omega), h 8 (by omega), h 9 (by omega), h 10 (by omega), h 11 (by omega)]
  exact hr
theorem Co_kp {np nh : Nat} {σ σ' : Mm} (h : Kp σ σ') (hc : Co np nh σ) : Co np nh σ' := by
  have e : mI σ' 63 = mI σ 63 := h.2.2.2.2.1 63 (by unfold KPl; omega)
  unfold Co
  rw [e]
  exact ⟨FC_eq h.1 h.2.1 h.2.2.1 hc.1, FM_eq h.1 h.2.1 h.2.2.1 hc.2.1, RW_eq (fun k hk => h.2.2.2.2.1 _ (by unfold KPl; omega)) hc.2.2.1, hc.2.2.2⟩
def thr_ (σ : Mm) (k : Nat) : Mm := wA σ 62 (up1 (mI σ 62) 0 (N k))
theorem thr_w (σ : Mm) (k : Nat) : wA σ 62 (up1 (mI σ 62) 0 (N k)) = thr_ σ k := rfl
theorem thr_k {σ : Mm} {k : Nat} : Kp σ (thr_ σ k) := Kp_w62 (by omega)
theorem thr_0 {σ : Mm} {k : Nat} : mI (thr_ σ k) 62 0 = N k := rfl
theorem thr_63 {σ : Mm} {k : Nat} : mI (thr_ σ k) 63 = mI σ 63 := rfl
theorem thr_75 {σ : Mm} {k : Nat} : mI (thr_ σ k) 75 = mI σ 75 := rfl
theorem dt_rt {α β : Type} (a : α) (f : α → DX β) (g : Nat → Mm → DX β) : dt (rt a) f g = f a := by
  simp only [dt, rt, Option.bind_some, pay_0]
theorem dt_thw {α β : Type} (k : Nat) (σ : Mm) (f : α → DX β) (g : Nat → Mm → DX β) : dt (thw k σ) f g = pay 1 6 (g k σ) := rfl
theorem dt_pay {α β : Type} (c z : Nat) (m : DX α) (f : α → DX β) (g : Nat → Mm → DX β) : dt (pay c z m) f g = pay c z (dt m f g) := by
  cases m with
  | none => rfl
  | some o =>
    obtain ⟨o, c', z'⟩ := o
    cases o with
    | inl a => show pay (c + c') (z + z') (f a) = pay c z (pay c' z' (f a)); rw [pay_pay]
    | inr e => show pay (c + c') (z + z') (g e.1 e.2) = pay c z (pay c' z' (g e.1 e.2)); rw [pay_pay]
theorem pay_rt {α : Type} (c z : Nat) (a : α) : pay c z (rt a) = some (.inl a, c, z) := rfl
theorem rt_s {α : Type} (a : α) : rt a = some (.inl a, 0, 0) := rfl
/-- a question that may throw, through the law's own method (its answer in out[0]), and the model's -/
def QW (W : Mm → DX (Int32 × Mm)) (Mo : Mm → Option (Int32 × Mm)) (σ : Mm) : Prop := ∃ k σ1 b σ2 c z, W σ = some (.inl (k, σ1), c, z) ∧ c ≤ 20 ∧ z ≤ 900 ∧ Mo σ1 = some (b, σ2) ∧ mI σ2 62 0 = k ∧ (k = N 0 → mI σ2 75 0 = b) ∧ Kp σ σ2
/-- one that doesn't -/
def QN (W Mo : Mm → Option (Int32 × Mm)) (σ : Mm) : Prop := ∃ b σ1 σ2, W σ = some (b, σ1) ∧ Mo σ1 = some (b, σ2) ∧ Kp σ σ2
def o75 (σ : Mm) (v : Int32) : Mm := wA σ 75 (up1 (mI σ 75) 0 v)
theorem o75_w (σ : Mm) (v : Int32) : wA σ 75 (up1 (mI σ 75) 0 v) = o75 σ v := rfl
theorem o75_k {σ : Mm} {v : Int32} : Kp σ (o75 σ v) := Kp_wA (by omega)
theorem o75_63 {σ : Mm} {v : Int32} : mI (o75 σ v) 63 = mI σ 63 := rfl
theorem o75_0 {σ : Mm} {v : Int32} : mI (o75 σ v) 75 0 = v := rfl
/-- it answers v on both sides, by memories that are kept -/
theorem QW_ok {W : Mm → DX (Int32 × Mm)} {Mo : Mm → Option (Int32 × Mm)} {σ σ1 σ2 : Mm} {v : Int32} {c z : Nat} (h1 : W σ = some (.inl (N 0, o75 σ1 v), c, z)) (hc : c ≤ 20) (hz : z ≤ 900) (h2 : Mo (o75 σ1 v) = some (v, σ2)) (h3 : mI σ2 62 0 = N 0) (h4 : mI σ2 75 0 = v) (k1 : Kp σ σ1) (k2 : Kp (o75 σ1 v) σ2) : QW W Mo σ :=
  ⟨N 0, _, v, σ2, c, z, h1, hc, hz, h2, h3, fun _ => h4, k1.trans (o75_k.trans k2)⟩
theorem QW_th {W : Mm → DX (Int32 × Mm)} {Mo : Mm → Option (Int32 × Mm)} {σ σ1 σ2 : Mm} {b : Int32} {k c z : Nat} (hk : 0 < k ∧ k < 9) (h1 : W σ = some (.inl (N k, σ1), c, z)) (hc : c ≤ 20) (hz : z ≤ 900) (h2 : Mo σ1 = some (b, σ2)) (h3 : mI σ2 62 0 = N k) (k1 : Kp σ σ1) (k2 : Kp σ1 σ2) : QW W Mo σ :=
  ⟨N k, _, b, σ2, c, z, h1, hc, hz, h2, h3, fun e => by rw [N_inj (by omega) (by omega)] at e; omega, k1.trans k2⟩
theorem FM_w {σ : Mm} {p : Nat} {f : Nat → Int32} (h : FM σ) : FM (wA σ p f) := h
theorem FM_t {σ : Mm} {k : Nat} (h : FM σ) : FM (thr_ σ k) := h
theorem FM_o {σ : Mm} {v : Int32} (h : FM σ) : FM (o75 σ v) := h
theorem FC_w {σ : Mm} {p : Nat} {f : Nat → Int32} (h : FC σ) : FC (wA σ p f) := h
theorem FC_t {σ : Mm} {k : Nat} (h : FC σ) : FC (thr_ σ k) := h
theorem FC_o {σ : Mm} {v : Int32} (h : FC σ) : FC (o75 σ v) := h
theorem FW_w {b : Nat} {σ : Mm} {p : Nat} {f : Nat → Int32} (h : FW b σ) : FW b (wA σ p f) := h
