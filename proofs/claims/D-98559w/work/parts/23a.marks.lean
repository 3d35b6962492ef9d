/-! THE PLAIN LAW, 104: the least marks that tell all faces apart -/
set_option maxRecDepth 100000
def uIn (A : Nat → Int32) (y : Int32) (p : Nat) : Nat → Nat → Bool
  | 0, _ => true
  | k + 1, j => if PA A p 0 &&& y = PA A j 0 &&& y then false else uIn A y p k (j + 1)
def uOut (A : Nat → Int32) (y : Int32) : Nat → Nat → Bool
  | 0, _ => true
  | k + 1, i => if uIn A y i i 0 then uOut A y k (i + 1) else false
theorem xor_and (a b m : Int32) : ((a ^^^ b) &&& m = 0) = (a &&& m = b &&& m) := by
  have e : ((a ^^^ b) &&& m).toBitVec = (a &&& m).toBitVec ^^^ (b &&& m).toBitVec := by
    show (a.toBitVec ^^^ b.toBitVec) &&& m.toBitVec = (a.toBitVec &&& m.toBitVec) ^^^ (b.toBitVec &&& m.toBitVec)
    apply BitVec.eq_of_getLsbD_eq
    intro i hi
    rw [BitVec.getLsbD_and, BitVec.getLsbD_xor, BitVec.getLsbD_xor, BitVec.getLsbD_and, BitVec.getLsbD_and]
    cases a.toBitVec.getLsbD i <;> cases b.toBitVec.getLsbD i <;> cases m.toBitVec.getLsbD i <;> rfl
  apply propext
  constructor
  · intro h
    apply Int32.toBitVec_inj.mp
    rw [h] at e
    have e2 : (a &&& m).toBitVec ^^^ (b &&& m).toBitVec = 0#32 := e.symm
    exact BitVec.xor_eq_zero_iff.mp e2
  · intro h
    apply Int32.toBitVec_inj.mp
    rw [e, h, BitVec.xor_self]
    rfl
def dnM (U : Nat → Bool) : Nat → Nat → Nat
  | 0, b => b
  | k + 1, b => if pc b < pc k then dnM U k b else if U k then dnM U k k else dnM U k b
def upM (U : Nat → Bool) : Nat → Nat → Option Nat → Option Nat
  | 0, _, o => o
  | k + 1, i, none => if U i then upM U k (i + 1) (some i) else upM U k (i + 1) none
  | k + 1, i, some b => if pc b ≤ pc i then upM U k (i + 1) (some b) else if U i then upM U k (i + 1) (some i) else upM U k (i + 1) (some b)
def lx (a b : Nat) : Prop := pc a < pc b ∨ (pc a = pc b ∧ a ≤ b)
theorem dnM_ok {U : Nat → Bool} {T : Nat} : ∀ k b, U b = true → b < T → k ≤ T → (∀ m, k ≤ m → m < T → U m = true → lx b m) → U (dnM U k b) = true ∧ dnM U k b < T ∧ ∀ m, m < T → U m = true → lx (dnM U k b) m := by
  intro k
  induction k with
  | zero => intro b h1 h2 _ h3; exact ⟨h1, h2, fun m hm hu => h3 m (Nat.zero_le _) hm hu⟩
  | succ k ih =>
    intro b h1 h2 hk h3
    rw [dnM]
    by_cases c : pc b < pc k
    · rw [if_pos c]
      refine ih b h1 h2 (by omega) fun m m1 m2 m3 => ?_
      by_cases e : m = k
      · rw [e]; exact Or.inl c
      · exact h3 m (by omega) m2 m3
    · rw [if_neg c]
      by_cases cu : U k = true
      · rw [if_pos cu]
        refine ih k cu (by omega) (by omega) fun m m1 m2 m3 => ?_
        by_cases e : m = k
        · rw [e]; exact Or.inr ⟨rfl, Nat.le_refl _⟩
        · have := h3 m (by omega) m2 m3
          unfold lx at this ⊢
          omega
      · rw [if_neg cu]
        refine ih b h1 h2 (by omega) fun m m1 m2 m3 => ?_
        by_cases e : m = k
        · rw [e] at m3; exact absurd m3 cu
        · exact h3 m (by omega) m2 m3
theorem upM_ok {U : Nat → Bool} {T : Nat} : ∀ k i (o : Option Nat), i + k = T → (match o with | none => ∀ m, m < i → U m = false | some b => U b = true ∧ b < i ∧ ∀ m, m < i → U m = true → lx b m) → (match upM U k i o with | none => ∀ m, m < T → U m = false | some b => U b = true ∧ b < T ∧ ∀ m, m < T → U m = true → lx b m) := by
  intro k
  induction k with
  | zero =>
    intro i o hi h
    have : i = T := by omega
    subst this
    exact h
  | succ k ih =>
    intro i o hi h
    cases o with
    | none =>
      rw [upM]
      by_cases cu : U i = true
      · rw [if_pos cu]
        refine ih (i + 1) (some i) (by omega) ⟨cu, by omega, fun m m1 m2 => ?_⟩
        by_cases e : m = i
        · rw [e]; exact Or.inr ⟨rfl, Nat.le_refl _⟩
        · have := h m (by omega)
          rw [this] at m2; cases m2
      · rw [if_neg cu]
        refine ih (i + 1) none (by omega) fun m m1 => ?_
        by_cases e : m = i
        · rw [e]
          cases h : U i with
          | false => rfl
          | true => exact absurd h cu
        · exact h m (by omega)
    | some b =>
      obtain ⟨h1, h2, h3⟩ := h
      rw [upM]
      by_cases c : pc b ≤ pc i
      · rw [if_pos c]
        refine ih (i + 1) (some b) (by omega) ⟨h1, by omega, fun m m1 m2 => ?_⟩
        by_cases e : m = i
        · rw [e]; unfold lx; omega
        · exact h3 m (by omega) m2
      · rw [if_neg c]
        by_cases cu : U i = true
        · rw [if_pos cu]
          refine ih (i + 1) (some i) (by omega) ⟨cu, by omega, fun m m1 m2 => ?_⟩
          by_cases e : m = i
          · rw [e]; exact Or.inr ⟨rfl, Nat.le_refl _⟩
          · have := h3 m (by omega) m2
            unfold lx at this ⊢
            omega
        · rw [if_neg cu]
          refine ih (i + 1) (some b) (by omega) ⟨h1, by omega, fun m m1 m2 => ?_⟩
          by_cases e : m = i
          · rw [e] at m2; exact absurd m2 cu
          · exact h3 m (by omega) m2
/-- up and down find the same -/
theorem dn_up {U : Nat → Bool} {T : Nat} (hT : 0 < T) (h : U (T - 1) = true) : upM U T 0 none = some (dnM U T (T - 1)) := by
  obtain ⟨d1, d2, d3⟩ := dnM_ok (U := U) (T := T) T (T - 1) h (by omega) (Nat.le_refl _) (fun m m1 m2 => by omega)
  have u := upM_ok (U := U) (T := T) T 0 none (by omega) (fun m hm => by omega)
  cases e : upM U T 0 none with
  | none =>
    rw [e] at u
    have := u (T - 1) (by omega)
    rw [h] at this; cases this
  | some b =>
    rw [e] at u
    obtain ⟨u1, u2, u3⟩ := u
    have a1 := u3 _ d2 d1
    have a2 := d3 b u2 u1
    unfold lx at a1 a2
    rw [show b = dnM U T (T - 1) by omega]
theorem up_none {U : Nat → Bool} {T : Nat} (h : ∀ m, m < T → U m = false) : upM U T 0 none = none := by
  have u := upM_ok (U := U) (T := T) T 0 none (by omega) (fun m hm => by omega)
  cases e : upM U T 0 none with
  | none => rfl
  | some b =>
    rw [e] at u
    have := h b u.2.1
    rw [u.1] at this; cases this
