/-! THE PLAIN LAW, 131: how many ways -/
set_option maxRecDepth 100000
def smL (f : Nat → Nat) : List Nat → Nat
  | [] => 0
  | v :: L => f v + smL f L
theorem smL_cg {f g : Nat → Nat} : ∀ L : List Nat, (∀ v, v ∈ L → f v = g v) → smL f L = smL g L := by
  intro L
  induction L with
  | nil => intro _; rfl
  | cons v L ih =>
    intro h
    rw [smL, smL, h v List.mem_cons_self, ih fun u hu => h u (List.mem_cons_of_mem _ hu)]
theorem smL_zero {f : Nat → Nat} : ∀ L : List Nat, (∀ v, v ∈ L → f v = 0) → smL f L = 0 := by
  intro L
  induction L with
  | nil => intro _; rfl
  | cons v L ih =>
    intro h
    rw [smL, h v List.mem_cons_self, ih fun u hu => h u (List.mem_cons_of_mem _ hu)]
theorem smL_add {f g : Nat → Nat} : ∀ L : List Nat, smL (fun v => f v + g v) L = smL f L + smL g L := by
  intro L
  induction L with
  | nil => rfl
  | cons v L ih => rw [smL, smL, smL, ih]; omega
theorem smL_filter {f : Nat → Nat} {p : Nat → Bool} : ∀ L : List Nat, smL f (L.filter p) = smL (fun v => if p v then f v else 0) L := by
  intro L
  induction L with
  | nil => rfl
  | cons v L ih =>
    rw [List.filter_cons, smL]
    by_cases c : p v = true
    · rw [if_pos c, if_pos c, smL, ih]
    · rw [if_neg c, if_neg c, ih, Nat.zero_add]
theorem smL_comm {f : Nat → Nat → Nat} {M : List Nat} : ∀ L : List Nat, smL (fun a => smL (f a) M) L = smL (fun b => smL (fun a => f a b) L) M := by
  intro L
  induction L with
  | nil => exact (smL_zero _ fun _ _ => rfl).symm
  | cons v L ih =>
    rw [smL, ih, ← smL_add]
    rfl
theorem smL_le {f : Nat → Nat} {B : Nat} : ∀ L : List Nat, (∀ v, v ∈ L → f v ≤ B) → smL f L ≤ L.length * B := by
  intro L
  induction L with
  | nil => intro _; exact Nat.zero_le _
  | cons v L ih =>
    intro h
    rw [smL, List.length_cons, Nat.succ_mul]
    have := h v List.mem_cons_self
    have := ih fun u hu => h u (List.mem_cons_of_mem _ hu)
    omega
theorem smL_mono {f g : Nat → Nat} : ∀ L : List Nat, (∀ v, v ∈ L → f v ≤ g v) → smL f L ≤ smL g L := by
  intro L
  induction L with
  | nil => intro _; exact Nat.le_refl _
  | cons v L ih =>
    intro h
    rw [smL, smL]
    have := h v List.mem_cons_self
    have := ih fun u hu => h u (List.mem_cons_of_mem _ hu)
    omega
theorem smL_ge {f : Nat → Nat} {v : Nat} : ∀ L : List Nat, v ∈ L → f v ≤ smL f L := by
  intro L
  induction L with
  | nil => intro h; cases h
  | cons u L ih =>
    intro h
    rw [smL]
    rcases List.mem_cons.mp h with e | e
    · rw [e]; omega
    · have := ih e; omega
/-- the ways of m persons from the k-th on: by the first, by the last -/
def bk (P : Nat → Nat → Bool) : Nat → Nat → List Nat → Nat
  | 0, _, _ => 1
  | m + 1, k, C => smL (fun c => bk P m (k + 1) (C.filter fun u => !decide (u = c))) (C.filter (P k))
def fk (P : Nat → Nat → Bool) (k : Nat) : Nat → List Nat → Nat
  | 0, _ => 1
  | m + 1, C => smL (fun c => fk P k m (C.filter fun u => !decide (u = c))) (C.filter (P (k + m)))
theorem rm_comm {C : List Nat} {a b : Nat} : (C.filter fun u => !decide (u = a)).filter (fun u => !decide (u = b)) = (C.filter fun u => !decide (u = b)).filter (fun u => !decide (u = a)) := by
  rw [List.filter_filter, List.filter_filter]
  apply filter_cg
  intro u _
  exact Bool.and_comm _ _
theorem bk_last {P : Nat → Nat → Bool} : ∀ m k C, bk P (m + 1) k C = smL (fun c => bk P m k (C.filter fun u => !decide (u = c))) (C.filter (P (k + m))) := by
  intro m
  induction m with
  | zero => intro k C; rfl
  | succ m ih =>
    intro k C
    have e1 : bk P (m + 2) k C = smL (fun a => smL (fun b => if P k a then (if !decide (b = a) then (if P (k + 1 + m) b then bk P m (k + 1) ((C.filter fun u => !decide (u = a)).filter fun u => !decide (u = b)) else 0) else 0) else 0) C) C := by
      rw [bk, smL_filter]
      refine smL_cg _ fun a _ => ?_
      by_cases c : P k a = true
      · rw [if_pos c, ih, smL_filter, smL_filter]
        refine smL_cg _ fun b _ => ?_
        rw [if_pos c]
      · rw [if_neg c]
        exact (smL_zero _ fun b _ => if_neg c).symm
    have e2 : smL (fun c => bk P (m + 1) k (C.filter fun u => !decide (u = c))) (C.filter (P (k + (m + 1)))) = smL (fun b => smL (fun a => if P k a then (if !decide (b = a) then (if P (k + 1 + m) b then bk P m (k + 1) ((C.filter fun u => !decide (u = a)).filter fun u => !decide (u = b)) else 0) else 0) else 0) C) C := by
      rw [smL_filter]
      refine smL_cg _ fun b _ => ?_
      rw [show k + (m + 1) = k + 1 + m by omega]
      by_cases c : P (k + 1 + m) b = true
      · rw [if_pos c, bk, smL_filter, smL_filter]
        refine smL_cg _ fun a _ => ?_
        rw [rm_comm (a := b) (b := a), if_pos c]
        by_cases d : a = b
        · subst d
          rw [decide_eq_true rfl, Bool.not_true, if_neg Bool.false_ne_true, if_neg Bool.false_ne_true]
          split <;> rfl
        · rw [decide_eq_false d, decide_eq_false (fun e => d e.symm), Bool.not_false, if_pos rfl, if_pos rfl]
      · rw [if_neg c]
        refine (smL_zero _ fun a _ => ?_).symm
        rw [if_neg c]
        split
        · split <;> rfl
        · rfl
    rw [e1, e2]
    exact smL_comm _
theorem bk_fk {P : Nat → Nat → Bool} {k : Nat} : ∀ m C, bk P m k C = fk P k m C := by
  intro m
  induction m with
  | zero => intro C; rfl
  | succ m ih =>
    intro C
    rw [bk_last, fk]
    exact smL_cg _ fun c _ => ih _
def fct : Nat → Nat
  | 0 => 1
  | m + 1 => (m + 1) * fct m
theorem fct_10 : ∀ m, m ≤ 10 → fct m ≤ 3628800 := by decide
theorem bk_le {P : Nat → Nat → Bool} : ∀ m k C, C.Nodup → C.length = m → bk P m k C ≤ fct m := by
  intro m
  induction m with
  | zero => intro k C _ _; exact Nat.le_refl _
  | succ m ih =>
    intro k C hd hl
    rw [bk, fct]
    have h1 := smL_le (f := fun c => bk P m (k + 1) (C.filter fun u => !decide (u = c))) (B := fct m) (C.filter (P k)) fun c hc => ih (k + 1) _ (hd.filter _) (by have := filt_len hd (List.mem_filter.mp hc).1; omega)
    have h2 : (C.filter (P k)).length ≤ m + 1 := by rw [← hl]; exact List.length_filter_le _ _
    exact Nat.le_trans h1 (Nat.mul_le_mul_right _ h2)
theorem bk_mono {P Q : Nat → Nat → Bool} (h : ∀ i j, P i j = true → Q i j = true) : ∀ m k C, bk P m k C ≤ bk Q m k C := by
  intro m
  induction m with
  | zero => intro k C; exact Nat.le_refl _
  | succ m ih =>
    intro k C
    rw [bk, bk, smL_filter, smL_filter]
    refine smL_mono _ fun c _ => ?_
    by_cases d : P k c = true
    · rw [if_pos d, if_pos (h k c d)]; exact ih _ _
    · rw [if_neg d]; exact Nat.zero_le _
theorem bk_cg {P Q : Nat → Nat → Bool} : ∀ m k C, (∀ i c, k ≤ i → i < k + m → c ∈ C → P i c = Q i c) → bk P m k C = bk Q m k C := by
  intro m
  induction m with
  | zero => intro k C _; rfl
  | succ m ih =>
    intro k C h
    rw [bk, bk, filter_cg C fun c hc => h k c (by omega) (by omega) hc]
    exact smL_cg _ fun c _ => ih _ _ fun i d h1 h2 h3 => h i d (by omega) (by omega) (List.mem_filter.mp h3).1
theorem bk_none {P : Nat → Nat → Bool} {r : Nat} : ∀ m k C, k ≤ r → r < k + m → (∀ c, c ∈ C → P r c = false) → bk P m k C = 0 := by
  intro m
  induction m with
  | zero => intro k C _ _ _; omega
  | succ m ih =>
    intro k C h1 h2 h3
    rw [bk]
    by_cases e : k = r
    · subst e
      rw [List.filter_eq_nil_iff.mpr fun c hc => by rw [h3 c hc]; exact Bool.false_ne_true]
      rfl
    · exact smL_zero _ fun c _ => ih _ _ (by omega) (by omega) fun d hd => h3 d (List.mem_filter.mp hd).1
theorem bk_pos {P : Nat → Nat → Bool} : ∀ m k C, C.Nodup → C.length = m → (∀ i c, k ≤ i → i < k + m → c ∈ C → P i c = true) → 1 ≤ bk P m k C := by
  intro m
  induction m with
  | zero => intro k C _ _ _; exact Nat.le_refl _
  | succ m ih =>
    intro k C hd hl h
    cases C with
    | nil => cases hl
    | cons c C =>
      have hc : c ∈ (c :: C).filter (P k) := List.mem_filter.mpr ⟨List.mem_cons_self, h k c (by omega) (by omega) List.mem_cons_self⟩
      have h1 := ih (k + 1) ((c :: C).filter fun u => !decide (u = c)) (hd.filter _) (by have := filt_len hd (List.mem_cons_self (a := c) (l := C)); omega) fun i d h1 h2 h3 => h i d (by omega) (by omega) (List.mem_filter.mp h3).1
      rw [bk]
      exact Nat.le_trans h1 (smL_ge (f := fun c' => bk P m (k + 1) ((c :: C).filter fun u => !decide (u = c'))) _ hc)
