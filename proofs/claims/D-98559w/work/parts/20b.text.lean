/-! THE PLAIN LAW, 51: how far what is read goes -/
set_option maxRecDepth 100000
def Bd {α : Type} (e k : Nat) (r : PR α) : Prop := match r with
  | .error p => p ≤ e
  | .ok (_, k') => k < k' ∧ k' ≤ e
section
variable {T : Nat → Nat} {e : Nat}
theorem isW_len {k : Nat} {w : List Nat} (h : isW T e k w = true) : wd T e k = k + w.length := by
  have := (isW_iff.mp h).1
  have h2 := wd_ge (T := T) (e := e) (k := k)
  omega
theorem isW_gt {k : Nat} {w : List Nat} (hw : 0 < w.length) (h : isW T e k w = true) : k < wd T e k := by
  rw [isW_len h]; omega
theorem isW_e {k : Nat} {w : List Nat} (hk : k ≤ e) (hw : 0 < w.length) (h : isW T e k w = true) : k < e := by
  have := isW_gt hw h
  have := wd_le (T := T) (e := e) hk
  omega
theorem numP_bd {lo n k : Nat} (hk : k ≤ e) : Bd e k (numP T e lo n k) := by
  have h1 := sk_le (T := T) hk
  have h2 := sk_ge (T := T) (e := e) (k := k)
  have h3 := dg_ge (T := T) (e := e) (k := sk T e k)
  have h4 := dg_le (T := T) (e := e) (k := sk T e k) h1
  unfold numP
  dsimp only
  split
  · exact h1
  · next h => exact ⟨by omega, h4⟩
theorem factP_gt {k j : Nat} (h : factP T e k = some j) : k < wd T e k ∧ j < 6 := by
  unfold factP at h
  by_cases h1 : isW T e k wWho = true
  · rw [if_pos h1] at h; cases h; exact ⟨isW_gt (by decide) h1, by omega⟩
  rw [if_neg h1] at h
  by_cases h1 : isW T e k wHour = true
  · rw [if_pos h1] at h; cases h; exact ⟨isW_gt (by decide) h1, by omega⟩
  rw [if_neg h1] at h
  by_cases h1 : isW T e k wHook = true
  · rw [if_pos h1] at h; cases h; exact ⟨isW_gt (by decide) h1, by omega⟩
  rw [if_neg h1] at h
  by_cases h1 : isW T e k wMarks = true
  · rw [if_pos h1] at h; cases h; exact ⟨isW_gt (by decide) h1, by omega⟩
  rw [if_neg h1] at h
  by_cases h1 : isW T e k wHung = true
  · rw [if_pos h1] at h; cases h; exact ⟨isW_gt (by decide) h1, by omega⟩
  rw [if_neg h1] at h
  by_cases h1 : isW T e k wFree = true
  · rw [if_pos h1] at h; cases h; exact ⟨isW_gt (by decide) h1, by omega⟩
  rw [if_neg h1] at h
  cases h
end
/-- it may stay where it is -/
def Bw {α : Type} (e k : Nat) (r : PR α) : Prop := match r with
  | .error p => p ≤ e
  | .ok o => k ≤ o.2 ∧ o.2 ≤ e
theorem Bd_pb {α β : Type} {e k j : Nat} {r : PR α} {f : α → Nat → PR β} (hj : j ≤ k) (h : Bd e k r) (hf : ∀ v k', k < k' → k' ≤ e → Bw e k' (f v k')) : Bd e j (pb r f) := by
  cases r with
  | error p => exact h
  | ok o =>
    have g := hf o.1 o.2 h.1 h.2
    have h1 : k < o.2 := h.1
    show Bd e j (f o.1 o.2)
    revert g
    cases f o.1 o.2 with
    | error p => exact id
    | ok u => intro g; exact ⟨by have : o.2 ≤ u.2 := g.1; omega, g.2⟩
theorem Bd_w {α : Type} {e k : Nat} {r : PR α} (h : Bd e k r) : Bw e k r := by
  cases r with
  | error p => exact h
  | ok o => exact ⟨Nat.le_of_lt h.1, h.2⟩
theorem Bd_le {α : Type} {e k j : Nat} {r : PR α} (hj : j ≤ k) (h : Bd e k r) : Bd e j r := by
  cases r with
  | error p => exact h
  | ok o => exact ⟨Nat.lt_of_le_of_lt hj h.1, h.2⟩
theorem Bw_d {α : Type} {e k j : Nat} {r : PR α} (hj : j < k) (h : Bw e k r) : Bd e j r := by
  cases r with
  | error p => exact h
  | ok o => exact ⟨Nat.lt_of_lt_of_le hj h.1, h.2⟩
theorem Bw_le {α : Type} {e k j : Nat} {r : PR α} (hj : j ≤ k) (h : Bw e k r) : Bw e j r := by
  cases r with
  | error p => exact h
  | ok o => exact ⟨Nat.le_trans hj h.1, h.2⟩
section
variable {T : Nat → Nat} {e : Nat}
theorem partP_bd {k : Nat} (hk : k ≤ e) : Bd e k (partP T e k) := by
  have h1 := sk_le (T := T) hk
  have h2 := sk_ge (T := T) (e := e) (k := k)
  unfold partP
  split
  · exact Bd_pb (Nat.le_refl k) (numP_bd hk) fun v k' a b => ⟨Nat.le_refl _, b⟩
  · cases hf : factP T e (sk T e k) with
    | none => exact h1
    | some j => exact ⟨by have := (factP_gt hf).1; show k < wd T e (sk T e k); omega, wd_le h1⟩
theorem sumL_bd (hT : TX T e) : ∀ (n : Nat) (f : Sm) (k : Nat), k ≤ e → Bw e k (sumL T e n f k)
  | 0, f, k, hk => hk
  | n+1, f, k, hk => by
    have h1 := sk_le (T := T) hk
    have h2 := sk_ge (T := T) (e := e) (k := k)
    rw [sumL]
    split
    · next hc =>
      have h3 := hT.lt (k := sk T e k) (by omega)
      exact Bd_w (Bd_pb (Nat.le_trans h2 (Nat.le_succ _)) (partP_bd h3) fun v k' a b => sumL_bd hT n _ k' b)
    · exact ⟨h2, h1⟩
theorem sumP_bd (hT : TX T e) {k : Nat} (hk : k ≤ e) : Bd e k (sumP T e k) := Bd_pb (Nat.le_refl k) (partP_bd hk) fun v k' _ b => sumL_bd hT _ _ k' b
theorem lessP_bd (hT : TX T e) {f : Sm} {k : Nat} (hk : k ≤ e) : Bd e k (lessP T e f k) := by
  have h1 := sk_le (T := T) hk
  have h2 := sk_ge (T := T) (e := e) (k := k)
  unfold lessP
  split
  · next hc =>
    have h3 := hT.lt (k := sk T e k) (by omega)
    exact Bd_pb (Nat.le_trans h2 (Nat.le_succ _)) (sumP_bd hT h3) fun v k' _ b => ⟨Nat.le_refl _, b⟩
  · split
    · next hc =>
      have h3 := hT.lt (k := sk T e k) (by omega)
      exact Bd_pb (Nat.le_trans h2 (Nat.le_succ _)) (sumP_bd hT h3) fun v k' _ b => ⟨Nat.le_refl _, b⟩
    · exact h1
theorem plainP_bd (hT : TX T e) {k : Nat} (hk : k ≤ e) : Bd e k (plainP T e k) := by
  unfold plainP
  split
  · next h => exact ⟨isW_gt (by decide) h, wd_le hk⟩
  · split
    · next h => exact ⟨isW_gt (by decide) h, wd_le hk⟩
    · exact Bd_pb (Nat.le_refl k) (sumP_bd hT hk) fun v k' _ b => Bd_w (lessP_bd hT b)
theorem manyL_bd {w : List Nat} {op : Bool → Bool → Bool} {Rf : Nat → PR Cn} (hw : 0 < w.length) (hR : ∀ k, k ≤ e → Bd e k (Rf k)) : ∀ (n : Nat) (c : Cn) (k : Nat), k ≤ e → Bw e k (manyL T e w op Rf n c k)
  | 0, c, k, hk => hk
  | n+1, c, k, hk => by
    have h1 := sk_le (T := T) hk
    have h2 := sk_ge (T := T) (e := e) (k := k)
    rw [manyL]
    split
    · next hc =>
      have h3 := isW_gt hw hc
      exact Bd_w (Bd_pb (by omega) (hR _ (wd_le h1)) fun v k' a b => manyL_bd hw hR n _ k' b)
    · exact ⟨h2, h1⟩
theorem manyP_bd {w : List Nat} {op : Bool → Bool → Bool} {Rf : Nat → PR Cn} (hw : 0 < w.length) (hR : ∀ k, k ≤ e → Bd e k (Rf k)) {k : Nat} (hk : k ≤ e) : Bd e k (manyP T e w op Rf k) := Bd_pb (Nat.le_refl k) (hR k hk) fun v k' _ b => manyL_bd hw hR _ _ k' b
theorem everyP_bd {Rf : Nat → PR Cn} (hR : ∀ k, k ≤ e → Bd e k (Rf k)) {k : Nat} (hk : k ≤ e) : Bd e k (everyP T e Rf k) := manyP_bd (by decide) hR hk
theorem someP_bd {Rf : Nat → PR Cn} (hR : ∀ k, k ≤ e → Bd e k (Rf k)) {k : Nat} (hk : k ≤ e) : Bd e k (someP T e Rf k) := manyP_bd (by decide) (fun _ h => everyP_bd hR h) hk
theorem closeP_bd (hT : TX T e) {c : Cn} {k : Nat} (hk : k ≤ e) : Bd e k (closeP T e c k) := by
  have h1 := sk_le (T := T) hk
  have h2 := sk_ge (T := T) (e := e) (k := k)
  unfold closeP
  split
  · next hc =>
    have h3 := hT.lt (k := sk T e k) (by omega)
    exact ⟨Nat.lt_succ_of_le h2, h3⟩
  · exact h1
theorem atomP_bd (hT : TX T e) : ∀ (d dd k : Nat), k ≤ e → Bd e k (atomP T e d dd k)
  | 0, dd, k, hk => hk
  | d+1, dd, k, hk => by
    have h1 := sk_le (T := T) hk
    have h2 := sk_ge (T := T) (e := e) (k := k)
    show Bd e k (atomR T e (atomP T e d) dd k)
    unfold atomR
    split
    · next hc =>
      have h3 := isW_gt (by decide) hc
      split
      · exact h1
      · exact Bd_pb (by omega) (atomP_bd hT d (dd + 1) _ (wd_le h1)) fun v k' _ b => ⟨Nat.le_refl _, b⟩
    · split
      · next hc =>
        have h3 := hT.lt (k := sk T e k) (by omega)
        split
        · exact h1
        · exact Bd_pb (by omega) (someP_bd (fun _ h => atomP_bd hT d (dd + 1) _ h) h3) fun v k' _ b => Bd_w (closeP_bd hT b)
      · exact Bd_le h2 (plainP_bd hT h1)
theorem whenP_bd (hT : TX T e) {h : Bool} {k : Nat} (hk : k ≤ e) : Bw e k (whenP T e h k) := by
  have h1 := sk_le (T := T) hk
  have h2 := sk_ge (T := T) (e := e) (k := k)
  unfold whenP
  split
  · next hc =>
    have h3 := isW_gt (by decide) hc
    exact Bd_w (Bd_pb (by omega) (someP_bd (fun _ h => atomP_bd hT 8 0 _ h) (wd_le h1)) fun v k' _ b => ⟨Nat.le_refl _, b⟩)
  · exact ⟨h2, h1⟩
theorem lineP_bd (hT : TX T e) {k : Nat} (hk : k ≤ e) : Bd e k (lineP T e k) := by
  have h1 := sk_le (T := T) hk
  have h2 := sk_ge (T := T) (e := e) (k := k)
  unfold lineP
  split
  · next hc =>
    have h3 := isW_gt (by decide) hc
    exact Bw_d (by omega) (whenP_bd hT (wd_le h1))
  · split
    · next hc =>
      have h3 := isW_gt (by decide) hc
      exact Bw_d (by omega) (whenP_bd hT (wd_le h1))
    · exact h1
end
