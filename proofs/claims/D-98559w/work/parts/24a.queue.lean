/-! THE PLAIN LAW, 127: the queue -/
set_option maxRecDepth 100000
theorem foldl_cg {α β : Type} {f g : α → β → α} : ∀ (L : List β) (a : α), (∀ a v, v ∈ L → f a v = g a v) → L.foldl f a = L.foldl g a := by
  intro L
  induction L with
  | nil => intro a _; rfl
  | cons v L ih =>
    intro a h
    rw [List.foldl_cons, List.foldl_cons, h a v List.mem_cons_self]
    exact ih _ fun a u hu => h a u (List.mem_cons_of_mem _ hu)
theorem filter_cg {α : Type} {p q : α → Bool} : ∀ (L : List α), (∀ v, v ∈ L → p v = q v) → L.filter p = L.filter q := by
  intro L
  induction L with
  | nil => intro _; rfl
  | cons v L ih =>
    intro h
    rw [List.filter_cons, List.filter_cons, h v List.mem_cons_self, ih fun u hu => h u (List.mem_cons_of_mem _ hu)]
theorem find_cg {α : Type} {p q : α → Bool} : ∀ (L : List α), (∀ v, v ∈ L → p v = q v) → L.find? p = L.find? q := by
  intro L
  induction L with
  | nil => intro _; rfl
  | cons v L ih =>
    intro h
    rw [List.find?_cons, List.find?_cons, h v List.mem_cons_self, ih fun u hu => h u (List.mem_cons_of_mem _ hu)]
def hdist (a b : Nat) : Nat := (if a ≤ b then b - a else a - b) + 1
def hlst (hk : Nat → Nat) : Option Nat → Nat
  | none => 0
  | some v => hk v
def lmin (f : Nat → Nat) (L : List Nat) (a : Nat) : Nat := L.foldl (fun a v => min a (f v)) a
def vf (hk : Nat → Nat) : Nat → List Nat → Option Nat → Nat
  | 0, _, _ => 0
  | m + 1, L, o => lmin (fun v => hdist (hlst hk o) (hk v) * (m + 1) + vf hk m (L.filter fun u => !decide (u = v)) (some v)) L 100000
def qf (hk : Nat → Nat) (m : Nat) (L : List Nat) (o : Option Nat) (v : Nat) : Nat := hdist (hlst hk o) (hk v) * (m + 1) + vf hk m (L.filter fun u => !decide (u = v)) (some v)
theorem vf_s {hk : Nat → Nat} {m : Nat} {L : List Nat} {o : Option Nat} : vf hk (m + 1) L o = lmin (qf hk m L o) L 100000 := rfl
theorem lmin_le {f : Nat → Nat} : ∀ L a, lmin f L a ≤ a ∧ ∀ v, v ∈ L → lmin f L a ≤ f v := by
  intro L
  induction L with
  | nil => intro a; exact ⟨Nat.le_refl _, fun v hv => by cases hv⟩
  | cons u L ih =>
    intro a
    obtain ⟨h1, h2⟩ := ih (min a (f u))
    refine ⟨Nat.le_trans h1 (Nat.min_le_left _ _), fun v hv => ?_⟩
    rcases List.mem_cons.mp hv with e | e
    · rw [e]; exact Nat.le_trans h1 (Nat.min_le_right _ _)
    · exact h2 v e
theorem lmin_at {f : Nat → Nat} : ∀ L a, lmin f L a = a ∨ ∃ v, v ∈ L ∧ lmin f L a = f v := by
  intro L
  induction L with
  | nil => intro a; exact Or.inl rfl
  | cons u L ih =>
    intro a
    rcases ih (min a (f u)) with h | ⟨v, h1, h2⟩
    · have e : lmin f (u :: L) a = min a (f u) := h
      rcases Nat.le_total a (f u) with c | c
      · exact Or.inl (by rw [e, Nat.min_eq_left c])
      · exact Or.inr ⟨u, List.mem_cons_self, by rw [e, Nat.min_eq_right c]⟩
    · exact Or.inr ⟨v, List.mem_cons_of_mem _ h1, h2⟩
theorem lmin_eq {f : Nat → Nat} {L : List Nat} {a b : Nat} (h : ∃ v, v ∈ L ∧ f v ≤ a ∧ f v ≤ b) : lmin f L a = lmin f L b := by
  obtain ⟨v, h1, h2, h3⟩ := h
  obtain ⟨a1, a2⟩ := lmin_le (f := f) L a
  obtain ⟨b1, b2⟩ := lmin_le (f := f) L b
  have a3 := a2 v h1
  have b3 := b2 v h1
  apply Nat.le_antisymm
  · rcases lmin_at (f := f) L b with e | ⟨u, u1, u2⟩
    · omega
    · rw [u2]; exact a2 u u1
  · rcases lmin_at (f := f) L a with e | ⟨u, u1, u2⟩
    · omega
    · rw [u2]; exact b2 u u1
theorem lmin_cg {f g : Nat → Nat} {L : List Nat} {a : Nat} (h : ∀ v, v ∈ L → f v = g v) : lmin f L a = lmin g L a := foldl_cg L a fun a v hv => by rw [h v hv]
theorem lmin_map {f : Nat → Nat} {w : Nat → Nat} {L : List Nat} {a : Nat} : lmin f (L.map w) a = lmin (fun v => f (w v)) L a := by
  unfold lmin
  rw [List.foldl_map]
theorem filt_len {L : List Nat} {v : Nat} (hd : L.Nodup) (hv : v ∈ L) : (L.filter fun u => !decide (u = v)).length + 1 = L.length := by
  induction L with
  | nil => cases hv
  | cons u L ih =>
    rw [List.nodup_cons] at hd
    rw [List.filter_cons]
    by_cases e : u = v
    · subst e
      rw [decide_eq_true rfl, Bool.not_true, if_neg Bool.false_ne_true, List.length_cons]
      rw [List.filter_eq_self.mpr fun a ha => by
        rw [decide_eq_false (fun e => hd.1 (by rw [← e]; exact ha))]; rfl]
    · rw [decide_eq_false e, Bool.not_false, if_pos rfl, List.length_cons, List.length_cons]
      rw [ih hd.2 ((List.mem_cons.mp hv).resolve_left fun x => e x.symm)]
theorem vf_le {hk : Nat → Nat} (hh : ∀ v, hk v < 12) : ∀ m L o, L.Nodup → L.length = m → m ≤ 10 → vf hk m L o ≤ 120 * m := by
  intro m
  induction m with
  | zero => intro L o _ _ _; exact Nat.le_refl _
  | succ m ih =>
    intro L o hd hl hm
    cases L with
    | nil => cases hl
    | cons v L =>
      have h1 := (lmin_le (f := qf hk m (v :: L) o) (v :: L) 100000).2 v List.mem_cons_self
      have h2 := filt_len hd (List.mem_cons_self (a := v) (l := L))
      have h3 := ih ((v :: L).filter fun u => !decide (u = v)) (some v) (hd.filter _) (by omega) (by omega)
      rw [vf_s]
      have h4 : qf hk m (v :: L) o v = hdist (hlst hk o) (hk v) * (m + 1) + vf hk m ((v :: L).filter fun u => !decide (u = v)) (some v) := rfl
      have h5 : hdist (hlst hk o) (hk v) ≤ 12 := by
        have a1 := hh v
        have a2 : hlst hk o < 12 := by
          cases o with
          | none => exact Nat.zero_lt_succ _
          | some u => exact hh u
        unfold hdist
        split <;> omega
      have h6 : hdist (hlst hk o) (hk v) * (m + 1) ≤ 12 * 10 := Nat.mul_le_mul h5 hm
      omega
theorem qf_le {hk : Nat → Nat} (hh : ∀ v, hk v < 12) {m : Nat} {L : List Nat} {o : Option Nat} {v : Nat} (hd : L.Nodup) (hl : L.length = m + 1) (hm : m < 10) (hv : v ∈ L) : qf hk m L o v ≤ 1200 := by
  have h2 := filt_len hd hv
  have h3 := vf_le hh m (L.filter fun u => !decide (u = v)) (some v) (hd.filter _) (by omega) (by omega)
  have h5 : hdist (hlst hk o) (hk v) ≤ 12 := by
    have a1 := hh v
    have a2 : hlst hk o < 12 := by
      cases o with
      | none => exact Nat.zero_lt_succ _
      | some u => exact hh u
    unfold hdist
    split <;> omega
  have h6 : hdist (hlst hk o) (hk v) * (m + 1) ≤ 12 * 10 := Nat.mul_le_mul h5 (by omega)
  unfold qf
  omega
/-- the first with the least -/
def pickv (f : Nat → Nat) (L : List Nat) : Nat := (L.find? fun v => decide (f v = lmin f L 100000)).getD 0
theorem pick_ok {f : Nat → Nat} {L : List Nat} (h : ∃ v, v ∈ L ∧ f v ≤ 100000) : L.find? (fun v => decide (f v = lmin f L 100000)) = some (pickv f L) ∧ pickv f L ∈ L ∧ f (pickv f L) = lmin f L 100000 := by
  have ex : ∃ v, v ∈ L ∧ f v = lmin f L 100000 := by
    obtain ⟨v, h1, h2⟩ := h
    rcases lmin_at (f := f) L 100000 with e | ⟨u, u1, u2⟩
    · have := (lmin_le (f := f) L 100000).2 v h1
      exact ⟨v, h1, by omega⟩
    · exact ⟨u, u1, u2.symm⟩
  unfold pickv
  cases e : L.find? (fun v => decide (f v = lmin f L 100000)) with
  | none =>
    obtain ⟨v, h1, h2⟩ := ex
    have := List.find?_eq_none.mp e v h1
    rw [decide_eq_true h2] at this
    exact absurd rfl this
  | some v =>
    have h9 := List.find?_some e
    exact ⟨rfl, List.mem_of_find?_eq_some e, of_decide_eq_true h9⟩
/-- who is the k-th -/
def svk (hk : Nat → Nat) : Nat → List Nat → Option Nat → Nat → Option Nat
  | 0, _, _, _ => none
  | m + 1, L, o, 0 => some (pickv (qf hk m L o) L)
  | m + 1, L, o, k + 1 => svk hk m (L.filter fun u => !decide (u = pickv (qf hk m L o) L)) (some (pickv (qf hk m L o) L)) k
theorem filt_map {w : Nat → Nat} {L : List Nat} {v : Nat} (hi : ∀ a, a ∈ L → ∀ b, b ∈ L → w a = w b → a = b) (hv : v ∈ L) : (L.map w).filter (fun u => !decide (u = w v)) = (L.filter fun u => !decide (u = v)).map w := by
  rw [List.filter_map]
  congr 1
  apply filter_cg
  intro u hu
  show (!decide (w u = w v)) = !decide (u = v)
  rw [show decide (w u = w v) = decide (u = v) from decide_eq_decide.mpr ⟨hi u hu v hv, fun e => by rw [e]⟩]
theorem hlst_map {hk w : Nat → Nat} {o : Option Nat} : hlst hk (o.map w) = hlst (fun i => hk (w i)) o := by cases o <;> rfl
theorem vf_map {hk w : Nat → Nat} : ∀ m L o, (∀ a, a ∈ L → ∀ b, b ∈ L → w a = w b → a = b) → vf hk m (L.map w) (o.map w) = vf (fun i => hk (w i)) m L o := by
  intro m
  induction m with
  | zero => intro L o _; rfl
  | succ m ih =>
    intro L o hi
    rw [vf_s, vf_s, lmin_map]
    refine lmin_cg fun v hv => ?_
    unfold qf
    rw [hlst_map, filt_map hi hv]
    have := ih (L.filter fun u => !decide (u = v)) (some v) fun a ha b hb => hi a (List.mem_filter.mp ha).1 b (List.mem_filter.mp hb).1
    rw [show some (w v) = (some v).map w from rfl, this]
theorem qf_map {hk w : Nat → Nat} {m : Nat} {L : List Nat} {o : Option Nat} {v : Nat} (hi : ∀ a, a ∈ L → ∀ b, b ∈ L → w a = w b → a = b) (hv : v ∈ L) : qf hk m (L.map w) (o.map w) (w v) = qf (fun i => hk (w i)) m L o v := by
  unfold qf
  rw [hlst_map, filt_map hi hv]
  have := vf_map (hk := hk) m (L.filter fun u => !decide (u = v)) (some v) fun a ha b hb => hi a (List.mem_filter.mp ha).1 b (List.mem_filter.mp hb).1
  rw [show some (w v) = (some v).map w from rfl, this]
theorem pick_map {hk w : Nat → Nat} (hh : ∀ v, hk v < 12) {m : Nat} {L : List Nat} {o : Option Nat} (hi : ∀ a, a ∈ L → ∀ b, b ∈ L → w a = w b → a = b) (hd : L.Nodup) (hl : L.length = m + 1) (hm : m < 10) : pickv (qf hk m (L.map w) (o.map w)) (L.map w) = w (pickv (qf (fun i => hk (w i)) m L o) L) := by
  have ex : ∃ v, v ∈ L ∧ qf (fun i => hk (w i)) m L o v ≤ 100000 := by
    cases L with
    | nil => cases hl
    | cons v L => exact ⟨v, List.mem_cons_self, Nat.le_trans (qf_le (hk := fun i => hk (w i)) (fun v => hh _) hd hl hm List.mem_cons_self) (by omega)⟩
  have h1 := (pick_ok ex).1
  have e1 : lmin (qf hk m (L.map w) (o.map w)) (L.map w) 100000 = lmin (qf (fun i => hk (w i)) m L o) L 100000 := by
    rw [lmin_map]
    exact lmin_cg fun v hv => qf_map hi hv
  have e2 : (L.map w).find? (fun v => decide (qf hk m (L.map w) (o.map w) v = lmin (qf hk m (L.map w) (o.map w)) (L.map w) 100000)) = (L.find? fun v => decide (qf (fun i => hk (w i)) m L o v = lmin (qf (fun i => hk (w i)) m L o) L 100000)).map w := by
    rw [List.find?_map, e1]
    congr 1
    apply find_cg
    intro v hv
    show decide (qf hk m (L.map w) (o.map w) (w v) = _) = _
    rw [qf_map hi hv]
  unfold pickv at *
  rw [e2, h1]
  rfl
theorem svk_map {hk w : Nat → Nat} (hh : ∀ v, hk v < 12) : ∀ m L o k, (∀ a, a ∈ L → ∀ b, b ∈ L → w a = w b → a = b) → L.Nodup → L.length = m → m ≤ 10 → svk hk m (L.map w) (o.map w) k = (svk (fun i => hk (w i)) m L o k).map w := by
  intro m
  induction m with
  | zero => intro L o k _ _ _ _; cases k <;> rfl
  | succ m ih =>
    intro L o k hi hd hl hm
    have pm := pick_map (hk := hk) hh (o := o) hi hd hl (by omega)
    have ex : ∃ v, v ∈ L ∧ qf (fun i => hk (w i)) m L o v ≤ 100000 := by
      cases L with
      | nil => cases hl
      | cons v L => exact ⟨v, List.mem_cons_self, Nat.le_trans (qf_le (hk := fun i => hk (w i)) (fun v => hh _) hd hl (by omega) List.mem_cons_self) (by omega)⟩
    have hv := (pick_ok ex).2.1
    cases k with
    | zero => rw [svk, svk, pm]; rfl
    | succ k =>
      rw [svk, svk, pm, filt_map hi hv]
      have h2 := filt_len hd hv
      exact ih _ (some (pickv (qf (fun i => hk (w i)) m L o) L)) k (fun a ha b hb => hi a (List.mem_filter.mp ha).1 b (List.mem_filter.mp hb).1) (hd.filter _) (by omega) (by omega)
theorem svk_some {hk : Nat → Nat} (hh : ∀ v, hk v < 12) : ∀ m L o k, L.Nodup → L.length = m → m ≤ 10 → k < m → ∃ v, v ∈ L ∧ svk hk m L o k = some v := by
  intro m
  induction m with
  | zero => intro L o k _ _ _ h; omega
  | succ m ih =>
    intro L o k hd hl hm hk'
    have ex : ∃ v, v ∈ L ∧ qf hk m L o v ≤ 100000 := by
      cases L with
      | nil => cases hl
      | cons v L => exact ⟨v, List.mem_cons_self, Nat.le_trans (qf_le hh hd hl (by omega) List.mem_cons_self) (by omega)⟩
    have hv := (pick_ok ex).2.1
    cases k with
    | zero => exact ⟨_, hv, rfl⟩
    | succ k =>
      have h2 := filt_len hd hv
      obtain ⟨v, h3, h4⟩ := ih _ (some (pickv (qf hk m L o) L)) k (hd.filter _) (show (L.filter fun u => !decide (u = pickv (qf hk m L o) L)).length = m by omega) (by omega) (by omega)
      exact ⟨v, (List.mem_filter.mp h3).1, h4⟩
/-! the lists of sets -/
def LM (n s : Nat) : List Nat := (List.range' 0 n).filter s.testBit
def LC (n c : Nat) : List Nat := (List.range' 0 n).filter fun i => !c.testBit i
theorem range_nd {n : Nat} : (List.range' 0 n).Nodup := by
  rw [← List.range_eq_range']; exact List.nodup_range
theorem LM_nd {n s : Nat} : (LM n s).Nodup := range_nd.filter _
theorem LC_nd {n c : Nat} : (LC n c).Nodup := range_nd.filter _
theorem LM_mem {n s v : Nat} : v ∈ LM n s ↔ v < n ∧ s.testBit v = true := by
  unfold LM
  rw [List.mem_filter, ← List.range_eq_range', List.mem_range]
theorem LC_mem {n c v : Nat} : v ∈ LC n c ↔ v < n ∧ ¬ c.testBit v = true := by
  unfold LC
  rw [List.mem_filter, ← List.range_eq_range', List.mem_range, Bool.not_eq_true', Bool.not_eq_true]
theorem pcL10 : ∀ s, s < 1024 → pc s = ((List.range' 0 10).filter s.testBit).length := by decide +kernel
theorem pcL {n s : Nat} (hn : n ≤ 10) (hs : s < 2 ^ n) : pc s = (LM n s).length := by
  rw [pcL10 s (Nat.lt_of_lt_of_le hs (Nat.pow_le_pow_right (by omega) hn))]
  obtain ⟨d, hd⟩ : ∃ d, 10 = n + d := ⟨10 - n, by omega⟩
  unfold LM
  rw [hd, ← List.range'_append_1, List.filter_append, List.length_append]
  have : (List.range' (0 + n) d).filter s.testBit = [] := by
    rw [List.filter_eq_nil_iff]
    intro a ha
    rw [List.mem_range'_1] at ha
    rw [Nat.testBit_lt_two_pow (Nat.lt_of_lt_of_le hs (Nat.pow_le_pow_right (by omega) (by omega)))]
    exact Bool.false_ne_true
  rw [this]; rfl
theorem filt_both {p : Nat → Bool} : ∀ L : List Nat, (L.filter p).length + (L.filter fun i => !p i).length = L.length := by
  intro L
  induction L with
  | nil => rfl
  | cons v L ih =>
    rw [List.filter_cons, List.filter_cons, List.length_cons]
    cases h : p v
    · rw [if_neg Bool.false_ne_true, Bool.not_false, if_pos rfl, List.length_cons]; omega
    · rw [if_pos rfl, Bool.not_true, if_neg Bool.false_ne_true, List.length_cons]; omega
theorem LC_len {n c : Nat} (hn : n ≤ 10) (hc : c < 2 ^ n) : pc c + (LC n c).length = n := by
  rw [pcL hn hc]
  unfold LM LC
  have := filt_both (p := c.testBit) (List.range' 0 n)
  rw [List.length_range'] at this
  exact this
theorem LC_or {n c v : Nat} : (LC n c).filter (fun u => !decide (u = v)) = LC n (c ||| 2 ^ v) := by
  unfold LC
  rw [List.filter_filter]
  apply filter_cg
  intro u _
  rw [Nat.testBit_or, Nat.testBit_two_pow, Bool.not_or, Bool.and_comm]
  congr 2
  exact decide_eq_decide.mpr eq_comm
theorem LM_rm {n s v : Nat} (hn : n ≤ 10) (hv : v < 10) : (LM n s).filter (fun u => !decide (u = v)) = LM n (s &&& (1023 - 2 ^ v)) := by
  unfold LM
  rw [List.filter_filter]
  apply filter_cg
  intro u hu
  rw [List.mem_range'_1] at hu
  rw [tb_rm hv (by omega), Bool.and_comm]
theorem kth_L {P : Nat → Bool} : ∀ k i v, kth P k i v = ((List.range' i k).filter P)[v]? := by
  intro k
  induction k with
  | zero => intro i v; rfl
  | succ k ih =>
    intro i v
    rw [kth, List.range'_succ, List.filter_cons, ih, ih]
    by_cases c : P i = true
    · rw [if_pos c, if_pos c]
      cases v with
      | zero => rfl
      | succ v => rw [if_neg (by omega), List.getElem?_cons_succ, Nat.add_sub_cancel]
    · rw [if_neg c, if_neg c]
