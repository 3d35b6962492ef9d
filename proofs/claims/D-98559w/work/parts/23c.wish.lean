/-! THE PLAIN LAW, 106: wishes -/
set_option maxRecDepth 100000
theorem rest_mem {n f : Nat} {l : List Nat} : f ∈ rest n l ↔ f < n ∧ f ∉ l := by
  unfold rest
  rw [List.mem_filter, List.mem_range]
  simp
theorem rest_len {n : Nat} {l : List Nat} (h : l.Nodup) (hl : ∀ f ∈ l, f < n) : (l ++ rest n l).length = n := by
  have nd : (l ++ rest n l).Nodup := by
    rw [List.nodup_append]
    refine ⟨h, (List.nodup_range).filter _, fun a ha b hb e => ?_⟩
    subst e
    exact (rest_mem.mp hb).2 ha
  apply Nat.le_antisymm
  · have := List.Nodup.length_le_of_subset nd (l₂ := List.range n) (fun f hf => by
      rw [List.mem_range]
      rcases List.mem_append.mp hf with h1 | h1
      · exact hl f h1
      · exact (rest_mem.mp h1).1)
    rw [List.length_range] at this; exact this
  · have := List.Nodup.length_le_of_subset (List.nodup_range (n := n)) (l₂ := l ++ rest n l) (fun f hf => by
      rw [List.mem_range] at hf
      by_cases hm : f ∈ l
      · exact List.mem_append.mpr (Or.inl hm)
      · exact List.mem_append.mpr (Or.inr (rest_mem.mpr ⟨hf, hm⟩)))
    rw [List.length_range] at this; exact this
theorem rest_filter {n m : Nat} {l : List Nat} (hnm : n ≤ m) (hl : ∀ f ∈ l, f < n) : (l ++ rest m l).filter (fun f => decide (f < n)) = l ++ rest n l := by
  rw [List.filter_append]
  congr 1
  · rw [List.filter_eq_self]
    intro f hf
    exact decide_eq_true (hl f hf)
  · unfold rest
    rw [List.filter_filter]
    obtain ⟨k, rfl⟩ : ∃ k, m = n + k := ⟨m - n, by omega⟩
    rw [List.range_add, List.filter_append]
    have e2 : ((List.range k).map (n + ·)).filter (fun f => decide (f < n) && !l.contains f) = [] := by
      rw [List.filter_eq_nil_iff]
      intro f hf
      obtain ⟨j, _, rfl⟩ := List.mem_map.mp hf
      rw [decide_eq_false (by omega), Bool.false_and]
      decide
    rw [e2, List.append_nil]
    apply List.filter_congr
    intro f hf
    rw [List.mem_range] at hf
    rw [decide_eq_true hf, Bool.true_and]
section
variable {np nh : Nat} {σ : Mm}
theorem M_wish_58 (h : FM σ) (hnn : mI σ 63 3 = N np) (hn0 : np ≤ 10) {p : Nat} (hp : p < 10) {L : List Nat} (hL : L.length = 10) (hL2 : ∀ f ∈ L, f < 10) (hA : ∀ k, k < 10 → mI σ 63 (72 + 10 * p + k) = N (L.getD k 0)) (Kx : Int32 → Mm → Option (Int32 × Mm)) : ∀ (m : List Nat) (v4 v3 n : Nat), L.drop v4 = m → v3 < (m.filter (fun f => decide (f < np))).length → m.length < n → v3 < 1000 → ∃ v', v' < 10 ∧ mI σ 63 (72 + 10 * p + v') = N ((m.filter (fun f => decide (f < np))).getD v3 0) ∧ FX8_wish_58 62 (N p) n (N v3) (N v4) σ Kx = Kx (N v') σ := by
  intro m
  induction m with
  | nil => intro v4 v3 n _ h1; exact absurd h1 (by show ¬ v3 < 0; omega)
  | cons f m ih =>
    intro v4 v3 n hd hv hn hv3
    obtain ⟨n, rfl⟩ : ∃ z, n = z + 1 := ⟨n - 1, by omega⟩
    have hln : (L.drop v4).length = m.length + 1 := by rw [hd]; rfl
    rw [List.length_drop, hL] at hln
    have hv4 : v4 < 10 := by omega
    have g0 : L[v4]? = some f := by rw [← List.head?_drop, hd]; rfl
    have g1 : L.getD v4 0 = f := by rw [List.getD_eq_getElem?_getD, g0]; rfl
    have hf : f < 10 := hL2 f (List.mem_of_getElem? g0)
    have d1 : L.drop (v4 + 1) = m := by rw [← List.tail_drop, hd]; rfl
    have eA : mI σ 63 (72 + 10 * p + v4) = N f := by rw [hA v4 hv4, g1]
    have rd : aI 100 (some 63) (72 + 10 * N p + N v4) σ = some (N f) := by
      rw [l72_, l10_, N_mul, N_add, N_add, fm_rd63 h (by omega), eA]
    have r3 : aI 100 (some 63) 3 σ = some (N np) := by rw [l3_, fm_rd63 h (by omega), hnn]
    have hn' : m.length < n := by
      have : (f :: m).length = m.length + 1 := rfl
      omega
    rw [FX8_wish_58]
    unfold jn
    dsimp only
    rw [fm_gR1 h, Option.bind_some, rd, Option.bind_some, Option.bind_some, r3, Option.bind_some]
    by_cases cf : f < np
    · have ef : (f :: m).filter (fun f => decide (f < np)) = f :: m.filter (fun f => decide (f < np)) := List.filter_cons_of_pos (decide_eq_true cf)
      rw [ef] at hv ⊢
      by_cases c0 : v3 = 0
      · subst c0
        refine ⟨v4, hv4, eA, ?_⟩
        rw [if_neg (by rw [l0_, N_lt (by omega) (by omega)]; omega)]
        rw [Option.bind_some, rd, Option.bind_some, Option.bind_some, r3, Option.bind_some, if_pos (by rw [N_lt (by omega) (by omega)]; exact cf)]
      · obtain ⟨w, rfl⟩ : ∃ w, v3 = w + 1 := ⟨v3 - 1, by omega⟩
        have hv' : w < (m.filter (fun f => decide (f < np))).length := by
          have : (f :: m.filter (fun f => decide (f < np))).length = (m.filter (fun f => decide (f < np))).length + 1 := rfl
          omega
        obtain ⟨v', q1, q2, q3⟩ := ih (v4 + 1) w n d1 hv' hn' (by omega)
        refine ⟨v', q1, q2, ?_⟩
        rw [if_pos (by rw [l0_, N_lt (by omega) (by omega)]; omega), if_neg (by rw [N_le (by omega) (by omega)]; omega), m1_, N_dec, l1_, N_add, q3]
    · have ef : (f :: m).filter (fun f => decide (f < np)) = m.filter (fun f => decide (f < np)) := List.filter_cons_of_neg (by rw [decide_eq_false cf]; decide)
      rw [ef] at hv ⊢
      obtain ⟨v', q1, q2, q3⟩ := ih (v4 + 1) v3 n d1 hv hn' hv3
      refine ⟨v', q1, q2, ?_⟩
      by_cases c0 : v3 = 0
      · rw [if_neg (by rw [l0_, N_lt (by omega) (by omega)]; omega), Option.bind_some, rd, Option.bind_some, Option.bind_some, r3, Option.bind_some, if_neg (by rw [N_lt (by omega) (by omega)]; exact cf), if_pos (by rw [N_le (by omega) (by omega)]; omega), l1_, N_add, q3]
      · rw [if_pos (by rw [l0_, N_lt (by omega) (by omega)]; omega), if_pos (by rw [N_le (by omega) (by omega)]; omega), l1_, N_add, q3]
end
