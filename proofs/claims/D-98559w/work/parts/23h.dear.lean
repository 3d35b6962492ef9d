/-! THE PLAIN LAW, 111: how dear a face is -/
set_option maxRecDepth 100000
theorem rest_pre {n m : Nat} {l : List Nat} (hnm : n ≤ m) : ∃ X, l ++ rest m l = (l ++ rest n l) ++ X := by
  obtain ⟨k, rfl⟩ : ∃ k, m = n + k := ⟨m - n, by omega⟩
  refine ⟨((List.range k).map (n + ·)).filter fun f => !l.contains f, ?_⟩
  unfold rest
  rw [List.range_add, List.filter_append, List.append_assoc]
/-- the list of a person's wishes -/
def WL (np : Nat) (A W : Nat → Int32) (p : Nat) (D : List Nat) : Prop := D.length = np ∧ (∀ f, f < np → f ∈ D) ∧ D.Nodup ∧ (∀ k, k < np → W (10 * p + k) = N (D.getD k 0)) ∧ ∀ k, k < np → A (72 + 10 * p + k) = N (D.getD k 0)
theorem WS_list {np : Nat} {A W T : Nat → Int32} (hn : np ≤ 10) (h : WS np A W T) : ∃ D : Nat → List Nat, ∀ p, p < np → WL np A W p (D p) := by
  obtain ⟨l, hl⟩ := h
  refine ⟨fun p => l p ++ rest np (l p), fun p hp => ?_⟩
  obtain ⟨l1, l2, l3, l4, l5⟩ := hl p hp
  have hlen := rest_len (n := np) l2 l3
  refine ⟨hlen, fun f hf => ?_, ?_, l4, fun k hk => ?_⟩
  · by_cases hm : f ∈ l p
    · exact List.mem_append.mpr (Or.inl hm)
    · exact List.mem_append.mpr (Or.inr (rest_mem.mpr ⟨hf, hm⟩))
  · rw [List.nodup_append]
    refine ⟨l2, (List.nodup_range).filter _, fun a ha b hb e => ?_⟩
    subst e
    exact (rest_mem.mp hb).2 ha
  · obtain ⟨X, hX⟩ := rest_pre (l := l p) hn
    rw [l5 k (by omega), hX, List.getD_eq_getElem?_getD, List.getD_eq_getElem?_getD, List.getElem?_append_left (by omega)]
