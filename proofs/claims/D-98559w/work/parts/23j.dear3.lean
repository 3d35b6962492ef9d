/-! THE PLAIN LAW, 113: the wishes of all -/
set_option maxRecDepth 100000
theorem WL_lt {np p : Nat} {A W : Nat → Int32} {D : List Nat} (h : WL np A W p D) : ∀ x ∈ D, x < np := by
  intro x hx
  apply Classical.byContradiction
  intro hn
  obtain ⟨h1, h2, h3, -⟩ := h
  have nd : (x :: List.range np).Nodup := by
    rw [List.nodup_cons]
    exact ⟨fun z => hn (List.mem_range.mp z), List.nodup_range⟩
  have := List.Nodup.length_le_of_subset nd (l₂ := D) (fun f hf => by
    rcases List.mem_cons.mp hf with e | e
    · rw [e]; exact hx
    · exact h2 f (List.mem_range.mp e))
  have e : (x :: List.range np).length = np + 1 := by rw [List.length_cons, List.length_range]
  omega
section
variable {np nh : Nat} {σ : Mm}
/-- the wishes in the World at 1 and in the model's row -/
theorem wishes_of (K : Co np nh σ) : ∃ D : Nat → List Nat, ∀ p, p < np → WL np (mI σ 63) (mI σ (1 + 8)) p (D p) := WS_list K.n0 (rwWS K.r)
/-- would p rather wear the face that q wears? (both wear one) -/
theorem C_rather {p q f g : Nat} {D : List Nat} (K : Co np nh σ) (hp : p < np) (hq : q < np) (hD : WL np (mI σ 63) (mI σ (1 + 8)) p D) (hf : f < np) (hg : g < np) (e1 : PA (mI σ 63) p 2 = N f) (e2 : PA (mI σ 63) q 2 = N g) : FX1_rather 0 (N p) (N q) σ = some (bN (decide (D.idxOf g < D.idxOf f)), σ) := by
  have hC := K.c; have hr := K.r; have hn0 := K.n0
  have a1 := WL_at hD hf
  have a2 := WL_at hD hg
  unfold FX1_rather
  rw [fc_gR0_0 hC, Option.bind_some, Option.bind_some, fw_gR10 hC.1, Option.bind_some, fw_rd3 hC.1 (by omega), Option.bind_some, rwW hr (by omega), e2, fw_rv hC.1, Option.bind_some, C_place hC.1 hn0 hp hD (WL_lt hD) hg, Option.bind_some]
  dsimp only
  rw [fc_gR0_0 hC, Option.bind_some, Option.bind_some, fw_gR10 hC.1, Option.bind_some, fw_rd3 hC.1 (by omega), Option.bind_some, rwW hr (by omega), e1, fw_rv hC.1, Option.bind_some, C_place hC.1 hn0 hp hD (WL_lt hD) hf, Option.bind_some]
  dsimp only
  by_cases c : D.idxOf g < D.idxOf f
  · rw [if_neg (by rw [N_le (by omega) (by omega)]; omega), decide_eq_true c, l1_, rZ_1]; rfl
  · rw [if_pos (by rw [N_le (by omega) (by omega)]; omega), decide_eq_false c, l0_, rZ_0]; rfl
end
