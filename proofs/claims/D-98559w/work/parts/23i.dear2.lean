/-! THE PLAIN LAW, 112: how dear a face is, asked of both -/
set_option maxRecDepth 100000
section
variable {b np nh nq : Nat} {A : Nat → Int32} {σ : Mm} {D : List Nat}
theorem WL_at {p f : Nat} {W : Nat → Int32} (h : WL np A W p D) (hf : f < np) : D.idxOf f < np ∧ D.getD (D.idxOf f) 0 = f ∧ ∀ k, k < D.idxOf f → D.getD k 0 ≠ f := by
  obtain ⟨h1, h2, h3, -⟩ := h
  have hm := h2 f hf
  have hi := List.idxOf_lt_length_of_mem hm
  refine ⟨by omega, ?_, fun k hk e => ?_⟩
  · rw [List.getD_eq_getElem?_getD, List.getElem?_eq_getElem hi, Option.getD_some, List.getElem_idxOf]
  · have hk2 : k < D.length := by omega
    rw [List.getD_eq_getElem?_getD, List.getElem?_eq_getElem hk2, Option.getD_some] at e
    have := h3.idxOf_getElem k hk2
    rw [e] at this
    omega
theorem C_place {p f : Nat} (hW : FW b σ) (hn : np ≤ 10) (hp : p < np) (h : WL np A (mI σ (b + 8)) p D) (hD : ∀ x ∈ D, x < np) (hf : f < np) : FX2_place b (N p) (N f) σ = some (N (D.idxOf f), σ) := by
  obtain ⟨a1, a2, a3⟩ := WL_at h hf
  have key : ∀ (d k n : Nat) (K : Int32 → Mm → Option (Int32 × Mm)), k + d = D.idxOf f → d < n → FX2_place_2 b (N p) (N f) n (N k) σ K = K (N (D.idxOf f)) σ := by
    intro d
    induction d with
    | zero =>
      intro k n K hk hn'
      obtain ⟨n, rfl⟩ : ∃ m, n = m + 1 := ⟨n - 1, by omega⟩
      have e : k = D.idxOf f := by omega
      rw [FX2_place_2, fw_gR15 hW, Option.bind_some, l10_, N_mul, N_add, fw_rd8 hW (by omega), Option.bind_some, h.2.2.2.1 k (by omega), e, a2, if_pos rfl]
    | succ d ih =>
      intro k n K hk hn'
      obtain ⟨n, rfl⟩ : ∃ m, n = m + 1 := ⟨n - 1, by omega⟩
      have hk2 : k < D.length := by have := h.1; omega
      have hx : D.getD k 0 < np := by
        rw [List.getD_eq_getElem?_getD, List.getElem?_eq_getElem hk2, Option.getD_some]
        exact hD _ (List.getElem_mem hk2)
      rw [FX2_place_2, fw_gR15 hW, Option.bind_some, l10_, N_mul, N_add, fw_rd8 hW (by omega), Option.bind_some, h.2.2.2.1 k (by omega), if_neg (fun z => a3 k (by omega) ((N_inj (by omega) (by omega)).mp z)), l1_, N_add, ih (k + 1) n K (by omega) (by omega)]
  unfold FX2_place
  rw [l0_, key (D.idxOf f) 0 fu _ (by omega) (by unfold fu; omega)]
theorem M_dear {p f : Nat} (hM : FM σ) (hn : np ≤ 10) (hp : p < np) {W : Nat → Int32} (h : WL np (mI σ 63) W p D) (hD : ∀ x ∈ D, x < np) (hf : f < np) : FX8_dear 62 (N p) (N f) σ = some (N (D.idxOf f), σ) := by
  obtain ⟨a1, a2, a3⟩ := WL_at h hf
  have key : ∀ (d k n : Nat) (K : Int32 → Mm → Option (Int32 × Mm)), k + d = D.idxOf f → d < n → FX8_dear_2 62 (N p) (N f) n (N k) σ K = K (N (D.idxOf f)) σ := by
    intro d
    induction d with
    | zero =>
      intro k n K hk hn'
      obtain ⟨n, rfl⟩ : ∃ m, n = m + 1 := ⟨n - 1, by omega⟩
      have e : k = D.idxOf f := by omega
      rw [FX8_dear_2, fm_gR1 hM, Option.bind_some, l72_, l10_, N_mul, N_add, N_add, fm_rd63 hM (by omega), Option.bind_some, h.2.2.2.2 k (by omega), e, a2, if_pos rfl]
    | succ d ih =>
      intro k n K hk hn'
      obtain ⟨n, rfl⟩ : ∃ m, n = m + 1 := ⟨n - 1, by omega⟩
      have hk2 : k < D.length := by have := h.1; omega
      have hx : D.getD k 0 < np := by
        rw [List.getD_eq_getElem?_getD, List.getElem?_eq_getElem hk2, Option.getD_some]
        exact hD _ (List.getElem_mem hk2)
      rw [FX8_dear_2, fm_gR1 hM, Option.bind_some, l72_, l10_, N_mul, N_add, N_add, fm_rd63 hM (by omega), Option.bind_some, h.2.2.2.2 k (by omega), if_neg (fun z => a3 k (by omega) ((N_inj (by omega) (by omega)).mp z)), l1_, N_add, ih (k + 1) n K (by omega) (by omega)]
  unfold FX8_dear
  rw [l0_, key (D.idxOf f) 0 fu _ (by omega) (by unfold fu; omega)]
end
