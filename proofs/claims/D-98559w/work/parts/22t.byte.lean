/-! THE PLAIN LAW, 99: a byte of a word -/
set_option maxRecDepth 100000
theorem low8 (x : Int32) : ∃ t, t < 256 ∧ x &&& N 255 = N t := by
  refine ⟨(x.toBitVec &&& 255#32).toNat, ?_, ?_⟩
  · rw [BitVec.toNat_and]
    exact Nat.lt_of_le_of_lt Nat.and_le_right (by decide)
  · apply Int32.toBitVec_inj.mp
    show x.toBitVec &&& 255#32 = BitVec.ofNat 32 _
    rw [BitVec.ofNat_toNat, BitVec.setWidth_eq]
theorem cb_8 : ∀ t, t < 256 → (N t).toInt8.toInt32 = cb t := by decide +kernel
theorem cb_88 : ∀ t, t < 256 → (cb t).toInt8.toInt32 = cb t := by decide +kernel
theorem b255 : ∀ j, j < 8 → (255#32).getLsbD j = true := by decide
theorem low_eq (w : Int32) (s : Int32) (hs : s = N 0 ∨ s = N 8 ∨ s = N 16 ∨ s = N 24) : (w >>> (s &&& N 31)).toInt8 = (ush w s &&& N 255).toInt8 := by
  apply Int8.toBitVec_inj.mp
  have key : ∀ k : Nat, k ≤ 24 → (w.toBitVec.sshiftRight k).signExtend 8 = ((w.toBitVec >>> k) &&& 255#32).signExtend 8 := fun k hk => by
    apply BitVec.eq_of_getElem_eq
    intro i hi
    rw [BitVec.getElem_signExtend, BitVec.getElem_signExtend, dif_pos (by omega), dif_pos (by omega), BitVec.getElem_sshiftRight, BitVec.getElem_and, BitVec.getElem_ushiftRight]
    have e : (255#32)[i] = true := by
      rw [← BitVec.getLsbD_eq_getElem]
      exact b255 i hi
    rw [e, Bool.and_true, dif_pos (by omega)]
    rfl
  rcases hs with rfl | rfl | rfl | rfl
  · exact key 0 (by omega)
  · exact key 8 (by omega)
  · exact key 16 (by omega)
  · exact key 24 (by omega)
theorem byte_of (w : Int32) (s : Int32) (hs : s = N 0 ∨ s = N 8 ∨ s = N 16 ∨ s = N 24) : ∃ t, t < 256 ∧ (w >>> (s &&& N 31)).toInt8.toInt32 = cb t ∧ ush w s &&& N 255 = N t := by
  obtain ⟨t, ht, e⟩ := low8 (ush w s)
  exact ⟨t, ht, by rw [low_eq w s hs, e]; exact cb_8 t ht, e⟩
theorem sB_cb {q n a t : Nat} {σ : Mm} (hs : mS σ q = 101) (hl : mL σ q = n) (ha : a < n) (hn : n < 2147483648) (ht : t < 256) : sB (some q) (N a) (cb t) σ = some (wA σ q (up1 (mI σ q) a (cb t))) := by
  simp only [sB, Option.bind_some]
  rw [if_pos ⟨hs, hl ▸ ix_ok ha hn⟩, N_idx (by omega), wI_wA, cb_88 t ht]
