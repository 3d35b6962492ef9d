/-! THE PLAIN LAW, 86: the thieving of an hour -/
set_option maxRecDepth 100000
def hq (A : Nat → Int32) : Nat → Bool := fun h => !decide (HA A h = M1)
def aRob (A : Nat → Int32) : Option Nat → Nat → Int32
  | none => A
  | some h => uP A (ix (HA A h)) 0 (PA A (ix (HA A h)) 0 &&& (PA A (ix (HA A h)) 0 - N 1))
theorem and_pred2 : ∀ x, x < 256 → N x &&& (N x - N 1) = N (x &&& (x - 1)) := fun x h => and_pred x (by omega)
theorem ng_M1 {d : Nat} : -(N d) + M1 = -(N (d + 1)) := by
  show -(N d) + (-(N 1)) = -(N (d + 1))
  rw [← N_add, Int32.neg_add, Int32.sub_eq_add_neg]
theorem ng_0 {d : Nat} (h1 : 1 ≤ d) (h2 : d < 2147483648) : ¬ -(N d) = 0 := fun h => by
  have : N d = N 0 := by rw [← @Int32.neg_neg (N d), h]; rfl
  rw [N_inj (by omega) (by omega)] at this
  omega
theorem aHung_N (A : Nat → Int32) (nh : Nat) : ∃ c, c ≤ nh ∧ aHung A nh = N c := by
  unfold aHung
  have := fd_inv (f := fun h a => a + (if HA A h = M1 then N 0 else N 1)) (fun i a => ∃ c, c ≤ i ∧ a = N c) nh 0 (N 0) ⟨0, Nat.le_refl 0, rfl⟩ (fun j a _ hj ⟨c, hc, e⟩ => by
    by_cases h : HA A j = M1
    · exact ⟨c, by omega, by rw [if_pos h, e, N_add]; rfl⟩
    · exact ⟨c + 1, by omega, by rw [if_neg h, e, N_add]⟩)
  rw [Nat.zero_add] at this
  exact this
section
variable {b np nh : Nat} {A B : Nat → Int32} {σ τ : Mm} {v : Option Nat} {ls : List (Bool × Option Cn)}
theorem face_N (hA : WF A np nh) {h : Nat} (hh : h < nh) (hn : HA A h ≠ M1) : ∃ f m, f < np ∧ m < 256 ∧ HA A h = N f ∧ PA A f 0 = N m := by
  rcases hA.2.2.1 h hh with e | ⟨f, hf, e⟩
  · exact absurd e hn
  · obtain ⟨-, -, -, ⟨m, hm, em⟩, -⟩ := hA.2.1 f hf
    exact ⟨f, m, hf, hm, e, em⟩
theorem aRob_ok (hA : WF A np nh) {h : Nat} (hh : h < nh) (hn : hq A h = true) : WF (aRob A (some h)) np nh ∧ R0 A (aRob A (some h)) := by
  have hn0 := hA.1.2.1
  obtain ⟨f, m, hf, hm, e, em⟩ := face_N hA hh (fun z => by unfold hq at hn; rw [decide_eq_true z] at hn; cases hn)
  show WF (uP A (ix (HA A h)) 0 (PA A (ix (HA A h)) 0 &&& (PA A (ix (HA A h)) 0 - N 1))) np nh ∧ R0 A (uP A (ix (HA A h)) 0 (PA A (ix (HA A h)) 0 &&& (PA A (ix (HA A h)) 0 - N 1)))
  rw [e, ix_N (by omega), em, and_pred2 m hm]
  exact ⟨WF_uP hA hf (Or.inl ⟨rfl, _, Nat.lt_of_le_of_lt Nat.and_le_left hm, rfl⟩), fun j hj => if_neg (by omega)⟩
theorem C_rob_done : ∀ (k i n d : Nat) (σ : Mm) (K : Mm → Option Mm), CS b np nh v ls A σ → i + k = nh → k < n → 1 ≤ d → d + k < 1000000 → FX1_thieving_42 (some b) n (-(N d)) (N i) σ K = K σ := by
  intro k
  induction k with
  | zero =>
    intro i n d σ K h hi hn hd hd2
    obtain ⟨n, rfl⟩ : ∃ m, n = m + 1 := ⟨n - 1, by omega⟩
    obtain ⟨hb, hC, hK, hW, hr, hA, hv, hl⟩ := id h
    have hk0 := hA.1.2.2.2.2.1
    rw [FX1_thieving_42, fw_gI hW, Option.bind_some, rw2 hr, hA.1.2.2.1, if_pos (by rw [N_le (by omega) (by omega)]; omega)]
  | succ k ih =>
    intro i n d σ K h hi hn hd hd2
    obtain ⟨n, rfl⟩ : ∃ m, n = m + 1 := ⟨n - 1, by omega⟩
    obtain ⟨hb, hC, hK, hW, hr, hA, hv, hl⟩ := id h
    have hk0 := hA.1.2.2.2.2.1
    rw [FX1_thieving_42, fw_gI hW, Option.bind_some, rw2 hr, hA.1.2.2.1, if_neg (by rw [N_le (by omega) (by omega)]; omega), fw_gR17 hW, Option.bind_some, fw_rd10 hW (by omega), Option.bind_some, rwH hr (by omega), m1_, l1_, N_add]
    by_cases c : HA A i = M1
    · rw [if_pos c]; exact ih _ _ _ _ _ h (by omega) (by omega) hd (by omega)
    · rw [if_neg c, if_neg (ng_0 hd (by omega)), ng_M1]; exact ih _ _ _ _ _ h (by omega) (by omega) (by omega) (by omega)
theorem C_rob : ∀ (k i n w : Nat) (σ : Mm) (K : Mm → Option Mm), CS b np nh v ls A σ → i + k = nh → k < n → w < 1000 → ∃ τ, FX1_thieving_42 (some b) n (N w) (N i) σ K = K τ ∧ CS b np nh v ls (aRob A (kth (hq A) k i w)) τ ∧ OH b σ τ := by
  intro k
  induction k with
  | zero =>
    intro i n w σ K h hi hn hw
    obtain ⟨n, rfl⟩ : ∃ m, n = m + 1 := ⟨n - 1, by omega⟩
    obtain ⟨hb, hC, hK, hW, hr, hA, hv, hl⟩ := id h
    have hk0 := hA.1.2.2.2.2.1
    refine ⟨σ, ?_, h, OH.rf⟩
    rw [FX1_thieving_42, fw_gI hW, Option.bind_some, rw2 hr, hA.1.2.2.1, if_pos (by rw [N_le (by omega) (by omega)]; omega)]
  | succ k ih =>
    intro i n w σ K h hi hn hw
    obtain ⟨n, rfl⟩ : ∃ m, n = m + 1 := ⟨n - 1, by omega⟩
    obtain ⟨hb, hC, hK, hW, hr, hA, hv, hl⟩ := id h
    have hk0 := hA.1.2.2.2.2.1
    have hn0 := hA.1.2.1
    rw [FX1_thieving_42, fw_gI hW, Option.bind_some, rw2 hr, hA.1.2.2.1, if_neg (by rw [N_le (by omega) (by omega)]; omega), fw_gR17 hW, Option.bind_some, fw_rd10 hW (by omega), Option.bind_some, rwH hr (by omega), m1_, l1_, N_add, kth]
    by_cases c : HA A i = M1
    · have hqi : hq A i = false := by unfold hq; rw [decide_eq_true c]; rfl
      rw [if_pos c, hqi]
      exact ih _ _ _ _ _ h (by omega) (by omega) hw
    · have hqi : hq A i = true := by unfold hq; rw [decide_eq_false c]; rfl
      obtain ⟨f, m, hf, hm, e, em⟩ := face_N hA (show i < nh by omega) c
      rw [if_neg c, hqi, if_pos rfl]
      by_cases cw : w = 0
      · subst cw
        obtain ⟨hB, hB0⟩ := aRob_ok hA (show i < nh by omega) hqi
        rw [if_pos (show N 0 = 0 from rfl), if_pos rfl]
        have ow : OW b σ (wA σ (b + 1) (up1 (mI σ (b + 1)) f (N m &&& (N m - N 1)))) := OW.rf.w (by omega)
        have hE : aRob A (some i) = uP A f 0 (N m &&& (N m - N 1)) := by
          show uP A (ix (HA A i)) 0 (PA A (ix (HA A i)) 0 &&& (PA A (ix (HA A i)) 0 - N 1)) = _
          rw [e, ix_N (by omega), em]
        have h' : CS b np nh v ls (aRob A (some i)) (wA σ (b + 1) (up1 (mI σ (b + 1)) f (N m &&& (N m - N 1)))) := by
          rw [hE] at hB hB0 ⊢
          exact h.go ow.oh (RW_P (v := 0) hn0 (by omega) (by omega) hr) hB hB0
        refine ⟨_, ?_, h', ow.oh⟩
        simp (disch := omega) only [Option.bind_some, fw_gR8 hW, fw_gR17 hW, fw_rd10 hW, fw_rd1 hW, rwH hr, rwF hr, e, em, fw_wr1 hW]
        rw [show N 0 + M1 = -(N 1) by decide]
        exact C_rob_done k (i + 1) n 1 _ K h' (by omega) (by omega) (by omega) (by omega)
      · obtain ⟨w, rfl⟩ : ∃ z, w = z + 1 := ⟨w - 1, by omega⟩
        have ev : ¬ N (w + 1) = 0 := fun z => by have : w + 1 = 0 := (N_inj (a := w + 1) (b := 0) (by omega) (by omega)).mp z; omega
        rw [if_neg ev, N_dec, if_neg cw]
        exact ih _ _ _ _ _ h (by omega) (by omega) (by omega)
end
