/-! THE PLAIN LAW, 102: what is heard -/
set_option maxRecDepth 100000
def aOne (A : Nat → Int32) (i j : Nat) : Nat → Int32 := if ((PA A i 5 >>> (N j &&& N 31)) &&& N 1) = N 1 then (if ((PA A j 5 >>> (N i &&& N 31)) &&& N 1) = N 1 then aMeets A i j else A) else A
def aIn (i : Nat) : Nat → Nat → (Nat → Int32) → Nat → Int32
  | 0, _, A => A
  | k + 1, j, A => aIn i k (j + 1) (aOne A i j)
def aOut (np : Nat) : Nat → Nat → (Nat → Int32) → Nat → Int32
  | 0, _, A => A
  | k + 1, i, A => aOut np k (i + 1) (aIn i (np - (i + 1)) (i + 1) A)
def aDays (np : Nat) : Nat → (Nat → Int32) → Nat → Int32
  | 0, A => A
  | k + 1, A => aDays np k (aOut np np 0 A)
section
variable {np nh n L : Nat} {σ τ υ : Mm} {A B : Nat → Int32} {v : Option Nat} {ls : List (Bool × Option Cn)}
theorem aOne_ok {i j : Nat} (hA : WF A np nh) (hi : i < np) (hj : j < np) : WF (aOne A i j) np nh ∧ R0 A (aOne A i j) := by
  have hn0 := hA.1.2.1
  unfold aOne
  split
  · split
    · exact ⟨WF_meets hA hi hj, aMeets_o (by omega) (by omega)⟩
    · exact ⟨hA, fun _ _ => rfl⟩
  · exact ⟨hA, fun _ _ => rfl⟩
theorem aIn_ok {i : Nat} (hi : i < np) : ∀ k j A, j + k = np → WF A np nh → WF (aIn i k j A) np nh ∧ R0 A (aIn i k j A) := by
  intro k
  induction k with
  | zero => intro j A _ hA; exact ⟨hA, fun _ _ => rfl⟩
  | succ k ih =>
    intro j A hj hA
    obtain ⟨h1, h2⟩ := aOne_ok hA hi (show j < np by omega)
    obtain ⟨h3, h4⟩ := ih (j + 1) _ (by omega) h1
    exact ⟨h3, h2.tr h4⟩
theorem aOut_ok : ∀ k i A, i + k = np → WF A np nh → WF (aOut np k i A) np nh ∧ R0 A (aOut np k i A) := by
  intro k
  induction k with
  | zero => intro j A _ hA; exact ⟨hA, fun _ _ => rfl⟩
  | succ k ih =>
    intro i A hi hA
    obtain ⟨h1, h2⟩ := aIn_ok (show i < np by omega) (np - (i + 1)) (i + 1) A (by omega) hA
    obtain ⟨h3, h4⟩ := ih (i + 1) _ (by omega) h1
    exact ⟨h3, h2.tr h4⟩
theorem aDays_ok : ∀ k A, WF A np nh → WF (aDays np k A) np nh ∧ R0 A (aDays np k A) := by
  intro k
  induction k with
  | zero => intro A hA; exact ⟨hA, fun _ _ => rfl⟩
  | succ k ih =>
    intro A hA
    obtain ⟨h1, h2⟩ := aOut_ok np 0 A (by omega) hA
    obtain ⟨h3, h4⟩ := ih _ h1
    exact ⟨h3, h2.tr h4⟩
theorem C_hears_54 {y1 y2 y4 : Int32} {i : Nat} : ∀ (k j n : Nat) (A : Nat → Int32) (σ : Mm) (K : Mm → DX (Int32 × Mm)), i < j → j + k = np → k < n → CS 50 np nh v ls A σ → ∃ τ, FX1_hears_54 y1 y2 (some 50) y4 (N i) n (N j) σ K = K τ ∧ CS 50 np nh v ls (aIn i k j A) τ ∧ OH 50 σ τ := by
  intro k
  induction k with
  | zero =>
    intro j n A σ K hij hj hn h
    obtain ⟨n, rfl⟩ : ∃ m, n = m + 1 := ⟨n - 1, by omega⟩
    obtain ⟨hb, hC, hK, hW, hr, hA, hv, hl⟩ := id h
    have hn0 := hA.1.2.1
    refine ⟨σ, ?_, h, OH.rf⟩
    rw [FX1_hears_54, fw_gI hW, Option.bind_some, rw1 hr, hA.1.1, if_pos (by rw [N_le (by omega) (by omega)]; omega)]
  | succ k ih =>
    intro j n A σ K hij hj hn h
    obtain ⟨n, rfl⟩ : ∃ m, n = m + 1 := ⟨n - 1, by omega⟩
    obtain ⟨hb, hC, hK, hW, hr, hA, hv, hl⟩ := id h
    have hn0 := hA.1.2.1
    obtain ⟨o1, o2⟩ := aOne_ok hA (show i < np by omega) (show j < np by omega)
    rw [FX1_hears_54, fw_gI hW, Option.bind_some, rw1 hr, hA.1.1, if_neg (by rw [N_le (by omega) (by omega)]; omega), fw_gR13 hW, Option.bind_some, fw_rd6 hW (by omega), Option.bind_some, rwK hr (by omega), C_has, Option.bind_some, l1_, N_add]
    dsimp only
    have same : aOne A i j = A → ∃ τ, FX1_hears_54 y1 y2 (some 50) y4 (N i) n (N (j + 1)) σ K = K τ ∧ CS 50 np nh v ls (aIn i (k + 1) j A) τ ∧ OH 50 σ τ := fun e => by
      obtain ⟨τ, t1, t2, t3⟩ := ih (j + 1) n A σ K (by omega) (by omega) (by omega) h
      refine ⟨τ, t1, ?_, t3⟩
      show CS 50 np nh v ls (aIn i k (j + 1) (aOne A i j)) τ
      rw [e]; exact t2
    by_cases c1 : ((PA A i 5 >>> (N j &&& N 31)) &&& N 1) = N 1
    · rw [if_pos c1, if_neg (show ¬ N 1 = 0 by decide), fw_gR13 hW, Option.bind_some, fw_rd6 hW (by omega), Option.bind_some, rwK hr (by omega), C_has, Option.bind_some]
      dsimp only
      by_cases c2 : ((PA A j 5 >>> (N i &&& N 31)) &&& N 1) = N 1
      · obtain ⟨υ, u1, u2, u3⟩ := W_meets (p := i) (q := j) hn0 (by omega) (by omega) (by omega) hW hr
        have e : aOne A i j = aMeets A i j := by unfold aOne; rw [if_pos c1, if_pos c2]
        rw [← e] at u2
        obtain ⟨τ, t1, t2, t3⟩ := ih (j + 1) n _ υ K (by omega) (by omega) (by omega) (h.go u3.oh u2 o1 o2)
        refine ⟨τ, ?_, t2, u3.oh.tr t3⟩
        rw [if_pos c2, if_neg (show ¬ N 1 = 0 by decide), fw_rv hW, Option.bind_some, u1, Option.bind_some, t1]
      · rw [if_neg c2, if_pos (show N 0 = 0 from rfl)]
        exact same (by unfold aOne; rw [if_pos c1, if_neg c2])
    · rw [if_neg c1, if_pos (show N 0 = 0 from rfl)]
      exact same (by unfold aOne; rw [if_neg c1])
theorem C_hears_39 {y1 y2 y4 : Int32} : ∀ (k i n : Nat) (A : Nat → Int32) (σ : Mm) (K : Mm → DX (Int32 × Mm)), i + k = np → k < n → CS 50 np nh v ls A σ → ∃ τ, FX1_hears_39 y1 y2 (some 50) y4 n (N i) σ K = K τ ∧ CS 50 np nh v ls (aOut np k i A) τ ∧ OH 50 σ τ := by
  intro k
  induction k with
  | zero =>
    intro i n A σ K hi hn h
    obtain ⟨n, rfl⟩ : ∃ m, n = m + 1 := ⟨n - 1, by omega⟩
    obtain ⟨hb, hC, hK, hW, hr, hA, hv, hl⟩ := id h
    have hn0 := hA.1.2.1
    refine ⟨σ, ?_, h, OH.rf⟩
    rw [FX1_hears_39, fw_gI hW, Option.bind_some, rw1 hr, hA.1.1, if_pos (by rw [N_le (by omega) (by omega)]; omega)]
  | succ k ih =>
    intro i n A σ K hi hn h
    obtain ⟨n, rfl⟩ : ∃ m, n = m + 1 := ⟨n - 1, by omega⟩
    obtain ⟨hb, hC, hK, hW, hr, hA, hv, hl⟩ := id h
    have hn0 := hA.1.2.1
    obtain ⟨τ, t1, t2, t3⟩ := C_hears_54 (y1 := y1) (y2 := y2) (y4 := y4) (i := i) (np - (i + 1)) (i + 1) fu A σ (fun (σ : Mm) => FX1_hears_39 y1 y2 (some 50) y4 n (N (i + 1)) σ K) (by omega) (by omega) (by unfold fu; omega) h
    obtain ⟨υ, u1, u2, u3⟩ := ih (i + 1) n _ τ K (by omega) (by omega) t2
    refine ⟨υ, ?_, u2, t3.tr u3⟩
    rw [FX1_hears_39, fw_gI hW, Option.bind_some, rw1 hr, hA.1.1, if_neg (by rw [N_le (by omega) (by omega)]; omega), l1_, N_add, t1, u1]
theorem C_hears_30 {y1 : Int32} {m : Nat} (hm : m ≤ 1000) : ∀ (k n : Nat) (A : Nat → Int32) (σ : Mm) (K : Mm → DX (Int32 × Mm)), k ≤ m → k < n → CS 50 np nh v ls A σ → ∃ τ, FX1_hears_30 y1 (N m) (some 50) n (N (m - k)) σ K = K τ ∧ CS 50 np nh v ls (aDays np k A) τ ∧ OH 50 σ τ := by
  intro k
  induction k with
  | zero =>
    intro n A σ K hk hn h
    obtain ⟨n, rfl⟩ : ∃ m, n = m + 1 := ⟨n - 1, by omega⟩
    refine ⟨σ, ?_, h, OH.rf⟩
    rw [FX1_hears_30, if_pos (by rw [N_le (by omega) (by omega)]; omega)]
  | succ k ih =>
    intro n A σ K hk hn h
    obtain ⟨n, rfl⟩ : ∃ m, n = m + 1 := ⟨n - 1, by omega⟩
    have hn0 := h.2.2.2.2.2.1.1.2.1
    obtain ⟨τ, t1, t2, t3⟩ := C_hears_39 (y1 := y1) (y2 := N m) (y4 := N (m - (k + 1))) np 0 fu A σ (fun (σ : Mm) => FX1_hears_30 y1 (N m) (some 50) n (N (m - k)) σ K) (by omega) (by unfold fu; omega) h
    obtain ⟨υ, u1, u2, u3⟩ := ih n _ τ K (by omega) (by omega) t2
    refine ⟨υ, ?_, u2, t3.tr u3⟩
    rw [FX1_hears_30, if_neg (by rw [N_le (by omega) (by omega)]; omega), l1_, N_add, show m - (k + 1) + 1 = m - k by omega, l0_, t1, u1]
end
