/-! THE PLAIN LAW, 93: span -/
set_option maxRecDepth 100000
theorem imin_le {x y : Int32} : imin x y = if y ≤ x then y else x := by
  unfold imin
  by_cases h : y < x
  · rw [if_pos h, if_pos (by rw [Int32.le_iff_toInt_le]; rw [Int32.lt_iff_toInt_lt] at h; omega)]
  · rw [if_neg h]
    by_cases h2 : y ≤ x
    · rw [if_pos h2]
      apply Int32.toInt_inj.mp
      rw [Int32.le_iff_toInt_le] at h2; rw [Int32.lt_iff_toInt_lt] at h; omega
    · rw [if_neg h2]
theorem imax_le {x y : Int32} : imax x y = if x ≤ y then y else x := by
  unfold imax
  by_cases h : x < y
  · rw [if_pos h, if_pos (by rw [Int32.le_iff_toInt_le]; rw [Int32.lt_iff_toInt_lt] at h; omega)]
  · rw [if_neg h]
    by_cases h2 : x ≤ y
    · rw [if_pos h2]
      apply Int32.toInt_inj.mp
      rw [Int32.le_iff_toInt_le] at h2; rw [Int32.lt_iff_toInt_lt] at h; omega
    · rw [if_neg h2]
section
variable {np nh n L : Nat} {σ τ υ : Mm} {A Z : Nat → Int32} {v : Option Nat} {ls : List (Bool × Option Cn)}
theorem span_ok {a : Nat} (ha : a ≤ 30) (y : Int32) (I : Inv np nh n L σ) (hl : LWs (mR σ 1 19) (mI σ 63) ls σ) : ∀ (k : Nat) (acc : Int32), k ≤ 6 → ∃ r, (∀ τ n (K : Int32 → Mm → DX (Int32 × Mm)), (τ = σ ∨ OT (mR σ 1 19) σ τ) → k < n → ∃ υ, FX1_span_15 0 (N a) y n acc (N (7 - k)) τ K = K r υ ∧ (0 < k ∨ OT (mR σ 1 19) σ τ → OT (mR σ 1 19) σ υ)) ∧ ∀ v τ n (K : Int32 → Mm → Option (Int32 × Mm)), HS np nh v ls (mI σ 63) τ → (∀ j, j < 584 → mI τ 65 j = mI σ 63 j) → k < n → ∃ υ, FX8_span_37 62 (N a) y n acc (N (7 - k)) τ K = K r υ ∧ HS np nh v ls (mI σ 63) υ ∧ OM τ υ := by
  obtain ⟨K0, -⟩ := id I
  have hn0 := K0.1.n0
  have hA := K0.1.w
  have hC0 := K0.1.c
  intro k
  induction k with
  | zero =>
    intro acc _
    refine ⟨acc, fun τ n K h hn => ⟨τ, ?_, fun z => z.resolve_left (by omega)⟩, fun v τ n K h _ hn => ⟨τ, ?_, h, OM.rf⟩⟩
    · obtain ⟨n, rfl⟩ : ∃ z, n = z + 1 := ⟨n - 1, by omega⟩
      rw [FX1_span_15, l6_, if_pos (by rw [N_lt (by omega) (by omega)]; omega)]
    · obtain ⟨n, rfl⟩ : ∃ z, n = z + 1 := ⟨n - 1, by omega⟩
      rw [FX8_span_37, l6_, if_pos (by rw [N_lt (by omega) (by omega)]; omega)]
  | succ k ih =>
    intro acc hk
    have hA' : WF (up1 (mI σ 63) 9 (N (7 - (k + 1)))) np nh := WF_oth hA (by omega)
    have hR' : R0 (mI σ 63) (up1 (mI σ 63) 9 (N (7 - (k + 1)))) := fun j hj => if_neg (by omega)
    obtain ⟨w, w1, w2, w3⟩ := tries_ok ls (m := a) (by omega) hA'
    obtain ⟨r, r1, r2⟩ := ih (if acc = M1 then N w else if y = 0 then imin acc (N w) else imax acc (N w)) (by omega)
    refine ⟨r, fun τ n K h hn => ?_, fun v τ n K h h65 hn => ?_⟩
    · obtain ⟨n, rfl⟩ : ∃ z, n = z + 1 := ⟨n - 1, by omega⟩
      have hl' : ∃ υ, FX2_likens 50 (some 1) τ = some (some 50, υ) ∧ CS 50 np nh (mR σ 1 19) ls (mI σ 63) υ ∧ OT (mR σ 1 19) σ υ := by
        rcases h with rfl | h
        · exact T_likens0 I hl
        · exact T_likens I hl h
      have hC : FC τ := by
        rcases h with rfl | h
        · exact hC0
        · exact h.fc hC0
      obtain ⟨σ1, t1, t2, t3⟩ := hl'
      obtain ⟨-, hC1, -, hW1, hr1, -⟩ := id t2
      have ow : OW 50 σ1 (wA σ1 50 (up1 (mI σ1 50) 7 (N (7 - (k + 1))))) := OW.rf.w (by omega)
      have c2 : CS 50 np nh (mR σ 1 19) ls _ (wA σ1 50 (up1 (mI σ1 50) 7 (N (7 - (k + 1))))) := t2.go ow.oh (RW_fld (Or.inr ⟨rfl, rfl⟩) hn0 hr1) hA' hR'
      obtain ⟨φ, f1, f2⟩ := w2 _ _ c2
      have ot := (t3.oh ow.oh).oh f2
      obtain ⟨υ, u1, u2⟩ := r1 φ n K (Or.inr ot) (by omega)
      refine ⟨υ, ?_, fun _ => u2 (Or.inr ot)⟩
      rw [FX1_span_15, l6_, if_neg (by rw [N_lt (by omega) (by omega)]; omega), fc_gR0_10 hC, Option.bind_some, fc_gR0_0 hC, Option.bind_some, fw_rv hC.2.2.2.1, Option.bind_some, t1, Option.bind_some]
      dsimp only
      rw [fc_gR0_10 hC1, Option.bind_some, fw_pI hW1, Option.bind_some, fc_ck0 c2.2.1, f1, Option.bind_some]
      dsimp only
      rw [← u1, m1_]
      unfold jn
      dsimp only
      rw [l1_, N_add, show 7 - (k + 1) + 1 = 7 - k by omega]
      by_cases c : acc = M1
      · rw [if_pos c, if_pos c]
      · rw [if_neg c, if_neg c]
        by_cases cy : y = 0
        · rw [if_pos cy, if_pos cy]
        · rw [if_neg cy, if_neg cy]
    · obtain ⟨n, rfl⟩ : ∃ z, n = z + 1 := ⟨n - 1, by omega⟩
      obtain ⟨hM, hK, e, -⟩ := id h
      have h2 := h.go hA' hR'
      obtain ⟨φ, f1, f2, f3⟩ := w3 _ _ (mI σ 63) h2 hA (fun j hj => (hR' j hj).symm) (fun j hj => h65 j hj)
      have f65 : mI φ 65 = mI τ 65 := f3.2.2.2.2.1 65 (by omega) (by omega) (by omega)
      obtain ⟨υ, u1, u2, u3⟩ := r2 v φ n K f2 (fun j hj => by rw [f65]; exact h65 j hj) (by omega)
      refine ⟨υ, ?_, u2, (OM.w63.tr f3).tr u3⟩
      rw [FX8_span_37, l6_, if_neg (by rw [N_lt (by omega) (by omega)]; omega), fm_gR1 hM, Option.bind_some, l9_, fm_wr63 hM (by omega), Option.bind_some, e, fm_ck h2.1, f1, Option.bind_some]
      dsimp only
      rw [← u1, m1_]
      unfold jn
      dsimp only
      rw [l1_, N_add, show 7 - (k + 1) + 1 = 7 - k by omega]
      by_cases c : acc = M1
      · rw [if_pos c, if_pos c]
      · rw [if_neg c, if_neg c]
        by_cases cy : y = 0
        · rw [if_pos cy, if_pos cy, M_lesser, Option.bind_some, imin_le]
        · rw [if_neg cy, if_neg cy, M_greater, Option.bind_some, imax_le]
theorem q_span (I : Inv np nh n L σ) (x y : Int32) : QA (FX0_span (some 0) x y (some 75)) (FX8_span 62 x y) σ := by
  obtain ⟨K, hLW, hTP, hIM, hF, hB6⟩ := id I
  have hC := K.1.c; have h := K.1.m
  have out : x < N 0 ∨ N 30 < x → QA (FX0_span (some 0) x y (some 75)) (FX8_span 62 x y) σ := fun hx => by
    refine QA_qw K (QW_th (k := 1) (σ1 := σ) (σ2 := thr_ σ 1) (b := N 0) (c := 1) (z := 6) (by omega) ?_ (by omega) (by omega) ?_ rfl Kp.rf thr_k)
    · unfold FX0_span FX1_span
      rw [fc_rv0 hC, Option.bind_some, l0_, l30q, C_in_out hx, Option.bind_some]
      dsimp only
      rw [C_dem_0, db_thw, dt_thw, if_pos rfl]
      rfl
    · unfold FX8_span jn
      rw [l0_, l30q, M_isIn_out hx, Option.bind_some]
      dsimp only
      rw [if_pos (show N 0 = N 0 from rfl), l1_, fm_pI h, Option.bind_some, thr_w, fm_gI (FM_t h), Option.bind_some, thr_0, if_neg (by decide)]
  rcases N_in x 31 (by omega) with ⟨a, ha, rfl⟩ | hx
  · obtain ⟨ls, hl⟩ := hLW.lws
    obtain ⟨r, r1, r2⟩ := span_ok (a := a) (by omega) y I hl 6 M1 (by omega)
    obtain ⟨τ, u1, u2⟩ := r1 σ fu (fun (x39 : Int32) (σ : Mm) => rt (x39, σ)) (Or.inl rfl) (by unfold fu; omega)
    have ot := u2 (Or.inl (by omega))
    obtain ⟨f, f1, f2, f3⟩ := puts_ok (x := r) I hl ot
    obtain ⟨υ, y1, y2, y3⟩ := r2 _ _ fu (fun (x41 : Int32) (σ : Mm) => some (x41, σ)) f2 f3 (by unfold fu; omega)
    obtain ⟨g1, g2⟩ := back_ok I ot y3 y2.2.2.1 y2.2.2.2.2.2
    have hCτ := ot.fc hC
    have hMτ : FM (o75 τ r) := f2.1
    have e0 : mI υ 62 0 = N 0 := (y3.2.2.2.2.2 0 (by omega)).trans rfl
    have e75 : mI υ 75 0 = r := by rw [y3.2.2.2.2.1 75 (by omega) (by omega) (by omega)]; rfl
    refine ⟨N 0, o75 τ r, r, υ, 0, 0, np, nh, n, ?_, by omega, by omega, ?_, e0, fun _ => e75, g1, g2⟩
    · unfold FX0_span FX1_span
      rw [fc_rv0 hC, Option.bind_some, l0_, l30q, C_in_in (by omega) (by omega) (by omega), Option.bind_some]
      dsimp only
      have sl : sL (some 75) (N 0) r τ = some (o75 τ r) := sL_w hCτ
      rw [C_dem_1, db_rt, m1_, l1_, u1, dt_rt, sl, Option.bind_some]
      rfl
    · unfold FX8_span jn
      rw [l0_, l30q, M_isIn_in (by omega) (by omega) (by omega), Option.bind_some]
      dsimp only
      rw [if_neg (show ¬ N 1 = N 0 by decide), fm_pI hMτ, Option.bind_some, thr_w, fm_gI (FM_t hMτ), Option.bind_some, thr_0, if_pos (by decide), fm_ck (FM_t hMτ), f1, Option.bind_some, m1_, l1_, y1]
  · exact out (hx.imp id fun hx => by
      rw [Int32.le_iff_toInt_le, N_int (by omega)] at hx
      rw [Int32.lt_iff_toInt_lt, N_int (by omega)]; omega)
end
