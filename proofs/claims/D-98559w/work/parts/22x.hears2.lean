/-! THE PLAIN LAW, 103: what is heard, both sides -/
set_option maxRecDepth 100000
section
variable {np nh n L : Nat} {σ τ υ : Mm} {A B : Nat → Int32} {v : Option Nat} {ls : List (Bool × Option Cn)}
theorem M_hears_71 {y1 y2 y3 : Int32} {i : Nat} : ∀ (k j n : Nat) (A : Nat → Int32) (σ : Mm) (K : Mm → Option (Int32 × Mm)), i < j → j + k = np → k < n → HS np nh v ls A σ → ∃ τ, FX8_hears_2_71 62 y1 y2 y3 (N i) n (N j) σ K = K τ ∧ HS np nh v ls (aIn i k j A) τ ∧ OM σ τ := by
  intro k
  induction k with
  | zero =>
    intro j n A σ K hij hj hn h
    obtain ⟨n, rfl⟩ : ∃ m, n = m + 1 := ⟨n - 1, by omega⟩
    obtain ⟨hM, hK, e, hA, hl, hb⟩ := id h
    have hn0 := hA.1.2.1
    refine ⟨σ, ?_, h, OM.rf⟩
    rw [FX8_hears_2_71, fm_gR1 hM, Option.bind_some, l3_, fm_rd63 hM (by omega), Option.bind_some, e, hA.1.1, if_pos (by rw [N_le (by omega) (by omega)]; omega)]
  | succ k ih =>
    intro j n A σ K hij hj hn h
    obtain ⟨n, rfl⟩ : ∃ m, n = m + 1 := ⟨n - 1, by omega⟩
    obtain ⟨hM, hK, e, hA, hl, hb⟩ := id h
    have hn0 := hA.1.2.1
    obtain ⟨o1, o2⟩ := aOne_ok hA (show i < np by omega) (show j < np by omega)
    rw [FX8_hears_2_71, fm_gR1 hM, Option.bind_some, l3_, fm_rd63 hM (by omega), Option.bind_some, e, hA.1.1, if_neg (by rw [N_le (by omega) (by omega)]; omega), fm_ck hM, l5_, M_of hM (by omega) (by omega), Option.bind_some, e]
    dsimp only
    rw [M_isOf, Option.bind_some, l1_, N_add]
    dsimp only
    have same : aOne A i j = A → ∃ τ, FX8_hears_2_71 62 y1 y2 y3 (N i) n (N (j + 1)) σ K = K τ ∧ HS np nh v ls (aIn i (k + 1) j A) τ ∧ OM σ τ := fun e => by
      obtain ⟨τ, t1, t2, t3⟩ := ih (j + 1) n A σ K (by omega) (by omega) (by omega) h
      refine ⟨τ, t1, ?_, t3⟩
      show HS np nh v ls (aIn i k (j + 1) (aOne A i j)) τ
      rw [e]; exact t2
    by_cases c1 : ((PA A i 5 >>> (N j &&& N 31)) &&& N 1) = N 1
    · rw [if_pos c1, if_neg (show ¬ N 1 = 0 by decide), fm_ck hM, M_of hM (by omega) (by omega), Option.bind_some, e]
      dsimp only
      rw [M_isOf, Option.bind_some]
      dsimp only
      by_cases c2 : ((PA A j 5 >>> (N i &&& N 31)) &&& N 1) = N 1
      · have e1 : aOne A i j = aMeets A i j := by unfold aOne; rw [if_pos c1, if_pos c2]
        obtain ⟨τ, t1, t2, t3⟩ := ih (j + 1) n _ _ K (by omega) (by omega) (by omega) (h.go o1 o2)
        refine ⟨τ, ?_, t2, OM.w63.tr t3⟩
        rw [if_pos c2, if_neg (show ¬ N 1 = 0 by decide), fm_ck hM, M_meets hM (by omega) (by omega) (by omega), Option.bind_some, e]
        dsimp only
        rw [← e1, t1]
      · rw [if_neg c2, if_pos (show N 0 = 0 from rfl)]
        exact same (by unfold aOne; rw [if_pos c1, if_neg c2])
    · rw [if_neg c1, if_pos (show N 0 = 0 from rfl)]
      exact same (by unfold aOne; rw [if_neg c1])
theorem M_hears_54 {y1 y2 y3 : Int32} : ∀ (k i n : Nat) (A : Nat → Int32) (σ : Mm) (K : Mm → Option (Int32 × Mm)), i + k = np → k < n → HS np nh v ls A σ → ∃ τ, FX8_hears_2_54 62 y1 y2 y3 n (N i) σ K = K τ ∧ HS np nh v ls (aOut np k i A) τ ∧ OM σ τ := by
  intro k
  induction k with
  | zero =>
    intro i n A σ K hi hn h
    obtain ⟨n, rfl⟩ : ∃ m, n = m + 1 := ⟨n - 1, by omega⟩
    obtain ⟨hM, hK, e, hA, hl, hb⟩ := id h
    have hn0 := hA.1.2.1
    refine ⟨σ, ?_, h, OM.rf⟩
    rw [FX8_hears_2_54, fm_gR1 hM, Option.bind_some, l3_, fm_rd63 hM (by omega), Option.bind_some, e, hA.1.1, if_pos (by rw [N_le (by omega) (by omega)]; omega)]
  | succ k ih =>
    intro i n A σ K hi hn h
    obtain ⟨n, rfl⟩ : ∃ m, n = m + 1 := ⟨n - 1, by omega⟩
    obtain ⟨hM, hK, e, hA, hl, hb⟩ := id h
    have hn0 := hA.1.2.1
    obtain ⟨τ, t1, t2, t3⟩ := M_hears_71 (y1 := y1) (y2 := y2) (y3 := y3) (i := i) (np - (i + 1)) (i + 1) fu A σ (fun (σ : Mm) => FX8_hears_2_54 62 y1 y2 y3 n (N (i + 1)) σ K) (by omega) (by omega) (by unfold fu; omega) h
    obtain ⟨υ, u1, u2, u3⟩ := ih (i + 1) n _ τ K (by omega) (by omega) t2
    refine ⟨υ, ?_, u2, t3.tr u3⟩
    rw [FX8_hears_2_54, fm_gR1 hM, Option.bind_some, l3_, fm_rd63 hM (by omega), Option.bind_some, e, hA.1.1, if_neg (by rw [N_le (by omega) (by omega)]; omega), l1_, N_add, t1, u1]
theorem M_hears_46 {y1 : Int32} {m : Nat} (hm : m ≤ 1000) : ∀ (k n : Nat) (A : Nat → Int32) (σ : Mm) (K : Mm → Option (Int32 × Mm)), k ≤ m → k < n → HS np nh v ls A σ → ∃ τ, FX8_hears_2_46 62 y1 (N m) n (N (m - k)) σ K = K τ ∧ HS np nh v ls (aDays np k A) τ ∧ OM σ τ := by
  intro k
  induction k with
  | zero =>
    intro n A σ K hk hn h
    obtain ⟨n, rfl⟩ : ∃ m, n = m + 1 := ⟨n - 1, by omega⟩
    refine ⟨σ, ?_, h, OM.rf⟩
    rw [FX8_hears_2_46, if_pos (by rw [N_le (by omega) (by omega)]; omega)]
  | succ k ih =>
    intro n A σ K hk hn h
    obtain ⟨n, rfl⟩ : ∃ m, n = m + 1 := ⟨n - 1, by omega⟩
    have hn0 := h.2.2.2.1.1.2.1
    obtain ⟨τ, t1, t2, t3⟩ := M_hears_54 (y1 := y1) (y2 := N m) (y3 := N (m - (k + 1))) np 0 fu A σ (fun (σ : Mm) => FX8_hears_2_46 62 y1 (N m) n (N (m - k)) σ K) (by omega) (by unfold fu; omega) h
    obtain ⟨υ, u1, u2, u3⟩ := ih n _ τ K (by omega) (by omega) t2
    refine ⟨υ, ?_, u2, t3.tr u3⟩
    rw [FX8_hears_2_46, if_neg (by rw [N_le (by omega) (by omega)]; omega), l1_, N_add, show m - (k + 1) + 1 = m - k by omega, l0_, t1, u1]
theorem q_hears (I : Inv np nh n L σ) (x y : Int32) : QA (FX0_hears (some 0) x y (some 75)) (FX8_hears_2 62 x y) σ := by
  obtain ⟨K, hLW, hTP, hIM, hF, hB6⟩ := id I
  have hC := K.1.c; have h := K.1.m
  have hn0 := K.1.n0
  rcases N_in x np (by omega) with ⟨p, hp, rfl⟩ | hx
  · have out : y < N 0 ∨ N 20 < y → QA (FX0_hears (some 0) (N p) y (some 75)) (FX8_hears_2 62 (N p) y) σ := fun hy => by
      refine QA_qw K (QW_th (k := 2) (σ1 := σ) (σ2 := thr_ σ 2) (b := N 0) (c := 1) (z := 6) (by omega) ?_ (by omega) (by omega) ?_ rfl Kp.rf thr_k)
      · unfold FX0_hears FX1_hears
        rw [fc_rv0 hC, Option.bind_some, fc_ck0 hC, C_person_in K.1 hp, db_rt, l0_, l20_, C_in_out hy, Option.bind_some]
        dsimp only
        rw [C_dem_0, db_thw, dt_thw, if_neg (by decide), if_pos rfl]
        rfl
      · unfold FX8_hears_2 jn
        rw [fm_ck h, M_isPerson_in h K.1.n hn0 hp, Option.bind_some]
        dsimp only
        rw [if_neg (show ¬ N 1 = 0 by decide), l0_, l20_, M_isIn_out hy, Option.bind_some]
        dsimp only
        rw [if_pos rfl, l2_, fm_pI h, Option.bind_some, thr_w, fm_gI (FM_t h), Option.bind_some, thr_0, if_neg (by decide)]
    rcases N_in y 21 (by omega) with ⟨a, ha, rfl⟩ | hy
    · obtain ⟨ls, hl⟩ := hLW.lws
      obtain ⟨σ1, t1, t2, t3⟩ := T_likens0 I hl
      obtain ⟨τ, u1, u2, u3⟩ := C_hears_30 (y1 := N p) (m := a) (by omega) a fu _ σ1 (fun (σ : Mm) => (gR 2 13 (some 50) σ).bind fun x50 => (aI 100 x50 (N p) σ).bind fun x51 => rt (x51, σ)) (by omega) (by unfold fu; omega) t2
      obtain ⟨hb1, hb2⟩ := aDays_ok a _ K.1.w
      have ot := t3.oh u3
      obtain ⟨w, hw⟩ : ∃ w, w = PA (aDays np a (mI σ 63)) p 5 := ⟨_, rfl⟩
      obtain ⟨f, f1, f2, f3⟩ := puts_ok (x := w) I hl ot
      obtain ⟨υ, y1, y2, y3⟩ := M_hears_46 (y1 := N p) (m := a) (by omega) a fu _ _ (fun (σ : Mm) => ck 8 62 σ <| (FX8_of 62 (N p) (N 5) σ).bind fun (x52, σ53) => ck 8 62 σ53 <| (FX8_comesBack 62 σ53).bind fun σ55 => some (x52, σ55)) (by omega) (by unfold fu; omega) f2
      rw [Nat.sub_self] at u1 y1
      obtain ⟨hMυ, -, eυ, -⟩ := id y2
      have eZ : fl (mI υ 63) (mI υ 65) 0 584 = mI σ 63 := by
        funext j
        unfold fl
        rw [eυ, y3.2.2.2.2.1 65 (by omega) (by omega) (by omega)]
        by_cases hj : 0 ≤ j ∧ j < 584
        · rw [if_pos hj]; exact f3 j hj.2
        · rw [if_neg hj]; exact hb2 j (by omega)
      have hgo := y2.go (B := mI σ 63) K.1.w (fun j hj => (hb2 j hj).symm)
      obtain ⟨g1, g2⟩ := back_ok (x := w) I ot (y3.tr (OM.w63 (f := mI σ 63))) rfl hgo.2.2.2.2.2
      have hCτ := ot.fc hC
      have hMτ : FM (o75 τ w) := f2.1
      have e0 : mI (wA υ 63 (mI σ 63)) 62 0 = N 0 := (y3.2.2.2.2.2 0 (by omega)).trans rfl
      have e75 : mI (wA υ 63 (mI σ 63)) 75 0 = w := by
        rw [mI_wA, if_neg (by omega), y3.2.2.2.2.1 75 (by omega) (by omega) (by omega)]; rfl
      refine ⟨N 0, o75 τ w, w, wA υ 63 (mI σ 63), 0, 0, np, nh, n, ?_, by omega, by omega, ?_, e0, fun _ => e75, g1, g2⟩
      · obtain ⟨-, -, -, hWτ, hrτ, -⟩ := id u2
        unfold FX0_hears FX1_hears
        rw [fc_rv0 hC, Option.bind_some, fc_ck0 hC, C_person_in K.1 hp, db_rt, l0_, l20_, C_in_in (by omega) (by omega) (by omega), Option.bind_some]
        dsimp only
        have sl : sL (some 75) (N 0) w τ = some (o75 τ w) := sL_w hCτ
        rw [C_dem_1, db_rt, fc_gR0_10 hC, Option.bind_some, fc_gR0_0 hC, Option.bind_some, fw_rv hC.2.2.2.1, Option.bind_some, t1, Option.bind_some]
        dsimp only
        rw [u1, fw_gR13 hWτ, Option.bind_some, fw_rd6 hWτ (by omega), Option.bind_some, rwK hrτ (by omega), ← hw, dt_rt, sl, Option.bind_some]
        rfl
      · unfold FX8_hears_2 jn
        rw [fm_ck hMτ, M_isPerson_in hMτ (show mI (o75 τ w) 63 3 = N np from by rw [show mI (o75 τ w) 63 = mI σ 63 from ot.2.2.2.2.2 63 (by omega) (by omega)]; exact K.1.n) hn0 hp, Option.bind_some]
        dsimp only
        rw [if_neg (show ¬ N 1 = 0 by decide), l0_, l20_, M_isIn_in (by omega) (by omega) (by omega), Option.bind_some]
        dsimp only
        rw [if_neg (show ¬ N 1 = N 0 by decide), fm_pI hMτ, Option.bind_some, thr_w, fm_gI (FM_t hMτ), Option.bind_some, thr_0, if_pos (by decide), fm_ck (FM_t hMτ), f1, Option.bind_some, l5_, y1, fm_ck hMυ, M_of hMυ (by omega) (by omega), Option.bind_some, eυ, ← hw]
        dsimp only
        rw [fm_ck hMυ, M_back hMυ, Option.bind_some, eZ]
    · exact out (hy.imp id fun hy => by
        rw [Int32.le_iff_toInt_le, N_int (by omega)] at hy
        rw [Int32.lt_iff_toInt_lt, N_int (by omega)]; omega)
  · refine QA_qw K (QW_th (k := 1) (σ1 := σ) (σ2 := thr_ σ 1) (b := N 0) (c := 1) (z := 6) (by omega) ?_ (by omega) (by omega) ?_ rfl Kp.rf thr_k)
    · unfold FX0_hears FX1_hears
      rw [fc_rv0 hC, Option.bind_some, fc_ck0 hC, C_person_out K.1 hx, db_thw, dt_thw, if_pos rfl]
      rfl
    · unfold FX8_hears_2 jn
      rw [fm_ck h, M_isPerson_out h K.1.n hn0 hx, Option.bind_some]
      dsimp only
      rw [if_pos (show N 0 = 0 from rfl), l1_, fm_pI h, Option.bind_some, thr_w, fm_gI (FM_t h), Option.bind_some, thr_0, if_neg (by decide)]
      rfl
end
