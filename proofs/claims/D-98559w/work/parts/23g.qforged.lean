/-! THE PLAIN LAW, 110: forged, both sides joined -/
set_option maxRecDepth 100000
section
variable {np nh : Nat} {σ : Mm} {y z : Int32}
theorem M_fg_87 {s : Nat} (hs : s < 1024) (h : FM σ) (hnn : mI σ 63 3 = N np) (hn0 : np ≤ 10) (Kx : Int32 → Mm → Option (Int32 × Mm)) : ∀ (k i n : Nat) (o : Option Nat), i + k = s + 1 → (∀ b, o = some b → b < 1024) → k < n → FX8_forged_87 62 y (N s) n (oN o) (N i) σ Kx = Kx (oN (upM (fgU (mI σ 63) np y (N s)) k i o)) σ := by
  intro k
  induction k with
  | zero =>
    intro i n o hi _ hn
    obtain ⟨n, rfl⟩ : ∃ m, n = m + 1 := ⟨n - 1, by omega⟩
    rw [FX8_forged_87, if_pos (by rw [N_lt (by omega) (by omega)]; omega)]
    cases o <;> rfl
  | succ k ih =>
    intro i n o hi ho hn
    obtain ⟨n, rfl⟩ : ∃ m, n = m + 1 := ⟨n - 1, by omega⟩
    have s1 : N i = oN (some i) := rfl
    have p1 := pc_10 i (by omega)
    have ih1 := ih (i + 1) n (some i) (by omega) (fun b hb => by cases hb; omega) (by omega)
    have ih0 := ih (i + 1) n o (by omega) ho (by omega)
    have test : ∀ o', o' = o → ck 8 62 σ ((FX8_marksOf 62 (N i) σ).bind fun w => if (y &&& (w.1 ^^^ M1)) = N 0 then FX8_forged_87 62 y (N s) n (N i) (N (i + 1)) w.2 Kx else FX8_forged_87 62 y (N s) n (oN o) (N (i + 1)) w.2 Kx) = if y &&& (aMkO (mI σ 63) np (N i) ^^^ M1) = N 0 then Kx (oN (upM (fgU (mI σ 63) np y (N s)) k (i + 1) (some i))) σ else Kx (oN (upM (fgU (mI σ 63) np y (N s)) k (i + 1) o)) σ := fun o' _ => by
      rw [fm_ck h, M_mkO h hnn hn0, Option.bind_some]
      dsimp only
      by_cases c : y &&& (aMkO (mI σ 63) np (N i) ^^^ M1) = N 0
      · rw [if_pos c, if_pos c, s1, ih1]
      · rw [if_neg c, if_neg c, ih0]
    rw [FX8_forged_87, if_neg (by rw [N_lt (by omega) (by omega)]; omega), m1_, l1_, N_add, l0_]
    unfold jn
    dsimp only
    by_cases cs : N i &&& (N s ^^^ M1) = N 0
    · rw [if_pos cs]
      have u1 : fgU (mI σ 63) np y (N s) i = decide (y &&& (aMkO (mI σ 63) np (N i) ^^^ M1) = N 0) := by unfold fgU; rw [decide_eq_true cs, Bool.true_and]
      cases o with
      | none =>
        rw [if_pos (show oN none = M1 from rfl), test none rfl, upM, u1]
        by_cases c : y &&& (aMkO (mI σ 63) np (N i) ^^^ M1) = N 0
        · rw [if_pos c, if_pos (decide_eq_true c)]
        · rw [if_neg c, if_neg (by rw [decide_eq_false c]; decide)]
      | some b =>
        have hb := ho b rfl
        have p2 := pc_10 b hb
        rw [if_neg (show ¬ oN (some b) = M1 by show ¬ N b = M1; rw [N_m1 (by omega)]; exact id), M_bits (by omega), Option.bind_some, upM, u1]
        dsimp only
        rw [show FX8_bits (oN (some b)) σ = some (N (pc b), σ) from M_bits (by omega), Option.bind_some]
        dsimp only
        by_cases c2 : pc b ≤ pc i
        · rw [if_neg (show ¬ N (pc i) < N (pc b) by rw [N_lt (by omega) (by omega)]; omega), if_pos c2, ih0]
        · rw [if_pos (show N (pc i) < N (pc b) by rw [N_lt (by omega) (by omega)]; omega), if_neg c2, test (some b) rfl]
          by_cases c : y &&& (aMkO (mI σ 63) np (N i) ^^^ M1) = N 0
          · rw [if_pos c, if_pos (decide_eq_true c)]
          · rw [if_neg c, if_neg (by rw [decide_eq_false c]; decide)]
    · have u0 : fgU (mI σ 63) np y (N s) i = false := by unfold fgU; rw [decide_eq_false cs, Bool.false_and]
      rw [if_neg cs, ih0]
      cases o with
      | none => rw [upM, u0, if_neg (by decide)]
      | some b => rw [upM, u0]; split <;> rfl
theorem q_forged (K : Co np nh σ) (x : Int32) : QW (FX0_forged (some 0) x (some 75)) (FX8_forged 62 x) σ := by
  have hC := K.c; have h := K.m; have hn0 := K.n0
  obtain ⟨s, hs, es⟩ := aHang_N K.w
  have l255q : (255 : Int32) = N 255 := rfl
  have out : x < N 0 ∨ N 255 < x → QW (FX0_forged (some 0) x (some 75)) (FX8_forged 62 x) σ := fun hx => by
    refine QW_th (k := 1) (σ1 := σ) (σ2 := thr_ σ 1) (b := N 0) (c := 1) (z := 6) (by omega) ?_ (by omega) (by omega) ?_ rfl Kp.rf thr_k
    · unfold FX0_forged FX1_forged
      rw [fc_rv0 hC, Option.bind_some, l0_, l255q, C_in_out hx, Option.bind_some]
      dsimp only
      rw [C_dem_0, db_thw, dt_thw, if_pos rfl]
      rfl
    · unfold FX8_forged jn
      rw [l0_, l255q, M_isIn_out hx, Option.bind_some]
      dsimp only
      rw [if_pos (show N 0 = N 0 from rfl), l1_, fm_pI h, Option.bind_some, thr_w, fm_gI (FM_t h), Option.bind_some, thr_0, if_neg (by decide)]
  rcases N_in x 256 (by omega) with ⟨a, ha, rfl⟩ | hx
  · obtain ⟨w, hw⟩ : ∃ w, w = oN (dnO (fgU (mI σ 63) np (N a) (N s)) (s + 1) none) := ⟨_, rfl⟩
    refine QW_ok (σ1 := σ) (σ2 := thr_ (o75 σ w) 0) (v := w) (c := 0) (z := 0) ?_ (by omega) (by omega) ?_ rfl rfl Kp.rf thr_k
    · have sl : ∀ v, sL (some 75) (N 0) v σ = some (o75 σ v) := fun v => sL_w hC
      have f1 := C_hang_15 (y := N a) K (fun (x35 : Int32) (σ : Mm) => FX1_forged_68 0 (N a) x35 fu M1 x35 σ (fun (x48 : Int32) (σ : Mm) => rt (x48, σ))) nh 0 fu (N 0) (by omega) (by have := K.k0; unfold fu; omega)
      have f2 := C_fg_68 (y := N a) (z := N s) K (fun (x48 : Int32) (σ : Mm) => rt (x48, σ)) (s + 1) fu none (by omega) (fun b hb => by cases hb) (by unfold fu; omega)
      have es' : fd (fun h a => a ||| (if HA (mI σ 63) h = M1 then N 0 else N 1 <<< (HA (mI σ 63) h &&& N 31))) 0 nh (N 0) = N s := es
      have f2' : FX1_forged_68 0 (N a) (N s) fu M1 (N s) σ (fun (x48 : Int32) (σ : Mm) => rt (x48, σ)) = rt (w, σ) := by rw [hw]; exact f2
      unfold FX0_forged FX1_forged
      rw [fc_rv0 hC, Option.bind_some, l0_, l255q, C_in_in (by omega) (by omega) (by omega), Option.bind_some]
      dsimp only
      rw [C_dem_1, db_rt, m1_, f1, es', f2', dt_rt, sl, Option.bind_some]
      rfl
    · have h' : FM (thr_ (o75 σ w) 0) := FM_t (FM_o h)
      have e63 : mI (thr_ (o75 σ w) 0) 63 = mI σ 63 := rfl
      have f1 := M_hang_33 (y := N a) (nh := nh) (σ := thr_ (o75 σ w) 0) h' (by rw [e63]; exact K.k) K.k0 (fun (x35 : Int32) (σ : Mm) => FX8_forged_87 62 (N a) x35 fu M1 (N 0) σ (fun (x48 : Int32) (σ : Mm) => some (x48, σ))) nh 0 fu (N 0) (by omega) (by have := K.k0; unfold fu; omega)
      have f2 := M_fg_87 (y := N a) (σ := thr_ (o75 σ w) 0) hs h' (by rw [e63]; exact K.n) hn0 (fun (x48 : Int32) (σ : Mm) => some (x48, σ)) (s + 1) 0 fu none (by omega) (fun b hb => by cases hb) (by unfold fu; omega)
      rw [dnO_up, e63, ← hw] at f2
      rw [e63] at f1
      have es' : fd (fun h a => a ||| (if HA (mI σ 63) h = M1 then N 0 else N 1 <<< (HA (mI σ 63) h &&& N 31))) 0 nh (N 0) = N s := es
      have f2' : FX8_forged_87 62 (N a) (N s) fu M1 (N 0) (thr_ (o75 σ w) 0) (fun (x48 : Int32) (σ : Mm) => some (x48, σ)) = some (w, thr_ (o75 σ w) 0) := f2
      unfold FX8_forged jn
      rw [l0_, l255q, M_isIn_in (by omega) (by omega) (by omega), Option.bind_some]
      dsimp only
      rw [if_neg (show ¬ N 1 = N 0 by decide), fm_pI (FM_o h), Option.bind_some, thr_w, fm_gI h', Option.bind_some, thr_0, if_pos (by decide), m1_, f1, es', f2']
  · exact out (hx.imp id fun hx => by
      rw [Int32.le_iff_toInt_le, N_int (by omega)] at hx
      rw [Int32.lt_iff_toInt_lt, N_int (by omega)]; omega)
end
