/-! THE PLAIN LAW, 97: count 4, end, ways -/
set_option maxRecDepth 100000
def chf (h : Nat) : Nat → Nat → Int32 → Int32
  | 0, _, v => v
  | d + 1, j, v => chf h d (j + 1) ((v * (N h - N j)) / N (j + 1))
def asf : Nat → Int32 → Int32 → Nat → Int32
  | 0, _, v2, _ => v2
  | d + 1, v1, v2, j => asf d v2 ((N j - N 1) * (v1 + v2)) (j + 1)
theorem dv_N {x : Int32} {j : Nat} (hj : j < 1000) : dv x (N (j + 1)) = some (x / N (j + 1)) := by
  unfold dv
  rw [if_neg (fun z => by have := (N_inj (a := j + 1) (b := 0) (by omega) (by omega)).mp z; omega)]
section
variable {np nh n L : Nat} {σ τ υ : Mm}
theorem C_choices_4 {h m : Nat} (hm : m ≤ 100) : ∀ (d n j : Nat) (v : Int32) (K : Int32 → Mm → Option (Int32 × Mm)), j + d = m → d < n → FX1_choices_4 (N h) (N m) n v (N j) σ K = K (chf h d j v) σ := by
  intro d
  induction d with
  | zero =>
    intro n j v K hj hn
    obtain ⟨n, rfl⟩ : ∃ m, n = m + 1 := ⟨n - 1, by omega⟩
    rw [FX1_choices_4, if_pos (by rw [N_le (by omega) (by omega)]; omega)]
    rfl
  | succ d ih =>
    intro n j v K hj hn
    obtain ⟨n, rfl⟩ : ∃ m, n = m + 1 := ⟨n - 1, by omega⟩
    rw [FX1_choices_4, if_neg (by rw [N_le (by omega) (by omega)]; omega), l1_, N_add, dv_N (by omega), Option.bind_some, ih n (j + 1) _ K (by omega) (by omega)]
    rfl
theorem M_ways_46 {h m : Nat} (hm : m ≤ 100) : ∀ (d n j : Nat) (v : Int32) (K : Int32 → Mm → Option (Int32 × Mm)), j + d = m → d < n → FX8_ways_46 (N m) (N h) n v (N j) σ K = K (chf h d j v) σ := by
  intro d
  induction d with
  | zero =>
    intro n j v K hj hn
    obtain ⟨n, rfl⟩ : ∃ m, n = m + 1 := ⟨n - 1, by omega⟩
    rw [FX8_ways_46, if_pos (by rw [N_le (by omega) (by omega)]; omega)]
    rfl
  | succ d ih =>
    intro n j v K hj hn
    obtain ⟨n, rfl⟩ : ∃ m, n = m + 1 := ⟨n - 1, by omega⟩
    rw [FX8_ways_46, if_neg (by rw [N_le (by omega) (by omega)]; omega), l1_, N_add, dv_N (by omega), Option.bind_some, ih n (j + 1) _ K (by omega) (by omega)]
    rfl
theorem C_astray_6 {m : Nat} (hm : m ≤ 100) : ∀ (d n j : Nat) (v1 v2 : Int32) (K : Int32 → Mm → Option (Int32 × Mm)), m + 1 - j = d → d < n → j ≤ 200 → FX1_astray_6 (N m) n v1 v2 (N j) σ K = K (asf d v1 v2 j) σ := by
  intro d
  induction d with
  | zero =>
    intro n j v1 v2 K hj hn h2
    obtain ⟨n, rfl⟩ : ∃ m, n = m + 1 := ⟨n - 1, by omega⟩
    rw [FX1_astray_6, if_pos (by rw [N_lt (by omega) (by omega)]; omega)]
    rfl
  | succ d ih =>
    intro n j v1 v2 K hj hn h2
    obtain ⟨n, rfl⟩ : ∃ m, n = m + 1 := ⟨n - 1, by omega⟩
    rw [FX1_astray_6, if_neg (by rw [N_lt (by omega) (by omega)]; omega), l1_, N_add, ih n (j + 1) _ _ K (by omega) (by omega) (by omega)]
    rfl
theorem M_none_12 {m : Nat} (hm : m ≤ 100) : ∀ (d n j : Nat) (v1 v2 : Int32) (K : Int32 → Mm → Option (Int32 × Mm)), m + 1 - j = d → d < n → j ≤ 200 → FX8_none_12 (N m) n v1 v2 (N j) σ K = K (asf d v1 v2 j) σ := by
  intro d
  induction d with
  | zero =>
    intro n j v1 v2 K hj hn h2
    obtain ⟨n, rfl⟩ : ∃ m, n = m + 1 := ⟨n - 1, by omega⟩
    rw [FX8_none_12, if_pos (by rw [N_lt (by omega) (by omega)]; omega)]
    rfl
  | succ d ih =>
    intro n j v1 v2 K hj hn h2
    obtain ⟨n, rfl⟩ : ∃ m, n = m + 1 := ⟨n - 1, by omega⟩
    rw [FX8_none_12, if_neg (by rw [N_lt (by omega) (by omega)]; omega), l1_, N_add, ih n (j + 1) _ _ K (by omega) (by omega) (by omega)]
    rfl
def strayed (m : Nat) : Int32 := if m = 0 then N 1 else asf (m - 1) (N 1) (N 0) 2
theorem C_astray {m : Nat} (hm : m ≤ 100) : FX1_astray (N m) σ = some (strayed m, σ) := by
  unfold FX1_astray strayed
  rw [l1_, l0_, l2_, C_astray_6 hm (m - 1) fu 2 _ _ _ (by omega) (by unfold fu; omega) (by omega)]
  by_cases h : m = 0
  · subst h; rw [if_pos rfl, if_pos rfl]
  · rw [if_neg h, if_neg (fun z => h ((N_inj (a := m) (b := 0) (by omega) (by omega)).mp z))]
theorem M_none {m : Nat} (hm : m ≤ 100) : FX8_none (N m) σ = some (strayed m, σ) := by
  unfold FX8_none strayed
  by_cases h : m = 0
  · subst h; rw [if_pos (show N 0 = 0 from rfl), if_pos rfl, l1_]
  · rw [l0_, if_neg h, if_neg (fun z => h ((N_inj (a := m) (b := 0) (by omega) (by omega)).mp z)), l1_, l2_, M_none_12 hm (m - 1) fu 2 _ _ _ (by omega) (by unfold fu; omega) (by omega)]
theorem q_ways (K : Co np nh σ) (x : Int32) : QW (FX0_ways (some 0) x (some 75)) (FX8_ways 62 x) σ := by
  have hC := K.c; have h := K.m; have hr := K.r; have hn0 := K.n0
  obtain ⟨s, hs0, es, -⟩ := aHolders_bits (mI σ 63) hn0
  have hs : s < 1024 := Nat.lt_of_lt_of_le hs0 (Nat.pow_le_pow_right (n := 2) (by omega) hn0)
  have hpc := pc_10 s hs
  have eW : FX2_withTickets 1 σ = some (N s, σ) := by rw [W_with hC.1 hr K.n hn0, es]
  have out : x < N 0 ∨ N 10 < x → QW (FX0_ways (some 0) x (some 75)) (FX8_ways 62 x) σ := fun hx => by
    refine QW_th (k := 1) (σ1 := σ) (σ2 := thr_ σ 1) (b := N 0) (c := 1) (z := 6) (by omega) ?_ (by omega) (by omega) ?_ rfl Kp.rf thr_k
    · unfold FX0_ways FX1_ways
      rw [fc_rv0 hC, Option.bind_some, l0_, l10_, C_in_out hx, Option.bind_some]
      dsimp only
      rw [C_dem_0, db_thw, dt_thw, if_pos rfl]
      rfl
    · unfold FX8_ways jn
      rw [l0_, l10_, M_isIn_out hx, Option.bind_some]
      dsimp only
      rw [if_pos (show N 0 = N 0 from rfl), l1_, fm_pI h, Option.bind_some, thr_w, fm_ck (FM_t h), M_holders (FM_t h) K.n hn0, Option.bind_some, thr_63, es]
      dsimp only
      rw [M_bits (by omega), Option.bind_some]
      dsimp only
      rw [fm_gI (FM_t h), Option.bind_some, thr_0, if_pos (by decide)]
  rcases N_in x 11 (by omega) with ⟨a, ha, rfl⟩ | hx
  · by_cases c : a ≤ pc s
    · refine QW_ok (σ1 := σ) (v := chf (pc s) a 0 (N 1) * strayed (pc s - a)) (c := 0) (z := 0) ?_ (by omega) (by omega) (?_ : FX8_ways 62 (N a) _ = some (_, thr_ (o75 σ _) 0)) rfl rfl Kp.rf thr_k
      · unfold FX0_ways FX1_ways
        rw [fc_rv0 hC, Option.bind_some, l0_, l10_, C_in_in (by omega) (by omega) (by omega), Option.bind_some]
        dsimp only
        have sl : ∀ v, sL (some 75) (N 0) v σ = some (o75 σ v) := fun v => sL_w hC
        unfold FX1_choices
        rw [C_dem_1, db_rt, fc_gR0_0 hC, Option.bind_some, fw_rv hC.1, Option.bind_some, eW, Option.bind_some]
        dsimp only
        rw [J_bitCount (by omega), Option.bind_some]
        dsimp only
        rw [if_pos (by rw [N_le (by omega) (by omega)]; exact c), l1_, l0_, C_choices_4 (by omega) a fu 0 _ _ (by omega) (by unfold fu; omega), Option.bind_some]
        dsimp only
        rw [N_sub c, C_astray (by omega), Option.bind_some]
        dsimp only
        rw [dt_rt, sl, Option.bind_some]
        rfl
      · have h' : FM (o75 σ (chf (pc s) a 0 (N 1) * strayed (pc s - a))) := FM_o h
        have e63 : mI (thr_ (o75 σ (chf (pc s) a 0 (N 1) * strayed (pc s - a))) 0) 63 = mI σ 63 := rfl
        unfold FX8_ways jn
        rw [l0_, l10_, M_isIn_in (by omega) (by omega) (by omega), Option.bind_some]
        dsimp only
        rw [if_neg (show ¬ N 1 = N 0 by decide), fm_pI h', Option.bind_some, thr_w, fm_ck (FM_t h'), M_holders (FM_t h') (by rw [e63]; exact K.n) hn0, Option.bind_some, e63, es]
        dsimp only
        rw [M_bits (by omega), Option.bind_some]
        dsimp only
        rw [fm_gI (FM_t h'), Option.bind_some, thr_0, if_neg (by decide), if_pos (by rw [N_le (by omega) (by omega)]; exact c), l1_, M_ways_46 (by omega) a fu 0 _ _ (by omega) (by unfold fu; omega), N_sub c, M_none (by omega), Option.bind_some]
    · refine QW_ok (σ1 := σ) (σ2 := thr_ (o75 σ (N 0)) 0) (v := N 0) (c := 0) (z := 0) ?_ (by omega) (by omega) ?_ rfl rfl Kp.rf thr_k
      · unfold FX0_ways FX1_ways
        rw [fc_rv0 hC, Option.bind_some, l0_, l10_, C_in_in (by omega) (by omega) (by omega), Option.bind_some]
        dsimp only
        have sl : ∀ v, sL (some 75) (N 0) v σ = some (o75 σ v) := fun v => sL_w hC
        rw [C_dem_1, db_rt, fc_gR0_0 hC, Option.bind_some, fw_rv hC.1, Option.bind_some, eW, Option.bind_some]
        dsimp only
        rw [J_bitCount (by omega), Option.bind_some]
        dsimp only
        rw [if_neg (by rw [N_le (by omega) (by omega)]; exact c), dt_rt, sl, Option.bind_some]
        rfl
      · have h' : FM (o75 σ (N 0)) := FM_o h
        have e63 : mI (thr_ (o75 σ (N 0)) 0) 63 = mI σ 63 := rfl
        unfold FX8_ways jn
        rw [l0_, l10_, M_isIn_in (by omega) (by omega) (by omega), Option.bind_some]
        dsimp only
        rw [if_neg (show ¬ N 1 = N 0 by decide), fm_pI h', Option.bind_some, thr_w, fm_ck (FM_t h'), M_holders (FM_t h') (by rw [e63]; exact K.n) hn0, Option.bind_some, e63, es]
        dsimp only
        rw [M_bits (by omega), Option.bind_some]
        dsimp only
        rw [fm_gI (FM_t h'), Option.bind_some, thr_0, if_neg (by decide), if_neg (by rw [N_le (by omega) (by omega)]; exact c)]
  · exact out (hx.imp id fun hx => by
      rw [Int32.le_iff_toInt_le, N_int (by omega)] at hx
      rw [Int32.lt_iff_toInt_lt, N_int (by omega)]; omega)
end
