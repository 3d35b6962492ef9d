/-! THE PLAIN LAW, 136: fits, asked of both -/
set_option maxRecDepth 100000
section
variable {np nh n L : Nat} {σ : Mm}
theorem Qi_eat {W : Mm → DX (Int32 × Mm)} {Mo : Mm → Option (Int32 × Mm)} {σ1 σ2 : Mm} {k b : Int32} {c z : Nat} (I : Inv np nh n L σ) (h1 : W σ = some (.inl (k, σ1), c, z)) (hc : c ≤ 20) (hz : z ≤ 900) (h2 : Mo σ1 = some (b, σ2)) (h3 : mI σ2 62 0 = k) (h4 : k = N 0 → mI σ2 75 0 = b) (e : EW σ σ2) (t1 : mI σ2 37 1 = N 0) (t2 : mI σ2 62 8 = N 0) : Qi W Mo L σ := by
  have eN : mN σ2 = mN σ := e.2.2.2.1
  exact ⟨k, σ1, b, σ2, c, z, np, nh, n, 0, h1, h2, h3, h4, Inv_ew I e t1 t2, by omega, by omega, by omega⟩
theorem C_asked_in {a : Nat} (K : Co np nh σ) (ha : a < np) : FX1_askedOf 0 (N a) σ = rt σ := by
  have hC := K.c; have hn0 := K.n0
  unfold FX1_askedOf
  rw [fc_gR0_0 hC, Option.bind_some, fw_gI hC.1, Option.bind_some, rw1 K.r, K.n, l0_, l1_, N_sub (show 1 ≤ np by omega), C_in_in (by omega) (by omega) (by omega), Option.bind_some]
  try dsimp only
  rw [if_neg (show ¬ N 1 = N 0 by decide)]
theorem out_in {x : Int32} (hn0 : np ≤ 10) (hx : x < N 0 ∨ N np ≤ x) : x < N 0 ∨ N np - N 1 < x := hx.imp id fun h1 => by
  rw [Int32.le_iff_toInt_le, N_int (by omega)] at h1
  by_cases z : np = 0
  · rw [z] at h1 ⊢
    rw [show N 0 - N 1 = M1 from rfl, Int32.lt_iff_toInt_lt, show M1.toInt = -1 by decide]
    omega
  · rw [N_sub (show 1 ≤ np by omega), Int32.lt_iff_toInt_lt, N_int (by omega)]; omega
theorem C_asked_out {x : Int32} {τ : Mm} (K : Co np nh σ) (hx : x < N 0 ∨ N np ≤ x) (hb : FX3_begins 37 σ = some τ) : FX1_askedOf 0 x σ = thw 2 τ := by
  have hC := K.c; have hn0 := K.n0
  unfold FX1_askedOf
  rw [fc_gR0_0 hC, Option.bind_some, fw_gI hC.1, Option.bind_some, rw1 K.r, K.n, l0_, l1_, C_in_out (out_in hn0 hx), Option.bind_some]
  try dsimp only
  rw [if_pos rfl, fc_gR0_4 hC, Option.bind_some, fc_rv37 hC, Option.bind_some, hb, Option.bind_some]
/-- the first whose being worn by x leaves all ways -/
def fiR (m : Nat → Nat) (np x w : Nat) : Nat → Nat → Option Nat
  | 0, _ => none
  | d + 1, v => if w = 0 then none else if wN_ (on1 m x v) np = w then some v else fiR m np x w d (v + 1)
theorem C_fits_39 {m : Nat → Nat} {x w : Nat} (K : KR np nh n σ) (hm : ∀ j, m j < 1024) (hx : x < np) (hw : w ≤ 3628800) (K1 : Mm → DX (Int32 × Mm)) (K2 : Int32 → Mm → DX (Int32 × Mm)) : ∀ (d v f : Nat) (τ : Mm), v + d = np → d < f → O2 45 46 σ τ → (∀ j, j < np → mI τ 45 j = N (m j)) → ∃ τ', FX1_fits_39 0 (N x) (N w) f (N v) τ K1 K2 = (match fiR m np x w d v with | none => K1 τ' | some j => K2 (N j) τ') ∧ O2 45 46 σ τ' := by
  have hn0 := K.1.n0
  intro d
  induction d with
  | zero =>
    intro v f τ hv hf hO h45
    obtain ⟨f, rfl⟩ : ∃ m, f = m + 1 := ⟨f - 1, by omega⟩
    have K' := (hO.ewc.kr K).1
    have hC := K'.c
    refine ⟨τ, ?_, hO⟩
    rw [FX1_fits_39, fc_gR0_0 hC, Option.bind_some, fw_gI hC.1, Option.bind_some, rw1 K'.r, K'.n, if_pos (by rw [N_le (by omega) (by omega)]; omega), fiR]
  | succ d ih =>
    intro v f τ hv hf hO h45
    obtain ⟨f, rfl⟩ : ∃ m, f = m + 1 := ⟨f - 1, by omega⟩
    have KK := hO.ewc.kr K
    have K' := KK.1
    have hC := K'.c
    rw [FX1_fits_39, fc_gR0_0 hC, Option.bind_some, fw_gI hC.1, Option.bind_some, rw1 K'.r, K'.n, if_neg (by rw [N_le (by omega) (by omega)]; omega), fiR]
    by_cases c0 : w = 0
    · refine ⟨τ, ?_, hO⟩
      rw [if_pos (by rw [c0]; decide), if_pos c0]
    · obtain ⟨τ1, t1, t2, t3⟩ := C_having (y := v) KK hm h45 hx (by omega)
      have wl := wN_le (m := on1 m x v) hn0
      by_cases c1 : wN_ (on1 m x v) np = w
      · refine ⟨τ1, ?_, hO.tr t2⟩
        rw [if_neg (show ¬ N w ≤ 0 by rw [l0_, N_le (by omega) (by omega)]; omega), if_neg c0, if_pos c1, fc_gR0_8 hC, Option.bind_some, fc_rv44 hC, Option.bind_some, t1, Option.bind_some]
        try dsimp only
        rw [if_pos (by rw [c1])]
      · obtain ⟨τ2, s1, s2⟩ := ih (v + 1) f τ1 (by omega) (by omega) (hO.tr t2) t3
        refine ⟨τ2, ?_, s2⟩
        rw [if_neg (show ¬ N w ≤ 0 by rw [l0_, N_le (by omega) (by omega)]; omega), if_neg c0, if_neg c1, fc_gR0_8 hC, Option.bind_some, fc_rv44 hC, Option.bind_some, t1, Option.bind_some]
        try dsimp only
        rw [if_neg (by rw [N_inj (by omega) (by omega)]; exact c1), l1_, N_add, s1]
theorem M_fits_62 {T : Nat → Nat} {x w : Nat} (h : FM σ) (hnn : mI σ 63 3 = N np) (hn0 : np ≤ 10) (h20 : mI σ 62 20 = N (L / 3)) (hL : L ≤ 36) (h3 : L % 3 = 0) (hT : ∀ k, k < L → bo T np k = true ∧ mI σ 69 k = N (T k)) (hx : x < np) (hw : w ≤ 3628800) (K1 : Mm → Option (Int32 × Mm)) (K2 : Int32 → Mm → Option (Int32 × Mm)) : ∀ (d v f : Nat) (τ : Mm), v + d = np → d < f → O2 70 71 σ τ → ∃ τ', FX8_fits_62 62 (N x) (N w) f (N v) τ K1 K2 = (match fiR (myR T np 4095 (L / 3)) np x w d v with | none => K1 τ' | some j => K2 (N j) τ') ∧ O2 70 71 σ τ' := by
  intro d
  induction d with
  | zero =>
    intro v f τ hv hf hO
    obtain ⟨f, rfl⟩ : ∃ m, f = m + 1 := ⟨f - 1, by omega⟩
    have h' : FM τ := FM_at (fun q _ => by rw [hO.1, hO.2.1]; exact ⟨rfl, rfl⟩) (by rw [hO.2.2.1]) h
    refine ⟨τ, ?_, hO⟩
    rw [FX8_fits_62, fm_gR1 h', Option.bind_some, l3_, fm_rd63 h' (by omega), Option.bind_some, hO.e (by omega), hnn, if_pos (by rw [N_le (by omega) (by omega)]; omega), fiR]
  | succ d ih =>
    intro v f τ hv hf hO
    obtain ⟨f, rfl⟩ : ∃ m, f = m + 1 := ⟨f - 1, by omega⟩
    have h' : FM τ := FM_at (fun q _ => by rw [hO.1, hO.2.1]; exact ⟨rfl, rfl⟩) (by rw [hO.2.2.1]) h
    rw [FX8_fits_62, fm_gR1 h', Option.bind_some, l3_, fm_rd63 h' (by omega), Option.bind_some, hO.e (by omega), hnn, if_neg (by rw [N_le (by omega) (by omega)]; omega), fiR]
    by_cases c0 : w = 0
    · refine ⟨τ, ?_, hO⟩
      rw [if_pos (by rw [c0]; decide), if_pos c0]
    · obtain ⟨τ1, t1, t2⟩ := M_ways (y := v) h hnn hn0 h20 hL h3 hT hx (by omega) hO
      have wl := wN_le (m := on1 (myR T np 4095 (L / 3)) x v) hn0
      by_cases c1 : wN_ (on1 (myR T np 4095 (L / 3)) x v) np = w
      · refine ⟨τ1, ?_, t2⟩
        rw [if_neg (show ¬ N w ≤ 0 by rw [l0_, N_le (by omega) (by omega)]; omega), if_neg c0, if_pos c1, fm_ck h', t1, Option.bind_some]
        try dsimp only
        rw [if_pos (by rw [c1])]
      · obtain ⟨τ2, s1, s2⟩ := ih (v + 1) f τ1 (by omega) (by omega) t2
        refine ⟨τ2, ?_, s2⟩
        rw [if_neg (show ¬ N w ≤ 0 by rw [l0_, N_le (by omega) (by omega)]; omega), if_neg c0, if_neg c1, fm_ck h', t1, Option.bind_some]
        try dsimp only
        rw [if_neg (by rw [N_inj (by omega) (by omega)]; exact c1), l1_, N_add, s1]
/-- the rows of all that is said -/
theorem my_all {T : Nat → Nat} {q : Nat} (hq : q ≤ 12) : myR T np (2 ^ q - 1) q = myR T np 4095 q := myF_cg q 0 _ fun j h1 h2 => by
  rw [Nat.testBit_two_pow_sub_one, b4095 j (by omega)]; exact decide_eq_true (by omega)
/-- the tape, on both sides -/
theorem tape_of {n : Nat} (I : Inv np nh n L σ) : ∃ T : Nat → Nat, L ≤ 400 ∧ mI σ 37 1 = N L ∧ mI σ 62 8 = N L ∧ (∀ k, k < L → T k < 256 ∧ mI σ 38 k = cb (T k)) ∧ ∀ k, k < L → T k < 256 ∧ mI σ 67 k = N (T k) := by
  obtain ⟨a1, a2, a3⟩ := tT_ok I.2.2.1
  exact ⟨tT L σ, I.2.2.1.1, I.2.2.1.2.1, I.2.2.1.2.2.1, fun k hk => ⟨a1.2.1 k hk, a2 k hk⟩, fun k hk => ⟨a1.2.1 k hk, a3 k hk⟩⟩
theorem sd_at {T : Nat → Nat} (h : sdOk T np L = true) : L % 3 = 0 ∧ L ≤ 36 ∧ ∀ k, k < L → bo T np k = true := by
  unfold sdOk at h
  rw [Bool.and_eq_true, Bool.and_eq_true, decide_eq_true_iff, decide_eq_true_iff] at h
  exact ⟨h.1, h.2.1, fun k hk => bl_at L 0 h.2.2 k (by omega) (by omega)⟩
/-- the model, behind what is said: the memory from which it counts -/
theorem M_saidX {T : Nat → Nat} {τ : Mm} {k : Nat} (K : KR np nh n τ) (hL : L ≤ 400) (h8 : mI τ 62 8 = N L) (hT : ∀ k, k < L → T k < 256 ∧ mI τ 67 k = N (T k)) : ∃ υ, EW τ υ ∧ FX8_hears 62 τ = some (bN (sdOk T np L), υ) ∧ FM υ ∧ FM (thr_ υ k) ∧ EW τ (thr_ υ k) ∧ mI (thr_ υ k) 62 8 = N 0 ∧ mI (thr_ υ k) 37 = mI τ 37 ∧ mI (thr_ υ k) 62 20 = N (L / 3) ∧ (sdOk T np L = true → ∀ v, v < L → mI (thr_ υ k) 69 v = N (T v)) ∧ mI (thr_ υ k) 63 = mI τ 63 ∧ mI υ 63 = mI τ 63 ∧ mI υ 75 = mI τ 75 := by
  obtain ⟨υ, a1, a2, a3, a4, a5, a6⟩ := M_hears K hL h8 hT
  have hM : FM υ := (a1.kr K).1.m
  refine ⟨υ, a1, a6, hM, FM_t hM, a1.tr (EW.w62 (by omega)), ?_, ?_, ?_, fun hs v hv => ?_, ?_, a1.e (by omega), a4.2⟩
  · show up1 (mI υ 62) 0 (N k) 8 = _
    rw [up1_app, if_neg (by omega)]; exact a2
  · show mI υ 37 = _
    exact a4.1
  · show up1 (mI υ 62) 0 (N k) 20 = _
    rw [up1_app, if_neg (by omega)]; exact a3
  · exact a5 hs v hv
  · show mI υ 63 = _
    exact a1.e (by omega)
theorem q_fits (I : Inv np nh n L σ) (x : Int32) : Qi (FX0_fits (some 0) x (some 75)) (FX8_fits 62 x) L σ := by
  have KK := I.1
  have K := KK.1
  have hC := K.c; have h := K.m; have hn0 := K.n0
  obtain ⟨T, hL, t37, t8, tC, tM⟩ := tape_of I
  obtain ⟨τ, c1, c2, c3, c4, c5, c6⟩ := C_said KK hL t37 tC
  have Kτ := c1.kr KK
  have hCτ := Kτ.1.c
  have m63 : mI τ 63 = mI σ 63 := c1.e (by omega)
  -- what is asked of no one
  have outs : (x < N 0 ∨ N np ≤ x) → x ≠ M1 → Qi (FX0_fits (some 0) x (some 75)) (FX8_fits 62 x) L σ := fun hx hx1 => by
    obtain ⟨υ, u1, u2, u3, u4, u5, u6, u7, u8, u9, u10, u11, u12⟩ := M_saidX (k := 1) Kτ hL (by rw [c4]; exact t8) (fun k hk => by rw [c1.e (by omega)]; exact tM k hk)
    refine Qi_eat (σ1 := τ) (σ2 := thr_ υ 1) (k := N 1) (b := N 0) (c := 1) (z := 6) I ?_ (by omega) (by omega) ?_ rfl (fun e => absurd e (by decide)) (c1.tr u5) (by rw [u7]; exact c2) u6
    · unfold FX0_fits FX1_fits jn
      rw [fc_rv0 hC, Option.bind_some]
      try dsimp only
      rw [if_neg (show ¬ x = -1 from hx1), fc_ck0 hC, C_asked_out K hx c5, db_thw, dt_thw, if_pos rfl]
      rfl
    · unfold FX8_fits jn
      rw [fm_ck Kτ.1.m, u2, Option.bind_some]
      try dsimp only
      rw [if_neg (show ¬ x = -1 from hx1), fm_ck u3, M_isPerson_out u3 (by rw [u11]; exact Kτ.1.n) hn0 hx, Option.bind_some]
      try dsimp only
      rw [if_pos (show N 0 = 0 from rfl), l1_, fm_pI u3, Option.bind_some, thr_w, fm_gI u4, Option.bind_some, thr_0, if_neg (by decide)]
      rfl
  by_cases hv : x = M1 ∨ ∃ p, p < np ∧ x = N p
  · have wA : FX1_fits 0 x σ = (gR 1 8 (some 0) σ).bind fun x21 => ck 1 0 σ <| db (FX1_saidAll 0 σ) fun (x23, σ24) => (rv 6 x21 σ24).bind fun q25 => (FX6_by q25 x23 σ24).bind fun (x27, σ28) => (gR 1 8 (some 0) σ28).bind fun x29 => (rv 6 x29 σ28).bind fun q30 => (FX6_many q30 σ28).bind fun (x32, σ33) => (if x = (-1) then (rt (x32, σ33)) else (FX1_fits_39 0 x x32 fu 0 σ33 (fun (σ : Mm) => (rt ((-1), σ))) (fun (x44 : Int32) (σ : Mm) => (rt (x44, σ))))) := by
      unfold FX1_fits jn
      try dsimp only
      by_cases c : x = M1
      · rw [if_pos (show x = -1 from c)]
      · obtain ⟨p, hp, rfl⟩ := hv.resolve_left c
        rw [if_neg (show ¬ N p = -1 from c), fc_ck0 hC, C_asked_in K hp, db_rt]
    have wM : ∀ (ρ υ : Mm) (b : Bool), FM ρ → FM υ → mI υ 63 3 = N np → FX8_hears 62 ρ = some (bN b, υ) → FX8_fits 62 x ρ = ((pI 8 0 (some 62) (if b then N 0 else N 2) υ).bind fun σ25 => (gI 8 0 (some 62) σ25).bind fun x26 => (if x26 ≤ 0 then (ck 8 62 σ25 <| (FX8_owned 62 4095 σ25).bind fun (x28, σ29) => (if x = (-1) then (some (x28, σ29)) else (FX8_fits_62 62 x x28 fu 0 σ29 (fun (σ : Mm) => (some ((-1), σ))) (fun (x38 : Int32) (σ : Mm) => (some (x38, σ)))))) else (some (0, σ25)))) := fun ρ υ b hρ hυ hn he => by
      unfold FX8_fits jn
      rw [fm_ck hρ, he, Option.bind_some]
      try dsimp only
      by_cases c : x = M1
      · rw [if_pos (show x = -1 from c)]
        cases b
        · rw [if_pos (show bN false = (0 : Int32) from rfl)]; rfl
        · rw [if_neg (show ¬ bN true = (0 : Int32) by decide)]; rfl
      · obtain ⟨p, hp, rfl⟩ := hv.resolve_left c
        rw [if_neg (show ¬ N p = -1 from c), fm_ck hυ, M_isPerson_in hυ hn hn0 hp, Option.bind_some]
        try dsimp only
        rw [if_neg (show ¬ N 1 = 0 by decide)]
        cases b
        · rw [if_pos (show bN false = (0 : Int32) from rfl)]; rfl
        · rw [if_neg (show ¬ bN true = (0 : Int32) by decide)]; rfl
    cases hs : sdOk T np L with
    | false =>
      obtain ⟨υ, u1, u2, u3, u4, u5, u6, u7, u8, u9, u10, u11, u12⟩ := M_saidX (k := 2) Kτ hL (by rw [c4]; exact t8) (fun k hk => by rw [c1.e (by omega)]; exact tM k hk)
      rw [hs] at c6 u2
      refine Qi_eat (σ1 := τ) (σ2 := thr_ υ 2) (k := N 2) (b := N 0) (c := 1) (z := 6) I ?_ (by omega) (by omega) ?_ rfl (fun e => absurd e (by decide)) (c1.tr u5) (by rw [u7]; exact c2) u6
      · unfold FX0_fits
        rw [fc_rv0 hC, Option.bind_some, wA, fc_gR0_8 hC, Option.bind_some, fc_ck0 hC, c6, if_neg Bool.false_ne_true, db_thw, dt_thw, if_neg (by decide), if_pos rfl]
        rfl
      · rw [wM τ υ false Kτ.1.m u3 (by rw [u11]; exact Kτ.1.n) u2, if_neg Bool.false_ne_true, fm_pI u3, Option.bind_some, thr_w, fm_gI u4, Option.bind_some, thr_0, if_neg (by decide)]
        rfl
    | true =>
      rw [hs, if_pos rfl] at c6
      obtain ⟨d1, d2, d3⟩ := sd_at hs
      have q12 : L / 3 ≤ 12 := by omega
      have p212 : 2 ^ (L / 3) ≤ 2 ^ 12 := Nat.pow_le_pow_right (by omega) q12
      have p21 := Nat.two_pow_pos (L / 3)
      obtain ⟨m, hm⟩ : ∃ m, m = myR T np 4095 (L / 3) := ⟨_, rfl⟩
      have ml : ∀ j, m j < 1024 := fun j => by rw [hm]; exact Nat.lt_of_lt_of_le (myR_lt j) (Nat.pow_le_pow_right (by omega) hn0)
      obtain ⟨τ1, b1, b2, b3⟩ := C_byS (S := 2 ^ (L / 3) - 1) Kτ c3 d2 d1 (fun k hk => ⟨d3 k hk, by rw [c1.e (by omega)]; exact (tC k hk).2⟩) (by omega) O2.rf
      rw [my_all q12, ← hm] at b3
      have K1 := b2.ewc.kr Kτ
      obtain ⟨τ2, e1, e2⟩ := C_many K1 ml b3
      have o2 : O2 45 46 τ τ2 := b2.tr ⟨e2.1, e2.2.1, e2.2.2.1, e2.2.2.2.1, fun p _ b => e2.2.2.2.2 p b b⟩
      have K2 := o2.ewc.kr Kτ
      have wl := wN_le (m := m) hn0
      obtain ⟨w, hw⟩ : ∃ w, w = wN_ m np := ⟨_, rfl⟩
      rw [← hw] at e1 wl
      -- what the component answers
      obtain ⟨r, τ3, r1, r2, r3⟩ : ∃ r τ3, (if x = (-1) then (rt (N w, τ2) : DX (Int32 × Mm)) else (FX1_fits_39 0 x (N w) fu 0 τ2 (fun (σ : Mm) => (rt ((-1), σ))) (fun (x44 : Int32) (σ : Mm) => (rt (x44, σ))))) = rt (r, τ3) ∧ O2 45 46 τ τ3 ∧ ∀ (υ : Mm), FM υ → mI υ 63 3 = N np → mI υ 62 20 = N (L / 3) → (∀ k, k < L → mI υ 69 k = N (T k)) → ∃ υ', ((FX8_owned 62 4095 υ).bind fun (x28, σ29) => (if x = (-1) then (some (x28, σ29)) else (FX8_fits_62 62 x x28 fu 0 σ29 (fun (σ : Mm) => (some ((-1), σ))) (fun (x38 : Int32) (σ : Mm) => (some (x38, σ)))))) = some (r, υ') ∧ O2 70 71 υ υ' := by
        by_cases c : x = M1
        · refine ⟨N w, τ2, if_pos c, o2, fun υ hυ h3 h20 h69 => ?_⟩
          obtain ⟨υ', v1, v2, -⟩ := M_ownedS (T := T) (S := 4095) hυ h3 hn0 h20 d2 d1 (fun k hk => ⟨d3 k hk, h69 k hk⟩) (by omega) O2.rf
          rw [← hm, ← hw] at v1
          refine ⟨υ', ?_, v2⟩
          rw [show (4095 : Int32) = N 4095 from rfl, v1, Option.bind_some]
          exact if_pos c
        · obtain ⟨p, hp, rfl⟩ := hv.resolve_left c
          have b45 : ∀ j, j < np → mI τ2 45 j = N (m j) := by rw [e2.e (by omega)]; exact b3
          obtain ⟨τ3, s1, s2⟩ := C_fits_39 (x := p) (w := w) K2 ml hp wl (fun (σ : Mm) => (rt ((-1), σ))) (fun (x44 : Int32) (σ : Mm) => (rt (x44, σ))) np 0 fu τ2 (by omega) (by unfold fu; omega) O2.rf b45
          refine ⟨(match fiR m np p w np 0 with | none => -1 | some j => N j), τ3, ?_, o2.tr s2, fun υ hυ h3 h20 h69 => ?_⟩
          · rw [if_neg (show ¬ N p = -1 from c), l0_, s1]
            cases fiR m np p w np 0 <;> rfl
          · obtain ⟨υ1, v1, v2, -⟩ := M_ownedS (T := T) (S := 4095) hυ h3 hn0 h20 d2 d1 (fun k hk => ⟨d3 k hk, h69 k hk⟩) (by omega) O2.rf
            rw [← hm, ← hw] at v1
            obtain ⟨υ2, s3, s4⟩ := M_fits_62 (T := T) (x := p) (w := w) hυ h3 hn0 h20 d2 d1 (fun k hk => ⟨d3 k hk, h69 k hk⟩) hp wl (fun (σ : Mm) => (some ((-1), σ))) (fun (x38 : Int32) (σ : Mm) => (some (x38, σ))) np 0 fu υ1 (by omega) (by unfold fu; omega) v2
            rw [← hm] at s3
            refine ⟨υ2, ?_, s4⟩
            rw [show (4095 : Int32) = N 4095 from rfl, v1, Option.bind_some]
            try dsimp only
            rw [if_neg (show ¬ N p = -1 from c), l0_, s3]
            cases fiR m np p w np 0 <;> rfl
      have E3 : EW τ τ3 := r2.ewc
      have Eo : EW τ (o75 τ3 r) := E3.tr (EW.w (by omega))
      have Ko := Eo.kr Kτ
      obtain ⟨υ, u1, u2, u3, u4, u5, u6, u7, u8, u9, u10, u11, u12⟩ := M_saidX (τ := o75 τ3 r) (T := T) (k := 0) Ko hL (by show mI τ3 62 8 = N L; rw [r2.e (by omega), c4]; exact t8) (fun k hk => by rw [Eo.e (by omega), c1.e (by omega)]; exact tM k hk)
      rw [hs] at u2
      obtain ⟨υ', v1, v2⟩ := r3 (thr_ υ 0) u4 (by rw [u10]; exact Ko.1.n) u8 (u9 hs)
      have E5 : EW (thr_ υ 0) υ' := v2.ewm
      refine Qi_eat (σ1 := o75 τ3 r) (σ2 := υ') (k := N 0) (b := r) (c := 0) (z := 0) I ?_ (by omega) (by omega) ?_ ?_ (fun _ => ?_) (c1.tr (Eo.tr (u5.tr E5))) ?_ ?_
      · unfold FX0_fits
        rw [fc_rv0 hC, Option.bind_some, wA, fc_gR0_8 hC, Option.bind_some, fc_ck0 hC, c6, db_rt]
        try dsimp only
        rw [fc_rv44 hCτ, Option.bind_some, b1, Option.bind_some]
        try dsimp only
        rw [fc_gR0_8 K1.1.c, Option.bind_some, fc_rv44 K1.1.c, Option.bind_some, e1, Option.bind_some]
        try dsimp only
        rw [r1, dt_rt, l0_, show sL (some 75) (N 0) r τ3 = some (o75 τ3 r) from sL_w ((E3.kr Kτ).1.c), Option.bind_some]
        rfl
      · rw [wM (o75 τ3 r) υ true Ko.1.m u3 (by rw [u11]; exact Ko.1.n) u2, if_pos rfl, fm_pI u3, Option.bind_some, thr_w, fm_gI u4, Option.bind_some, thr_0, if_pos (by decide), fm_ck u4]
        exact v1
      · rw [v2.e (by omega)]; rfl
      · rw [v2.e (by omega)]
        show mI υ 75 0 = r
        rw [u12]; rfl
      · rw [v2.e (by omega), u7]
        show mI τ3 37 1 = N 0
        rw [r2.e (by omega)]; exact c2
      · rw [v2.e (by omega)]; exact u6
  · rcases N_in x np (by omega) with ⟨p, hp, e⟩ | hx
    · exact absurd (Or.inr ⟨p, hp, e⟩) hv
    · exact outs hx (fun e => hv (Or.inl e))
end
