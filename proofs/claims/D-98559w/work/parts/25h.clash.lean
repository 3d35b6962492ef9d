/-! THE PLAIN LAW, 138: clash, asked of both -/
set_option maxRecDepth 100000
theorem myF_0 {T : Nat → Nat} : ∀ k v m, myF T 0 k v m = m := by
  intro k
  induction k with
  | zero => intro v m; rfl
  | succ k ih =>
    intro v m
    rw [myF, if_neg (by rw [Nat.zero_testBit]; exact Bool.false_ne_true), ih]
def clU (T : Nat → Nat) (np q S : Nat) : Bool := decide (wN_ (myR T np S q) np = 0)
theorem clU_0 {T : Nat → Nat} {np q : Nat} : clU T np q 0 = false := by
  apply decide_eq_false
  have e : (LC np 0).length = np := by rw [LC_0, List.length_range']
  have := bk_pos (P := wP (myR T np 0 q)) (LC np 0).length (np - (LC np 0).length) (LC np 0) LC_nd rfl fun i c h1 h2 h3 => by
    unfold wP myR
    rw [myF_0, Nat.testBit_two_pow_sub_one]
    exact decide_eq_true (LC_mem.mp h3).1
  unfold wN_ wyB
  omega
section
variable {np nh n L : Nat} {σ : Mm}
theorem C_clash_25 {T : Nat → Nat} (K : KR np nh n σ) (h37 : mI σ 37 2 = N L) (hL : L ≤ 36) (h3 : L % 3 = 0) (hT : ∀ k, k < L → bo T np k = true ∧ mI σ 38 k = cb (T k)) (Kx : Int32 → Mm → DX (Int32 × Mm)) : ∀ (k f b : Nat) (τ : Mm), k < 4096 → b < 4096 → k < f → O2 45 46 σ τ → ∃ τ', FX1_clash_25 0 f (N b) (N k) τ Kx = Kx (N (dnM (clU T np (L / 3)) (k + 1) b)) τ' ∧ O2 45 46 σ τ' := by
  have hn0 := K.1.n0
  intro k
  induction k with
  | zero =>
    intro f b τ hk hb hf hO
    obtain ⟨f, rfl⟩ : ∃ m, f = m + 1 := ⟨f - 1, by omega⟩
    refine ⟨τ, ?_, hO⟩
    rw [FX1_clash_25, if_pos (show N 0 ≤ 0 by decide), dnM, clU_0, if_neg Bool.false_ne_true, dnM]
    split <;> rfl
  | succ k ih =>
    intro f b τ hk hb hf hO
    obtain ⟨f, rfl⟩ : ∃ m, f = m + 1 := ⟨f - 1, by omega⟩
    have KK := hO.ewc.kr K
    have hC := KK.1.c
    have p1 := pc_lt (k + 1) hk
    have p2 := pc_lt b hb
    have em : N (k + 1) + M1 = N k := N_dec
    rw [FX1_clash_25, if_neg (show ¬ N (k + 1) ≤ 0 by rw [l0_, N_le (by omega) (by omega)]; omega), J_bitCount hk, Option.bind_some, m1_, em]
    try dsimp only
    rw [J_bitCount hb, Option.bind_some, dnM]
    try dsimp only
    by_cases c : pc b < pc (k + 1)
    · rw [if_pos c, if_pos (by rw [N_lt (by omega) (by omega)]; exact c)]
      exact ih f b τ (by omega) hb (by omega) hO
    · obtain ⟨τ1, t1, t2, t3⟩ := C_byS (S := k + 1) K h37 hL h3 hT hk hO
      have K1 := t2.ewc.kr K
      obtain ⟨τ2, s1, s2⟩ := C_many (m := myR T np (k + 1) (L / 3)) K1 (fun j => Nat.lt_of_lt_of_le (myR_lt j) (Nat.pow_le_pow_right (by omega) hn0)) t3
      have o2 : O2 45 46 σ τ2 := t2.tr ⟨s2.1, s2.2.1, s2.2.2.1, s2.2.2.2.1, fun p _ b => s2.2.2.2.2 p b b⟩
      have wl := wN_le (m := myR T np (k + 1) (L / 3)) hn0
      rw [if_neg c, if_neg (by rw [N_lt (by omega) (by omega)]; exact c), fc_gR0_8 hC, Option.bind_some, fc_rv44 hC, Option.bind_some, t1, Option.bind_some]
      try dsimp only
      rw [fc_rv44 K1.1.c, Option.bind_some, s1, Option.bind_some]
      try dsimp only
      by_cases z : wN_ (myR T np (k + 1) (L / 3)) np = 0
      · have u : clU T np (L / 3) (k + 1) = true := decide_eq_true z
        rw [u, if_pos rfl, if_pos (by rw [z]; rfl)]
        exact ih f (k + 1) τ2 (by omega) hk (by omega) o2
      · have u : clU T np (L / 3) (k + 1) = false := decide_eq_false z
        rw [u, if_neg Bool.false_ne_true, if_neg (by rw [l0_, N_inj (by omega) (by omega)]; exact z)]
        exact ih f b τ2 (by omega) hb (by omega) o2
theorem M_clash_41 {T : Nat → Nat} (h : FM σ) (hnn : mI σ 63 3 = N np) (hn0 : np ≤ 10) (h20 : mI σ 62 20 = N (L / 3)) (hL : L ≤ 36) (h3 : L % 3 = 0) (hT : ∀ k, k < L → bo T np k = true ∧ mI σ 69 k = N (T k)) (Kx : Int32 → Mm → Option (Int32 × Mm)) : ∀ (k i f : Nat) (o : Option Nat) (τ : Mm), i + k = 2 ^ (L / 3) → k < f → (∀ b, o = some b → b < 4096) → O2 70 71 σ τ → ∃ τ', FX8_clash_41 62 f (oN o) (N i) τ Kx = Kx (oN (upM (clU T np (L / 3)) k i o)) τ' ∧ O2 70 71 σ τ' := by
  have p212 : 2 ^ (L / 3) ≤ 2 ^ 12 := Nat.pow_le_pow_right (by omega) (by omega)
  have e2 : (1 : Int32) <<< (N (L / 3) &&& 31) = N (2 ^ (L / 3)) := bt_N (L / 3) (by omega)
  intro k
  induction k with
  | zero =>
    intro i f o τ hi hf ho hO
    obtain ⟨f, rfl⟩ : ∃ m, f = m + 1 := ⟨f - 1, by omega⟩
    have h' : FM τ := FM_at (fun q _ => by rw [hO.1, hO.2.1]; exact ⟨rfl, rfl⟩) (by rw [hO.2.2.1]) h
    refine ⟨τ, ?_, hO⟩
    rw [FX8_clash_41, fm_gI h', Option.bind_some, hO.e (by omega), h20, e2, if_pos (by rw [N_le (by omega) (by omega)]; omega)]
    cases o <;> rfl
  | succ k ih =>
    intro i f o τ hi hf ho hO
    obtain ⟨f, rfl⟩ : ∃ m, f = m + 1 := ⟨f - 1, by omega⟩
    have h' : FM τ := FM_at (fun q _ => by rw [hO.1, hO.2.1]; exact ⟨rfl, rfl⟩) (by rw [hO.2.2.1]) h
    have hi4 : i < 4096 := by omega
    obtain ⟨τ1, t1, t2, -⟩ := M_ownedS (T := T) (S := i) h hnn hn0 h20 hL h3 hT hi4 hO
    have wl := wN_le (m := myR T np i (L / 3)) hn0
    have test : ∃ τ', (ck 8 62 τ <| (FX8_owned 62 (N i) τ).bind fun w => if w.1 = 0 then FX8_clash_41 62 f (N i) (N (i + 1)) w.2 Kx else FX8_clash_41 62 f (oN o) (N (i + 1)) w.2 Kx) = Kx (oN (if clU T np (L / 3) i then upM (clU T np (L / 3)) k (i + 1) (some i) else upM (clU T np (L / 3)) k (i + 1) o)) τ' ∧ O2 70 71 σ τ' := by
      rw [fm_ck h', t1, Option.bind_some]
      try dsimp only
      by_cases z : wN_ (myR T np i (L / 3)) np = 0
      · have u : clU T np (L / 3) i = true := decide_eq_true z
        rw [u, if_pos rfl, if_pos (by rw [z]; rfl)]
        exact ih (i + 1) f (some i) τ1 (by omega) (by omega) (fun b hb => by cases hb; omega) t2
      · have u : clU T np (L / 3) i = false := decide_eq_false z
        rw [u, if_neg Bool.false_ne_true, if_neg (by rw [l0_, N_inj (by omega) (by omega)]; exact z)]
        exact ih (i + 1) f o τ1 (by omega) (by omega) ho t2
    rw [FX8_clash_41, fm_gI h', Option.bind_some, hO.e (by omega), h20, e2, if_neg (by rw [N_le (by omega) (by omega)]; omega), m1_, l1_, N_add]
    unfold jn
    try dsimp only
    cases o with
    | none =>
      rw [if_pos (show oN none = M1 from rfl), upM]
      obtain ⟨τ', a1, a2⟩ := test
      refine ⟨τ', a1.trans ?_, a2⟩
      split <;> rfl
    | some b =>
      have hb := ho b rfl
      have p1 := pc_lt i hi4
      have p2 := pc_lt b hb
      rw [if_neg (show ¬ oN (some b) = M1 by show ¬ N b = M1; rw [N_m1 (by omega)]; exact id), M_bits (by omega), Option.bind_some, upM]
      try dsimp only
      rw [show FX8_bits (oN (some b)) τ = some (N (pc b), τ) from M_bits (by omega), Option.bind_some]
      try dsimp only
      by_cases c : pc b ≤ pc i
      · rw [if_pos c, if_pos (by rw [N_le (by omega) (by omega)]; exact c)]
        exact ih (i + 1) f (some b) τ (by omega) (by omega) ho hO
      · rw [if_neg c, if_neg (by rw [N_le (by omega) (by omega)]; exact c)]
        obtain ⟨τ', a1, a2⟩ := test
        refine ⟨τ', a1.trans ?_, a2⟩
        split <;> rfl
theorem q_clash (I : Inv np nh n L σ) : Qi (FX0_clash (some 0) (some 75)) (FX8_clash 62) L σ := by
  have KK := I.1
  have K := KK.1
  have hC := K.c; have h := K.m; have hn0 := K.n0
  obtain ⟨T, hL, t37, t8, tC, tM⟩ := tape_of I
  obtain ⟨τ, c1, c2, c3, c4, c5, c6⟩ := C_said KK hL t37 tC
  have Kτ := c1.kr KK
  have hCτ := Kτ.1.c
  cases hs : sdOk T np L with
  | false =>
    obtain ⟨υ, u1, u2, u3, u4, u5, u6, u7, u8, u9, u10, u11, u12⟩ := M_saidX (k := 1) Kτ hL (by rw [c4]; exact t8) (fun k hk => by rw [c1.e (by omega)]; exact tM k hk)
    rw [hs] at c6 u2
    refine Qi_eat (σ1 := τ) (σ2 := thr_ υ 1) (k := N 1) (b := N 0) (c := 1) (z := 6) I ?_ (by omega) (by omega) ?_ rfl (fun e => absurd e (by decide)) (c1.tr u5) (by rw [u7]; exact c2) u6
    · unfold FX0_clash FX1_clash
      rw [fc_rv0 hC, Option.bind_some, fc_ck0 hC, c6, if_neg Bool.false_ne_true, db_thw, dt_thw, if_pos rfl]
      rfl
    · unfold FX8_clash jn
      rw [fm_ck Kτ.1.m, u2, Option.bind_some]
      try dsimp only
      rw [if_pos (show bN false = (0 : Int32) from rfl), l1_, fm_pI u3, Option.bind_some, thr_w, fm_gI u4, Option.bind_some, thr_0, if_pos (by decide)]
      rfl
  | true =>
    rw [hs, if_pos rfl] at c6
    obtain ⟨d1, d2, d3⟩ := sd_at hs
    have q12 : L / 3 ≤ 12 := by omega
    have p212 : 2 ^ (L / 3) ≤ 2 ^ 12 := Nat.pow_le_pow_right (by omega) q12
    have p21 := Nat.two_pow_pos (L / 3)
    have p10 : 2 ^ np ≤ 2 ^ 10 := Nat.pow_le_pow_right (by omega) hn0
    obtain ⟨m, hm⟩ : ∃ m, m = myR T np 4095 (L / 3) := ⟨_, rfl⟩
    have ml : ∀ j, m j < 1024 := fun j => by rw [hm]; exact Nat.lt_of_lt_of_le (myR_lt j) p10
    have hTC : ∀ k, k < L → bo T np k = true ∧ mI τ 38 k = cb (T k) := fun k hk => ⟨d3 k hk, by rw [c1.e (by omega)]; exact (tC k hk).2⟩
    obtain ⟨τ1, b1, b2, b3⟩ := C_byS (S := 2 ^ (L / 3) - 1) Kτ c3 d2 d1 hTC (by omega) O2.rf
    rw [my_all q12, ← hm] at b3
    have K1 := b2.ewc.kr Kτ
    obtain ⟨τ2, e1, e2⟩ := C_many K1 ml b3
    have o2 : O2 45 46 τ τ2 := b2.tr ⟨e2.1, e2.2.1, e2.2.2.1, e2.2.2.2.1, fun p _ b => e2.2.2.2.2 p b b⟩
    have wl := wN_le (m := m) hn0
    obtain ⟨w, hw⟩ : ∃ w, w = wN_ m np := ⟨_, rfl⟩
    rw [← hw] at e1 wl
    obtain ⟨r, τ3, r1, r2, r3⟩ : ∃ r τ3, (if N w ≤ 0 then (FX1_clash_25 0 fu (N (2 ^ (L / 3) - 1)) (N (2 ^ (L / 3) - 1)) τ2 (fun (x49 : Int32) (σ : Mm) => (rt (x49, σ)))) else (rt (0, τ2) : DX (Int32 × Mm))) = rt (r, τ3) ∧ O2 45 46 τ τ3 ∧ ∀ (υ : Mm), FM υ → mI υ 63 3 = N np → mI υ 62 20 = N (L / 3) → (∀ k, k < L → mI υ 69 k = N (T k)) → ∃ υ', ((FX8_owned 62 4095 υ).bind fun (x28, σ29) => (if x28 ≤ 0 then (FX8_clash_41 62 fu (-1) 0 σ29 (fun (x42 : Int32) (σ : Mm) => (some (x42, σ)))) else (some (0, σ29)))) = some (r, υ') ∧ O2 70 71 υ υ' := by
      by_cases c : w = 0
      · obtain ⟨τ3, s1, s2⟩ := C_clash_25 (T := T) Kτ c3 d2 d1 hTC (fun (x49 : Int32) (σ : Mm) => (rt (x49, σ))) (2 ^ (L / 3) - 1) fu (2 ^ (L / 3) - 1) τ2 (by omega) (by omega) (by unfold fu; omega) o2
        rw [show 2 ^ (L / 3) - 1 + 1 = 2 ^ (L / 3) by omega] at s1
        have ut : clU T np (L / 3) (2 ^ (L / 3) - 1) = true := decide_eq_true (by rw [my_all q12, ← hm, ← hw]; exact c)
        have du := dn_up (U := clU T np (L / 3)) p21 ut
        refine ⟨N (dnM (clU T np (L / 3)) (2 ^ (L / 3)) (2 ^ (L / 3) - 1)), τ3, ?_, s2, fun υ hυ h3 h20 h69 => ?_⟩
        · rw [if_pos (by rw [c]; decide)]
          exact s1
        · obtain ⟨υ1, v1, v2, -⟩ := M_ownedS (T := T) (S := 4095) hυ h3 hn0 h20 d2 d1 (fun k hk => ⟨d3 k hk, h69 k hk⟩) (by omega) O2.rf
          rw [← hm, ← hw] at v1
          obtain ⟨υ2, s3, s4⟩ := M_clash_41 (T := T) hυ h3 hn0 h20 d2 d1 (fun k hk => ⟨d3 k hk, h69 k hk⟩) (fun (x42 : Int32) (σ : Mm) => (some (x42, σ))) (2 ^ (L / 3)) 0 fu none υ1 (by omega) (by unfold fu; omega) (fun b hb => by cases hb) v2
          rw [du] at s3
          refine ⟨υ2, ?_, s4⟩
          rw [show (4095 : Int32) = N 4095 from rfl, v1, Option.bind_some]
          try dsimp only
          rw [if_pos (by rw [c]; decide)]
          exact s3
      · refine ⟨N 0, τ2, by rw [if_neg (by rw [l0_, N_le (by omega) (by omega)]; omega)]; rfl, o2, fun υ hυ h3 h20 h69 => ?_⟩
        obtain ⟨υ1, v1, v2, -⟩ := M_ownedS (T := T) (S := 4095) hυ h3 hn0 h20 d2 d1 (fun k hk => ⟨d3 k hk, h69 k hk⟩) (by omega) O2.rf
        rw [← hm, ← hw] at v1
        refine ⟨υ1, ?_, v2⟩
        rw [show (4095 : Int32) = N 4095 from rfl, v1, Option.bind_some]
        try dsimp only
        rw [if_neg (by rw [l0_, N_le (by omega) (by omega)]; omega)]
        rfl
    have E3 : EW τ τ3 := r2.ewc
    have Eo : EW τ (o75 τ3 r) := E3.tr (EW.w (by omega))
    have Ko := Eo.kr Kτ
    obtain ⟨υ, u1, u2, u3, u4, u5, u6, u7, u8, u9, u10, u11, u12⟩ := M_saidX (τ := o75 τ3 r) (T := T) (k := 0) Ko hL (by show mI τ3 62 8 = N L; rw [r2.e (by omega), c4]; exact t8) (fun k hk => by rw [Eo.e (by omega), c1.e (by omega)]; exact tM k hk)
    rw [hs] at u2
    obtain ⟨υ', v1, v2⟩ := r3 (thr_ υ 0) u4 (by rw [u10]; exact Ko.1.n) u8 (u9 hs)
    have E5 : EW (thr_ υ 0) υ' := v2.ewm
    refine Qi_eat (σ1 := o75 τ3 r) (σ2 := υ') (k := N 0) (b := r) (c := 0) (z := 0) I ?_ (by omega) (by omega) ?_ ?_ (fun _ => ?_) (c1.tr (Eo.tr (u5.tr E5))) ?_ ?_
    · unfold FX0_clash FX1_clash
      rw [fc_rv0 hC, Option.bind_some, fc_ck0 hC, c6, db_rt]
      try dsimp only
      rw [fc_gR0_8 hCτ, Option.bind_some, fc_rv44 hCτ, Option.bind_some, b1, Option.bind_some]
      try dsimp only
      rw [fc_rv44 K1.1.c, Option.bind_some, e1, Option.bind_some]
      try dsimp only
      rw [r1, dt_rt, l0_, show sL (some 75) (N 0) r τ3 = some (o75 τ3 r) from sL_w ((E3.kr Kτ).1.c), Option.bind_some]
      rfl
    · unfold FX8_clash jn
      rw [fm_ck Ko.1.m, u2, Option.bind_some]
      try dsimp only
      rw [if_neg (show ¬ bN true = (0 : Int32) by decide), l0_, fm_pI u3, Option.bind_some, thr_w, fm_gI u4, Option.bind_some, thr_0, if_neg (by decide), fm_ck u4]
      exact v1
    · rw [v2.e (by omega)]; rfl
    · rw [v2.e (by omega)]
      show mI υ 75 0 = r
      rw [u12]; rfl
    · rw [v2.e (by omega), u7]
      show mI τ3 37 1 = N 0
      rw [r2.e (by omega)]; exact c2
    · rw [v2.e (by omega)]; exact u6
end
