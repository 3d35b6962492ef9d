/-! THE PLAIN LAW, 137: ask, asked of both -/
set_option maxRecDepth 100000
/-- whom it is best to ask for -/
def asR (m : Nat → Nat) (np x w : Nat) : Nat → Nat → Option Nat → Nat → Option Nat
  | 0, _, b, _ => b
  | d + 1, v, b, a => if max (wN_ (on1 m x v) np) (w - wN_ (on1 m x v) np) < a then asR m np x w d (v + 1) (some v) (max (wN_ (on1 m x v) np) (w - wN_ (on1 m x v) np)) else asR m np x w d (v + 1) b a
theorem imax_M {a b : Nat} (ha : a < 2147483648) (hb : b < 2147483648) : imax (N a) (N b) = N (max a b) := by
  unfold imax
  by_cases c : a < b
  · rw [if_pos (by rw [N_lt ha hb]; exact c), Nat.max_eq_right (by omega)]
  · rw [if_neg (by rw [N_lt ha hb]; exact c), Nat.max_eq_left (by omega)]
section
variable {np nh n L : Nat} {σ : Mm}
theorem M_great2 {a b : Nat} (ha : a < 2147483648) (hb : b < 2147483648) : FX8_greater (N a) (N b) σ = some (N (max a b), σ) := by
  unfold FX8_greater
  by_cases c : a ≤ b
  · rw [if_pos (by rw [N_le ha hb]; exact c), Nat.max_eq_right c]
  · rw [if_neg (by rw [N_le ha hb]; exact c), Nat.max_eq_left (by omega)]
theorem C_ask_42 {m : Nat → Nat} {x w : Nat} (K : KR np nh n σ) (hm : ∀ j, m j < 1024) (hx : x < np) (hw : w = wN_ m np) (Kx : Int32 → Mm → DX (Int32 × Mm)) : ∀ (d v f a : Nat) (b : Option Nat) (τ : Mm), v + d = np → d < f → a ≤ 2000000000 → O2 45 46 σ τ → (∀ j, j < np → mI τ 45 j = N (m j)) → ∃ τ', FX1_ask_42 0 (N x) (N w) f (oN b) (N a) (N v) τ Kx = Kx (oN (asR m np x w d v b a)) τ' ∧ O2 45 46 σ τ' := by
  have hn0 := K.1.n0
  intro d
  induction d with
  | zero =>
    intro v f a b τ hv hf ha hO h45
    obtain ⟨f, rfl⟩ : ∃ m, f = m + 1 := ⟨f - 1, by omega⟩
    have K' := (hO.ewc.kr K).1
    have hC := K'.c
    refine ⟨τ, ?_, hO⟩
    rw [FX1_ask_42, fc_gR0_0 hC, Option.bind_some, fw_gI hC.1, Option.bind_some, rw1 K'.r, K'.n, if_pos (by rw [N_le (by omega) (by omega)]; omega), asR]
  | succ d ih =>
    intro v f a b τ hv hf ha hO h45
    obtain ⟨f, rfl⟩ : ∃ m, f = m + 1 := ⟨f - 1, by omega⟩
    have KK := hO.ewc.kr K
    have K' := KK.1
    have hC := K'.c
    obtain ⟨τ1, t1, t2, t3⟩ := C_having (y := v) KK hm h45 hx (by omega)
    have wl := wN_le (m := m) hn0
    have le : wN_ (on1 m x v) np ≤ w := by rw [hw]; exact wN_mono on1_sub
    obtain ⟨y, hy⟩ : ∃ y, y = wN_ (on1 m x v) np := ⟨_, rfl⟩
    rw [← hy] at t1 le
    rw [FX1_ask_42, fc_gR0_0 hC, Option.bind_some, fw_gI hC.1, Option.bind_some, rw1 K'.r, K'.n, if_neg (by rw [N_le (by omega) (by omega)]; omega), fc_gR0_8 hC, Option.bind_some, fc_rv44 hC, Option.bind_some, t1, Option.bind_some, asR, ← hy]
    try dsimp only
    rw [N_sub le, imax_M (by omega) (by omega), l1_, N_add]
    by_cases c : max y (w - y) < a
    · obtain ⟨τ2, s1, s2⟩ := ih (v + 1) f (max y (w - y)) (some v) τ1 (by omega) (by omega) (by omega) (hO.tr t2) t3
      refine ⟨τ2, ?_, s2⟩
      rw [if_pos c, if_pos (by rw [N_lt (by omega) (by omega)]; exact c)]
      exact s1
    · obtain ⟨τ2, s1, s2⟩ := ih (v + 1) f a b τ1 (by omega) (by omega) ha (hO.tr t2) t3
      refine ⟨τ2, ?_, s2⟩
      rw [if_neg c, if_neg (by rw [N_lt (by omega) (by omega)]; exact c), s1]
theorem M_ask_58 {T : Nat → Nat} {x w : Nat} (h : FM σ) (hnn : mI σ 63 3 = N np) (hn0 : np ≤ 10) (h20 : mI σ 62 20 = N (L / 3)) (hL : L ≤ 36) (h3 : L % 3 = 0) (hT : ∀ k, k < L → bo T np k = true ∧ mI σ 69 k = N (T k)) (hx : x < np) (hw : w = wN_ (myR T np 4095 (L / 3)) np) (hw2 : 2 ≤ w) (Kx : Int32 → Mm → Option (Int32 × Mm)) : ∀ (d v f a : Nat) (b : Option Nat) (τ : Mm), v + d = np → d < f → a ≤ 2000000000 → O2 70 71 σ τ → ∃ τ', FX8_ask_58 62 (N x) (N w) f (oN b) (N a) (N v) τ Kx = Kx (oN (asR (myR T np 4095 (L / 3)) np x w d v b a)) τ' ∧ O2 70 71 σ τ' := by
  intro d
  induction d with
  | zero =>
    intro v f a b τ hv hf ha hO
    obtain ⟨f, rfl⟩ : ∃ m, f = m + 1 := ⟨f - 1, by omega⟩
    have h' : FM τ := FM_at (fun q _ => by rw [hO.1, hO.2.1]; exact ⟨rfl, rfl⟩) (by rw [hO.2.2.1]) h
    refine ⟨τ, ?_, hO⟩
    rw [FX8_ask_58, fm_gR1 h', Option.bind_some, l3_, fm_rd63 h' (by omega), Option.bind_some, hO.e (by omega), hnn, if_pos (by rw [N_le (by omega) (by omega)]; omega), asR]
  | succ d ih =>
    intro v f a b τ hv hf ha hO
    obtain ⟨f, rfl⟩ : ∃ m, f = m + 1 := ⟨f - 1, by omega⟩
    have h' : FM τ := FM_at (fun q _ => by rw [hO.1, hO.2.1]; exact ⟨rfl, rfl⟩) (by rw [hO.2.2.1]) h
    obtain ⟨τ1, t1, t2⟩ := M_ways (y := v) h hnn hn0 h20 hL h3 hT hx (by omega) hO
    have wl := wN_le (m := myR T np 4095 (L / 3)) hn0
    have le : wN_ (on1 (myR T np 4095 (L / 3)) x v) np ≤ w := by rw [hw]; exact wN_mono on1_sub
    obtain ⟨y, hy⟩ : ∃ y, y = wN_ (on1 (myR T np 4095 (L / 3)) x v) np := ⟨_, rfl⟩
    rw [← hy] at t1 le
    rw [FX8_ask_58, fm_gR1 h', Option.bind_some, l3_, fm_rd63 h' (by omega), Option.bind_some, hO.e (by omega), hnn, if_neg (by rw [N_le (by omega) (by omega)]; omega), if_neg (show ¬ N w ≤ 1 by rw [l1_, N_le (by omega) (by omega)]; omega), fm_ck h', t1, Option.bind_some, asR, ← hy]
    try dsimp only
    rw [N_sub le, M_great2 (by omega) (by omega), Option.bind_some]
    try dsimp only
    by_cases c : max y (w - y) < a
    · obtain ⟨τ2, s1, s2⟩ := ih (v + 1) f (max y (w - y)) (some v) τ1 (by omega) (by omega) (by omega) t2
      refine ⟨τ2, ?_, s2⟩
      rw [if_pos c, if_pos (by rw [N_lt (by omega) (by omega)]; exact c), M_great2 (by omega) (by omega), Option.bind_some, l1_, N_add]
      exact s1
    · obtain ⟨τ2, s1, s2⟩ := ih (v + 1) f a b τ1 (by omega) (by omega) ha t2
      refine ⟨τ2, ?_, s2⟩
      rw [if_neg c, if_neg (by rw [N_lt (by omega) (by omega)]; exact c), l1_, N_add, s1]
theorem q_ask (I : Inv np nh n L σ) (x : Int32) : Qi (FX0_ask (some 0) x (some 75)) (FX8_ask 62 x) L σ := by
  have KK := I.1
  have K := KK.1
  have hC := K.c; have h := K.m; have hn0 := K.n0
  obtain ⟨T, hL, t37, t8, tC, tM⟩ := tape_of I
  obtain ⟨τ, c1, c2, c3, c4, c5, c6⟩ := C_said KK hL t37 tC
  have Kτ := c1.kr KK
  have hCτ := Kτ.1.c
  rcases N_in x np (by omega) with ⟨p, hp, rfl⟩ | hx
  · cases hs : sdOk T np L with
    | false =>
      obtain ⟨υ, u1, u2, u3, u4, u5, u6, u7, u8, u9, u10, u11, u12⟩ := M_saidX (k := 2) Kτ hL (by rw [c4]; exact t8) (fun k hk => by rw [c1.e (by omega)]; exact tM k hk)
      rw [hs] at c6 u2
      refine Qi_eat (σ1 := τ) (σ2 := thr_ υ 2) (k := N 2) (b := N 0) (c := 1) (z := 6) I ?_ (by omega) (by omega) ?_ rfl (fun e => absurd e (by decide)) (c1.tr u5) (by rw [u7]; exact c2) u6
      · unfold FX0_ask FX1_ask
        rw [fc_rv0 hC, Option.bind_some, fc_ck0 hC, C_asked_in K hp, db_rt, fc_gR0_8 hC, Option.bind_some, fc_ck0 hC, c6, if_neg Bool.false_ne_true, db_thw, dt_thw, if_neg (by decide), if_pos rfl]
        rfl
      · unfold FX8_ask jn
        rw [fm_ck Kτ.1.m, u2, Option.bind_some]
        try dsimp only
        rw [fm_ck u3, M_isPerson_in u3 (by rw [u11]; exact Kτ.1.n) hn0 hp, Option.bind_some]
        try dsimp only
        rw [if_neg (show ¬ N 1 = 0 by decide), if_pos (show bN false = (0 : Int32) from rfl), l2_, fm_pI u3, Option.bind_some, thr_w, fm_gI u4, Option.bind_some, thr_0, if_neg (by decide)]
        rfl
    | true =>
      rw [hs, if_pos rfl] at c6
      obtain ⟨d1, d2, d3⟩ := sd_at hs
      have q12 : L / 3 ≤ 12 := by omega
      have p212 : 2 ^ (L / 3) ≤ 2 ^ 12 := Nat.pow_le_pow_right (by omega) q12
      have p21 := Nat.two_pow_pos (L / 3)
      obtain ⟨m, hm⟩ : ∃ m, m = myR T np 4095 (L / 3) := ⟨_, rfl⟩
      have ml : ∀ j, m j < 1024 := fun j => by rw [hm]; exact Nat.lt_of_lt_of_le (myR_lt j) (Nat.pow_le_pow_right (by omega) hn0)
      obtain ⟨τ1, b1, b2, b3⟩ := C_byS (S := 2 ^ (L / 3) - 1) Kτ c3 d2 d1 (fun k hk => ⟨d3 k hk, by rw [c1.e (by omega)]; exact (tC k hk).2⟩) (by omega) O2.rf
      rw [my_all q12, ← hm] at b3
      have K1 := b2.ewc.kr Kτ
      obtain ⟨τ2, e1, e2⟩ := C_many K1 ml b3
      have o2 : O2 45 46 τ τ2 := b2.tr ⟨e2.1, e2.2.1, e2.2.2.1, e2.2.2.2.1, fun p _ b => e2.2.2.2.2 p b b⟩
      have K2 := o2.ewc.kr Kτ
      have wl := wN_le (m := m) hn0
      obtain ⟨w, hw⟩ : ∃ w, w = wN_ m np := ⟨_, rfl⟩
      rw [← hw] at e1 wl
      have b45 : ∀ j, j < np → mI τ2 45 j = N (m j) := by rw [e2.e (by omega)]; exact b3
      obtain ⟨r, τ3, r1, r2, r3⟩ : ∃ r τ3, (if 2 ≤ N w then (FX1_ask_42 0 (N p) (N w) fu (-1) (N w + 1) 0 τ2 (fun (x45 : Int32) (σ : Mm) => (rt (x45, σ)))) else (rt ((-1), τ2) : DX (Int32 × Mm))) = rt (r, τ3) ∧ O2 45 46 τ τ3 ∧ ∀ (υ : Mm), FM υ → mI υ 63 3 = N np → mI υ 62 20 = N (L / 3) → (∀ k, k < L → mI υ 69 k = N (T k)) → ∃ υ', ((FX8_owned 62 4095 υ).bind fun (x31, σ32) => FX8_ask_58 62 (N p) x31 fu (-1) 2000000000 0 σ32 (fun (x45 : Int32) (σ : Mm) => (some (x45, σ)))) = some (r, υ') ∧ O2 70 71 υ υ' := by
        by_cases c : 2 ≤ w
        · obtain ⟨τ3, s1, s2⟩ := C_ask_42 (x := p) K2 ml hp hw (fun (x45 : Int32) (σ : Mm) => (rt (x45, σ))) np 0 fu (w + 1) none τ2 (by omega) (by unfold fu; omega) (by omega) O2.rf b45
          have same : asR m np p w np 0 none 2000000000 = asR m np p w np 0 none (w + 1) := by
            obtain ⟨d, hd⟩ : ∃ d, np = d + 1 := ⟨np - 1, by omega⟩
            have le : wN_ (on1 m p 0) np ≤ w := by rw [hw]; exact wN_mono on1_sub
            have : ∀ a, w < a → asR m np p w (d + 1) 0 none a = asR m np p w d 1 (some 0) (max (wN_ (on1 m p 0) np) (w - wN_ (on1 m p 0) np)) := fun a ha => by
              rw [asR, if_pos (by omega)]
            rw [show asR m np p w np 0 none 2000000000 = asR m np p w (d + 1) 0 none 2000000000 by rw [← hd], show asR m np p w np 0 none (w + 1) = asR m np p w (d + 1) 0 none (w + 1) by rw [← hd], this _ (by omega), this _ (by omega)]
          refine ⟨oN (asR m np p w np 0 none (w + 1)), τ3, ?_, o2.tr s2, fun υ hυ h3 h20 h69 => ?_⟩
          · rw [if_pos (show 2 ≤ N w by rw [l2_, N_le (by omega) (by omega)]; exact c), l0_, l1_, N_add]
            exact s1
          · obtain ⟨υ1, v1, v2, -⟩ := M_ownedS (T := T) (S := 4095) hυ h3 hn0 h20 d2 d1 (fun k hk => ⟨d3 k hk, h69 k hk⟩) (by omega) O2.rf
            rw [← hm, ← hw] at v1
            obtain ⟨υ2, s3, s4⟩ := M_ask_58 (T := T) (x := p) (w := w) hυ h3 hn0 h20 d2 d1 (fun k hk => ⟨d3 k hk, h69 k hk⟩) hp (by rw [← hm]; exact hw) c (fun (x45 : Int32) (σ : Mm) => (some (x45, σ))) np 0 fu 2000000000 none υ1 (by omega) (by unfold fu; omega) (by omega) v2
            rw [← hm, same] at s3
            refine ⟨υ2, ?_, s4⟩
            rw [show (4095 : Int32) = N 4095 from rfl, v1, Option.bind_some]
            exact s3
        · refine ⟨M1, τ2, by rw [if_neg (show ¬ 2 ≤ N w by rw [l2_, N_le (by omega) (by omega)]; exact c)]; rfl, o2, fun υ hυ h3 h20 h69 => ?_⟩
          obtain ⟨υ1, v1, v2, -⟩ := M_ownedS (T := T) (S := 4095) hυ h3 hn0 h20 d2 d1 (fun k hk => ⟨d3 k hk, h69 k hk⟩) (by omega) O2.rf
          rw [← hm, ← hw] at v1
          have hυ1 : FM υ1 := FM_at (fun q _ => by rw [v2.1, v2.2.1]; exact ⟨rfl, rfl⟩) (by rw [v2.2.2.1]) hυ
          refine ⟨υ1, ?_, v2⟩
          rw [show (4095 : Int32) = N 4095 from rfl, v1, Option.bind_some]
          try dsimp only
          rw [show fu = 99999 + 1 from rfl, FX8_ask_58, fm_gR1 hυ1, Option.bind_some, l3_, fm_rd63 hυ1 (by omega), Option.bind_some, v2.e (by omega), h3, l0_, if_neg (by rw [N_le (by omega) (by omega)]; omega), if_pos (show N w ≤ 1 by rw [l1_, N_le (by omega) (by omega)]; omega)]
          rfl
      have E3 : EW τ τ3 := r2.ewc
      have Eo : EW τ (o75 τ3 r) := E3.tr (EW.w (by omega))
      have Ko := Eo.kr Kτ
      obtain ⟨υ, u1, u2, u3, u4, u5, u6, u7, u8, u9, u10, u11, u12⟩ := M_saidX (τ := o75 τ3 r) (T := T) (k := 0) Ko hL (by show mI τ3 62 8 = N L; rw [r2.e (by omega), c4]; exact t8) (fun k hk => by rw [Eo.e (by omega), c1.e (by omega)]; exact tM k hk)
      rw [hs] at u2
      obtain ⟨υ', v1, v2⟩ := r3 (thr_ υ 0) u4 (by rw [u10]; exact Ko.1.n) u8 (u9 hs)
      have E5 : EW (thr_ υ 0) υ' := v2.ewm
      refine Qi_eat (σ1 := o75 τ3 r) (σ2 := υ') (k := N 0) (b := r) (c := 0) (z := 0) I ?_ (by omega) (by omega) ?_ ?_ (fun _ => ?_) (c1.tr (Eo.tr (u5.tr E5))) ?_ ?_
      · unfold FX0_ask FX1_ask
        rw [fc_rv0 hC, Option.bind_some, fc_ck0 hC, C_asked_in K hp, db_rt, fc_gR0_8 hC, Option.bind_some, fc_ck0 hC, c6, db_rt]
        try dsimp only
        rw [fc_rv44 hCτ, Option.bind_some, b1, Option.bind_some]
        try dsimp only
        rw [fc_gR0_8 K1.1.c, Option.bind_some, fc_rv44 K1.1.c, Option.bind_some, e1, Option.bind_some]
        try dsimp only
        rw [r1, dt_rt, l0_, show sL (some 75) (N 0) r τ3 = some (o75 τ3 r) from sL_w ((E3.kr Kτ).1.c), Option.bind_some]
        rfl
      · unfold FX8_ask jn
        rw [fm_ck Ko.1.m, u2, Option.bind_some]
        try dsimp only
        rw [fm_ck u3, M_isPerson_in u3 (by rw [u11]; exact Ko.1.n) hn0 hp, Option.bind_some]
        try dsimp only
        rw [if_neg (show ¬ N 1 = 0 by decide), if_neg (show ¬ bN true = (0 : Int32) by decide), l0_, fm_pI u3, Option.bind_some, thr_w, fm_gI u4, Option.bind_some, thr_0, if_pos (by decide), fm_ck u4]
        exact v1
      · rw [v2.e (by omega)]; rfl
      · rw [v2.e (by omega)]
        show mI υ 75 0 = r
        rw [u12]; rfl
      · rw [v2.e (by omega), u7]
        show mI τ3 37 1 = N 0
        rw [r2.e (by omega)]; exact c2
      · rw [v2.e (by omega)]; exact u6
  · obtain ⟨υ, u1, u2, u3, u4, u5, u6, u7, u8, u9, u10, u11, u12⟩ := M_saidX (k := 1) Kτ hL (by rw [c4]; exact t8) (fun k hk => by rw [c1.e (by omega)]; exact tM k hk)
    refine Qi_eat (σ1 := τ) (σ2 := thr_ υ 1) (k := N 1) (b := N 0) (c := 1) (z := 6) I ?_ (by omega) (by omega) ?_ rfl (fun e => absurd e (by decide)) (c1.tr u5) (by rw [u7]; exact c2) u6
    · unfold FX0_ask FX1_ask
      rw [fc_rv0 hC, Option.bind_some, fc_ck0 hC, C_asked_out K hx c5, db_thw, dt_thw, if_pos rfl]
      rfl
    · unfold FX8_ask jn
      rw [fm_ck Kτ.1.m, u2, Option.bind_some]
      try dsimp only
      rw [fm_ck u3, M_isPerson_out u3 (by rw [u11]; exact Kτ.1.n) hn0 hx, Option.bind_some]
      try dsimp only
      rw [if_pos (show N 0 = 0 from rfl), l1_, fm_pI u3, Option.bind_some, thr_w, fm_gI u4, Option.bind_some, thr_0, if_neg (by decide)]
      rfl
end
