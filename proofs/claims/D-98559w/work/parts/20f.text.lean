/-! THE PLAIN LAW, 55: the model reads conditions -/
set_option maxRecDepth 100000
def MB (σ : Mm) : Prop := (∃ b, mI σ 62 15 = bN b) ∧ ∃ b, mI σ 62 16 = bN b
def MC (e : Nat) (σ : Mm) (dd : Nat) (r : PR Cn) (o : Option (Int32 × Mm)) : Prop := match r with
  | .ok u => o = some (bN (u.1 (ME σ)), ms σ (N u.2) M1 (N dd))
  | .error p => ∃ b a d', a + dd ≤ e + 7 ∧ o = some (bN b, ms σ (N a) (N p) d')
theorem bN_beq : ∀ b : Bool, (bN b == N 1) = b := by decide
theorem bN_z : ∀ b : Bool, (bN b = 0) = (b = false) := by
  intro b; cases b
  · exact propext ⟨fun _ => rfl, fun _ => rfl⟩
  · exact propext ⟨fun h => absurd h (by decide), fun h => by cases h⟩
theorem rZ_lt {β : Type} {x y : Int32} (r : β) : (if y ≤ x then rZ 0 r else rZ 1 r) = some (bN (decide (x < y)), r) := by
  by_cases h : y ≤ x
  · rw [if_pos h, l0_, rZ_0, decide_eq_false (Int32.not_lt.mpr h)]; rfl
  · rw [if_neg h, l1_, rZ_1, decide_eq_true (Int32.not_le.mp h)]; rfl
section
variable {T : Nat → Nat} {e : Nat} {σ : Mm} {a f d : Int32} {k dd : Nat}
theorem M_plain (hT : TX T e) (h : MT T e σ) (hK : KS σ) (hB : MB σ) (hk : k ≤ e) (hs : T k ≠ 32) (hd : dd ≤ 6) : MC e σ dd (plainP T e k) (FX8_plain 62 (ms σ (N k) M1 (N dd))) := by
  have he := hT.1
  obtain ⟨⟨b1, hb1⟩, b2, hb2⟩ := hB
  unfold plainP FX8_plain
  rw [s_ck h.1]
  by_cases w0 : isW T e k wOwn = true
  · rw [if_pos w0, M_has1 hT h (fun _ => kOwn (KS_ms hK)) hk hs w0, Option.bind_some]
    dsimp only
    rw [if_neg (show ¬ (N 1 : Int32) = 0 by decide), fm_gI (FM_ms h.1), Option.bind_some, ms_k (by omega), hb1, rZ_b]
    have e6 : ME σ 6 = bN b1 := hb1
    show some (bN b1, _) = some (bN (ME σ 6 == N 1), _)
    rw [e6, bN_beq]
  rw [if_neg w0, M_has0 hT h (fun _ => kOwn (KS_ms hK)) hk hs w0, Option.bind_some]
  dsimp only
  rw [if_pos (show (N 0 : Int32) = 0 from rfl), s_ck h.1]
  by_cases w1 : isW T e k wWed = true
  · rw [if_pos w1, M_has1 hT h (fun _ => kWed (KS_ms hK)) hk hs w1, Option.bind_some]
    dsimp only
    rw [if_neg (show ¬ (N 1 : Int32) = 0 by decide), fm_gI (FM_ms h.1), Option.bind_some, ms_k (by omega), hb2, rZ_b]
    have e6 : ME σ 7 = bN b2 := hb2
    show some (bN b2, _) = some (bN (ME σ 7 == N 1), _)
    rw [e6, bN_beq]
  rw [if_neg w1, M_has0 hT h (fun _ => kWed (KS_ms hK)) hk hs w1, Option.bind_some]
  dsimp only
  rw [if_pos (show (N 0 : Int32) = 0 from rfl), s_ck h.1]
  have hp := M_sum (d := N dd) hT h hK (k := k) hk
  have hb := sumP_bd hT (k := k) hk
  revert hp hb
  cases sumP T e k with
  | error p =>
    intro hp hb
    obtain ⟨x, b, hb2, hp⟩ := hp
    have hpe : p ≤ e := hb
    refine ⟨false, b, N dd, by omega, ?_⟩
    rw [hp, Option.bind_some]
    dsimp only
    rw [s_g12 h.1, Option.bind_some, m1_, if_neg (by rw [N_m1 (by omega)]; exact id), l0_, rZ_0]
    rfl
  | ok o =>
    intro hp hb
    obtain ⟨fs, k2⟩ := o
    have hp : FX8_sum 62 (ms σ (N k) M1 (N dd)) = some (fs (ME σ), ms σ (N k2) M1 (N dd)) := hp
    have hb : k < k2 ∧ k2 ≤ e := hb
    have h1 := sk_le (T := T) hb.2
    have hs1 := sk_at hT hb.2
    rw [hp, Option.bind_some]
    dsimp only
    rw [s_g12 h.1, Option.bind_some, m1_, if_pos rfl, s_ck h.1, l60_, M_isSign hT h hb.2 (by omega), Option.bind_some]
    show MC e σ dd (lessP T e fs k2) _
    unfold lessP jn
    dsimp only
    have tl : ∀ x : Int32, T (sk T e k2) ≠ 256 → (∃ g k4, sumP T e (sk T e k2 + 1) = .ok (g, k4) ∧ (gI 8 11 (some 62) (ms σ (N (sk T e k2)) M1 (N dd))).bind (fun x34 => (pI 8 11 (some 62) (x34 + 1) (ms σ (N (sk T e k2)) M1 (N dd))).bind fun σ35 => ck 8 62 σ35 ((FX8_sum 62 σ35).bind fun y => if x = 0 then (if fs (ME σ) ≤ y.1 then rZ 0 y.2 else rZ 1 y.2) else if y.1 ≤ fs (ME σ) then rZ 0 y.2 else rZ 1 y.2)) = if x = 0 then some (bN (decide (g (ME σ) < fs (ME σ))), ms σ (N k4) M1 (N dd)) else some (bN (decide (fs (ME σ) < g (ME σ))), ms σ (N k4) M1 (N dd))) ∨ (∃ p, sumP T e (sk T e k2 + 1) = .error p ∧ ∃ b a, a ≤ e ∧ (gI 8 11 (some 62) (ms σ (N (sk T e k2)) M1 (N dd))).bind (fun x34 => (pI 8 11 (some 62) (x34 + 1) (ms σ (N (sk T e k2)) M1 (N dd))).bind fun σ35 => ck 8 62 σ35 ((FX8_sum 62 σ35).bind fun y => if x = 0 then (if fs (ME σ) ≤ y.1 then rZ 0 y.2 else rZ 1 y.2) else if y.1 ≤ fs (ME σ) then rZ 0 y.2 else rZ 1 y.2)) = some (bN b, ms σ (N a) (N p) (N dd))) := fun x hx => by
      have h2 := hT.lt hx
      have hq := M_sum (d := N dd) hT h hK (k := sk T e k2 + 1) h2
      rw [s_g11 h.1, Option.bind_some, s_p11 h.1, Option.bind_some, l1_, N_add, s_ck h.1]
      revert hq
      cases sumP T e (sk T e k2 + 1) with
      | error p =>
        intro hq
        obtain ⟨y, b, hb3, hq⟩ := hq
        refine Or.inr ⟨p, rfl, ?_⟩
        rw [hq, Option.bind_some]
        dsimp only
        by_cases hx0 : x = 0
        · exact ⟨_, b, hb3, by rw [if_pos hx0, ← l1_, rZ_lt]⟩
        · exact ⟨_, b, hb3, by rw [if_neg hx0, ← l1_, rZ_lt]⟩
      | ok u =>
        intro hq
        refine Or.inl ⟨u.1, u.2, rfl, ?_⟩
        have hq : FX8_sum 62 (ms σ (N (sk T e k2 + 1)) M1 (N dd)) = some (u.1 (ME σ), ms σ (N u.2) M1 (N dd)) := hq
        rw [hq, Option.bind_some]
        dsimp only
        by_cases hx0 : x = 0
        · rw [if_pos hx0, if_pos hx0, ← l1_, rZ_lt]
        · rw [if_neg hx0, if_neg hx0, ← l1_, rZ_lt]
    by_cases c60 : T (sk T e k2) = 60
    · rw [if_pos c60, if_pos c60, if_neg (show ¬ (N 1 : Int32) = 0 by decide)]
      rcases tl (N 1) (by omega) with ⟨g, k4, t1, t2⟩ | ⟨p, t1, b, a, t2, t3⟩
      · rw [t1]
        rw [if_neg (show ¬ (N 1 : Int32) = 0 by decide)] at t2
        exact t2
      · rw [t1]
        exact ⟨b, a, N dd, by omega, t3⟩
    · rw [if_neg c60, if_neg c60, if_pos (show (N 0 : Int32) = 0 from rfl), s_ck h.1, l62_, M_isSign hT h h1 (by omega), Option.bind_some, sk_eq hs1]
      dsimp only
      by_cases c62 : T (sk T e k2) = 62
      · rw [if_pos c62, if_pos c62, if_neg (show ¬ (N 1 : Int32) = 0 by decide)]
        rcases tl (N 0) (by omega) with ⟨g, k4, t1, t2⟩ | ⟨p, t1, b, a, t2, t3⟩
        · rw [t1]
          rw [if_pos (show (N 0 : Int32) = 0 from rfl)] at t2
          exact t2
        · rw [t1]
          exact ⟨b, a, N dd, by omega, t3⟩
      · rw [if_neg c62, if_neg c62, if_pos (show (N 0 : Int32) = 0 from rfl), s_g11 h.1, Option.bind_some, s_ck h.1, M_wrong0 h.1, Option.bind_some, l0_, rZ_0]
        exact ⟨false, sk T e k2, N dd, by omega, rfl⟩
theorem M_every_5 (hT : TX T e) (h : MT T e σ) (hK : KS σ) {Rf : Nat → Mm → Option (Int32 × Mm)} {Rs : Nat → PR Cn} (hd : dd ≤ 6) (hb : ∀ k, k ≤ e → Bd e k (Rs k)) (hR : ∀ k, k ≤ e → MC e σ dd (Rs k) (Rf 62 (ms σ (N k) M1 (N dd)))) : ∀ (n : Nat) (c : Cn) (k m : Nat), k ≤ e → e < k + n → n ≤ m → MC e σ dd (manyL T e wAnd and Rs n c k) (RX8_every_5 Rf 62 m (bN (c (ME σ))) (ms σ (N k) M1 (N dd)) fun x σ => rZ x σ) := by
  have he := hT.1
  intro n
  induction n with
  | zero => intro c k m hk hn hm; omega
  | succ n ih =>
    intro c k m hk hn hm
    obtain ⟨m, rfl⟩ : ∃ m', m = m' + 1 := ⟨m - 1, by omega⟩
    have h1 := sk_le (T := T) hk
    have h2 := sk_ge (T := T) (e := e) (k := k)
    rw [manyL, RX8_every_5, s_g12 h.1, Option.bind_some, m1_, if_pos rfl, s_ck h.1, M_hask hT h (fun a => kAnd (KS_ms hK)) hk, Option.bind_some]
    dsimp only
    by_cases hc : isW T e (sk T e k) wAnd = true
    · have h3 := isW_gt (by decide) hc
      have h4 := wd_le (T := T) h1
      have hp := hR _ h4
      have hb' := hb _ h4
      rw [if_pos hc, if_pos hc, if_pos hc, if_neg (show ¬ (N 1 : Int32) = 0 by decide), s_ck h.1]
      revert hp hb'
      cases Rs (wd T e (sk T e k)) with
      | error p =>
        intro hp hb'
        obtain ⟨b, a, d', ha, hp⟩ := hp
        have hpe : p ≤ e := hb'
        obtain ⟨m, rfl⟩ : ∃ m', m = m' + 1 := ⟨m - 1, by omega⟩
        have ex : ∀ x, RX8_every_5 Rf 62 (m + 1) (bN x) (ms σ (N a) (N p) d') (fun x σ => rZ x σ) = some (bN x, ms σ (N a) (N p) d') := fun x => by
          rw [RX8_every_5, s_g12 h.1, Option.bind_some, m1_, if_neg (by rw [N_m1 (by omega)]; exact id), rZ_b]
        refine ⟨c (ME σ) && b, a, d', ha, ?_⟩
        rw [hp, Option.bind_some]
        dsimp only
        rw [← ex]
        cases c (ME σ) <;> cases b <;> rfl
      | ok o =>
        intro hp hb'
        have hp : Rf 62 (ms σ (N (wd T e (sk T e k))) M1 (N dd)) = some (bN (o.1 (ME σ)), ms σ (N o.2) M1 (N dd)) := hp
        have hb' : wd T e (sk T e k) < o.2 ∧ o.2 ≤ e := hb'
        rw [hp, Option.bind_some]
        dsimp only
        have g := ih (fun E => c E && o.1 E) o.2 m hb'.2 (by omega) (by omega)
        refine Eq.subst (motive := fun z => MC e σ dd _ z) ?_ g
        show RX8_every_5 Rf 62 m (bN (c (ME σ) && o.1 (ME σ))) _ _ = _
        cases c (ME σ) <;> cases o.1 (ME σ) <;> rfl
    · rw [if_neg hc, if_neg hc, if_neg hc, if_pos (show (N 0 : Int32) = 0 from rfl), rZ_b]
      exact rfl
theorem M_some_5 (hT : TX T e) (h : MT T e σ) (hK : KS σ) {Rf : Nat → Mm → Option (Int32 × Mm)} {Rs : Nat → PR Cn} (hd : dd ≤ 6) (hb : ∀ k, k ≤ e → Bd e k (Rs k)) (hR : ∀ k, k ≤ e → MC e σ dd (Rs k) (RX8_every Rf 62 (ms σ (N k) M1 (N dd)))) : ∀ (n : Nat) (c : Cn) (k m : Nat), k ≤ e → e < k + n → n ≤ m → MC e σ dd (manyL T e wOr or Rs n c k) (RX8_some_5 Rf 62 m (bN (c (ME σ))) (ms σ (N k) M1 (N dd)) fun x σ => rZ x σ) := by
  have he := hT.1
  intro n
  induction n with
  | zero => intro c k m hk hn hm; omega
  | succ n ih =>
    intro c k m hk hn hm
    obtain ⟨m, rfl⟩ : ∃ m', m = m' + 1 := ⟨m - 1, by omega⟩
    have h1 := sk_le (T := T) hk
    have h2 := sk_ge (T := T) (e := e) (k := k)
    rw [manyL, RX8_some_5, s_g12 h.1, Option.bind_some, m1_, if_pos rfl, s_ck h.1, M_hask hT h (fun a => kOr (KS_ms hK)) hk, Option.bind_some]
    dsimp only
    by_cases hc : isW T e (sk T e k) wOr = true
    · have h3 := isW_gt (by decide) hc
      have h4 := wd_le (T := T) h1
      have hp := hR _ h4
      have hb' := hb _ h4
      rw [if_pos hc, if_pos hc, if_pos hc, if_neg (show ¬ (N 1 : Int32) = 0 by decide), s_ck h.1]
      revert hp hb'
      cases Rs (wd T e (sk T e k)) with
      | error p =>
        intro hp hb'
        obtain ⟨b, a, d', ha, hp⟩ := hp
        have hpe : p ≤ e := hb'
        obtain ⟨m, rfl⟩ : ∃ m', m = m' + 1 := ⟨m - 1, by omega⟩
        have ex : ∀ x, RX8_some_5 Rf 62 (m + 1) (bN x) (ms σ (N a) (N p) d') (fun x σ => rZ x σ) = some (bN x, ms σ (N a) (N p) d') := fun x => by
          rw [RX8_some_5, s_g12 h.1, Option.bind_some, m1_, if_neg (by rw [N_m1 (by omega)]; exact id), rZ_b]
        refine ⟨c (ME σ) || b, a, d', ha, ?_⟩
        rw [hp, Option.bind_some]
        dsimp only
        rw [← ex]
        cases c (ME σ) <;> cases b <;> rfl
      | ok o =>
        intro hp hb'
        have hp : RX8_every Rf 62 (ms σ (N (wd T e (sk T e k))) M1 (N dd)) = some (bN (o.1 (ME σ)), ms σ (N o.2) M1 (N dd)) := hp
        have hb' : wd T e (sk T e k) < o.2 ∧ o.2 ≤ e := hb'
        rw [hp, Option.bind_some]
        dsimp only
        have g := ih (fun E => c E || o.1 E) o.2 m hb'.2 (by omega) (by omega)
        refine Eq.subst (motive := fun z => MC e σ dd _ z) ?_ g
        show RX8_some_5 Rf 62 m (bN (c (ME σ) || o.1 (ME σ))) _ _ = _
        cases c (ME σ) <;> cases o.1 (ME σ) <;> rfl
    · rw [if_neg hc, if_neg hc, if_neg hc, if_pos (show (N 0 : Int32) = 0 from rfl), rZ_b]
      exact rfl
theorem M_every (hT : TX T e) (h : MT T e σ) (hK : KS σ) {Rf : Nat → Mm → Option (Int32 × Mm)} {Rs : Nat → PR Cn} (hd : dd ≤ 6) (hb : ∀ k, k ≤ e → Bd e k (Rs k)) (hR : ∀ k, k ≤ e → MC e σ dd (Rs k) (Rf 62 (ms σ (N k) M1 (N dd)))) (hk : k ≤ e) : MC e σ dd (everyP T e Rs k) (RX8_every Rf 62 (ms σ (N k) M1 (N dd))) := by
  have he := hT.1
  unfold everyP manyP RX8_every
  rw [s_ck h.1]
  have hp := hR _ hk
  have hb' := hb _ hk
  revert hp hb'
  cases Rs k with
  | error p =>
    intro hp hb'
    obtain ⟨b, a, d', ha, hp⟩ := hp
    have hpe : p ≤ e := hb'
    refine ⟨b, a, d', ha, ?_⟩
    rw [hp, Option.bind_some]
    dsimp only
    show RX8_every_5 Rf 62 (99999 + 1) _ _ _ = _
    rw [RX8_every_5, s_g12 h.1, Option.bind_some, m1_, if_neg (by rw [N_m1 (by omega)]; exact id), rZ_b]
  | ok o =>
    intro hp hb'
    have hp : Rf 62 (ms σ (N k) M1 (N dd)) = some (bN (o.1 (ME σ)), ms σ (N o.2) M1 (N dd)) := hp
    have hb' : k < o.2 ∧ o.2 ≤ e := hb'
    rw [hp, Option.bind_some]
    exact M_every_5 hT h hK hd hb hR 401 o.1 o.2 fu hb'.2 (by omega) (by unfold fu; omega)
theorem M_some (hT : TX T e) (h : MT T e σ) (hK : KS σ) {Rf : Nat → Mm → Option (Int32 × Mm)} {Rs : Nat → PR Cn} (hd : dd ≤ 6) (hb : ∀ k, k ≤ e → Bd e k (Rs k)) (hR : ∀ k, k ≤ e → MC e σ dd (Rs k) (Rf 62 (ms σ (N k) M1 (N dd)))) (hk : k ≤ e) : MC e σ dd (someP T e Rs k) (RX8_some Rf 62 (ms σ (N k) M1 (N dd))) := by
  have he := hT.1
  have hR2 : ∀ k, k ≤ e → MC e σ dd (everyP T e Rs k) (RX8_every Rf 62 (ms σ (N k) M1 (N dd))) := fun k hk => M_every hT h hK hd hb hR hk
  have hb2 : ∀ k, k ≤ e → Bd e k (everyP T e Rs k) := fun k hk => everyP_bd hb hk
  unfold someP manyP RX8_some
  rw [s_ck h.1]
  have hp := hR2 _ hk
  have hb' := hb2 _ hk
  revert hp hb'
  cases everyP T e Rs k with
  | error p =>
    intro hp hb'
    obtain ⟨b, a, d', ha, hp⟩ := hp
    have hpe : p ≤ e := hb'
    refine ⟨b, a, d', ha, ?_⟩
    rw [hp, Option.bind_some]
    dsimp only
    show RX8_some_5 Rf 62 (99999 + 1) _ _ _ = _
    rw [RX8_some_5, s_g12 h.1, Option.bind_some, m1_, if_neg (by rw [N_m1 (by omega)]; exact id), rZ_b]
  | ok o =>
    intro hp hb'
    have hp : RX8_every Rf 62 (ms σ (N k) M1 (N dd)) = some (bN (o.1 (ME σ)), ms σ (N o.2) M1 (N dd)) := hp
    have hb' : k < o.2 ∧ o.2 ≤ e := hb'
    rw [hp, Option.bind_some]
    exact M_some_5 hT h hK hd hb2 hR2 401 o.1 o.2 fu hb'.2 (by omega) (by unfold fu; omega)
theorem M_atom (hT : TX T e) (h : MT T e σ) (hK : KS σ) (hB : MB σ) : ∀ (D dd k : Nat), dd ≤ 6 → 7 ≤ D + dd → k ≤ e → MC e σ dd (atomP T e D dd k) (FX8_atom D 62 (ms σ (N k) M1 (N dd))) := by
  have he := hT.1
  intro D
  induction D with
  | zero => intro dd k h1 h2 _; omega
  | succ D ih =>
    intro dd k hd hD hk
    have h1 := sk_le (T := T) hk
    have hs := sk_at hT hk
    show MC e σ dd (atomR T e (atomP T e D) dd k) (RX8_atom (FX8_atom D) 62 (ms σ (N k) M1 (N dd)))
    unfold atomR RX8_atom
    rw [s_g12 h.1, Option.bind_some, m1_, if_pos rfl, s_ck h.1, M_place hT h hk, Option.bind_some]
    dsimp only
    rw [s_ck h.1]
    generalize sk T e k = k1 at *
    have dn : N (dd + 1) - 1 = N dd := by rw [l1_, N_sub (by omega)]; rfl
    by_cases wn : isW T e k1 wNot = true
    · have h3 := wd_le (T := T) h1
      rw [if_pos wn, M_has1 hT h (fun _ => kNot (KS_ms hK)) h1 hs wn, Option.bind_some]
      unfold jn
      dsimp only
      rw [if_neg (show ¬ (N 1 : Int32) = 0 by decide), s_g13 h.1, Option.bind_some, l6_]
      by_cases h6 : dd = 6
      · rw [if_pos h6, if_pos (by rw [h6]), s_ck h.1, M_wrong0 h.1, Option.bind_some, l0_, rZ_0]
        exact ⟨false, _, _, by omega, rfl⟩
      · rw [if_neg h6, if_neg (by rw [N_inj (by omega) (by omega)]; exact h6), Option.bind_some, s_p13 h.1, Option.bind_some, if_neg (show ¬ (N 1 : Int32) = 0 by decide), l1_, N_add, s_ck h.1]
        have hp := ih (dd + 1) (wd T e k1) (by omega) (by omega) h3
        revert hp
        cases atomP T e D (dd + 1) (wd T e k1) with
        | error p =>
          intro hp
          obtain ⟨b, a, d', ha, hp⟩ := hp
          refine ⟨!b, a, d' - N 1, by omega, ?_⟩
          rw [hp, Option.bind_some]
          dsimp only
          rw [s_g13 h.1, Option.bind_some, s_p13 h.1, Option.bind_some, Option.bind_some, s_p13 h.1, Option.bind_some]
          cases b
          · exact (if_pos rfl).trans (rZ_1 _)
          · exact (if_neg (by decide)).trans (rZ_0 _)
        | ok o =>
          intro hp
          have hp : FX8_atom D 62 (ms σ (N (wd T e k1)) M1 (N (dd + 1))) = some (bN (o.1 (ME σ)), ms σ (N o.2) M1 (N (dd + 1))) := hp
          rw [hp, Option.bind_some]
          dsimp only
          rw [s_g13 h.1, Option.bind_some, s_p13 h.1, Option.bind_some, Option.bind_some, s_p13 h.1, Option.bind_some, ← l1_, dn]
          show _ = some (bN (!o.1 (ME σ)), ms σ (N o.2) M1 (N dd))
          cases o.1 (ME σ)
          · exact (if_pos rfl).trans (rZ_1 _)
          · exact (if_neg (by decide)).trans (rZ_0 _)
    · rw [if_neg wn, M_has0 hT h (fun _ => kNot (KS_ms hK)) h1 hs wn, Option.bind_some]
      unfold jn
      dsimp only
      rw [if_pos (show (N 0 : Int32) = 0 from rfl), s_ck h.1, l40_, M_isSign hT h h1 (by omega), Option.bind_some, sk_eq hs]
      dsimp only
      by_cases c40 : T k1 = 40
      · have h2 := hT.lt (k := k1) (by omega)
        rw [if_pos c40, if_pos c40, if_neg (show ¬ (N 1 : Int32) = 0 by decide), s_g13 h.1, Option.bind_some, l6_]
        by_cases h6 : dd = 6
        · rw [if_pos h6, if_pos (by rw [h6]), s_ck h.1, M_wrong0 h.1, Option.bind_some, l0_, rZ_0]
          exact ⟨false, _, _, by omega, rfl⟩
        · rw [if_neg h6, if_neg (by rw [N_inj (by omega) (by omega)]; exact h6), Option.bind_some, s_p13 h.1, Option.bind_some, if_pos (show (N 0 : Int32) = 0 from rfl), s_g11 h.1, Option.bind_some, s_p11 h.1, Option.bind_some, l1_, N_add, N_add, s_ck h.1]
          have hp := M_some hT h hK (dd := dd + 1) (Rf := FX8_atom D) (Rs := atomP T e D (dd + 1)) (by omega) (fun k hk => atomP_bd hT D (dd + 1) k hk) (fun k hk => ih (dd + 1) k (by omega) (by omega) hk) h2
          have hb' := someP_bd (T := T) (fun k hk => atomP_bd hT D (dd + 1) k hk) h2
          revert hp hb'
          cases someP T e (atomP T e D (dd + 1)) (k1 + 1) with
          | error p =>
            intro hp hb'
            obtain ⟨b, a, d', ha, hp⟩ := hp
            have hpe : p ≤ e := hb'
            refine ⟨b, a + 1, d' - N 1, by omega, ?_⟩
            rw [hp, Option.bind_some]
            dsimp only
            rw [s_g12 h.1, Option.bind_some, if_neg (by rw [N_m1 (by omega)]; exact id), s_g11 h.1, Option.bind_some, s_p11 h.1, Option.bind_some, s_g13 h.1, Option.bind_some, s_p13 h.1, Option.bind_some, rZ_b, N_add]
          | ok o =>
            intro hp hb'
            obtain ⟨c, k2⟩ := o
            have hp : RX8_some (FX8_atom D) 62 (ms σ (N (k1 + 1)) M1 (N (dd + 1))) = some (bN (c (ME σ)), ms σ (N k2) M1 (N (dd + 1))) := hp
            have hb' : k1 + 1 < k2 ∧ k2 ≤ e := hb'
            have h4 := sk_le (T := T) hb'.2
            rw [hp, Option.bind_some]
            dsimp only
            rw [s_g12 h.1, Option.bind_some, if_pos rfl, s_ck h.1, l41_, M_isSign hT h hb'.2 (by omega), Option.bind_some]
            show MC e σ dd (closeP T e c k2) _
            unfold closeP
            dsimp only
            by_cases c41 : T (sk T e k2) = 41
            · rw [if_pos c41, if_pos c41, if_neg (show ¬ (N 1 : Int32) = 0 by decide), s_g11 h.1, Option.bind_some, s_p11 h.1, Option.bind_some, s_g13 h.1, Option.bind_some, s_p13 h.1, Option.bind_some, rZ_b, ← l1_, dn, l1_, N_add]
              exact rfl
            · rw [if_neg c41, if_neg c41, if_pos (show (N 0 : Int32) = 0 from rfl), s_g11 h.1, Option.bind_some, s_ck h.1, M_wrong0 h.1, Option.bind_some, s_g11 h.1, Option.bind_some, s_p11 h.1, Option.bind_some, s_g13 h.1, Option.bind_some, s_p13 h.1, Option.bind_some, rZ_b, N_add]
              exact ⟨_, _, _, by omega, rfl⟩
      · rw [if_neg c40, if_neg c40, if_pos (show (N 0 : Int32) = 0 from rfl), s_ck h.1]
        have hp := M_plain hT h hK hB h1 hs hd
        revert hp
        cases plainP T e k1 with
        | error p =>
          intro hp
          obtain ⟨b, a, d', ha, hp⟩ := hp
          refine ⟨b, a, d', ha, ?_⟩
          rw [hp, Option.bind_some]
          exact rZ_b _ _
        | ok o =>
          intro hp
          have hp : FX8_plain 62 (ms σ (N k1) M1 (N dd)) = some (bN (o.1 (ME σ)), ms σ (N o.2) M1 (N dd)) := hp
          rw [hp, Option.bind_some]
          exact rZ_b _ _
end
