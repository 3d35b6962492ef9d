/-! THE PLAIN LAW, 134: how many ways, the component's side -/
set_option maxRecDepth 100000
def wP (m : Nat → Nat) (i j : Nat) : Bool := (m i).testBit j
def wyB (m : Nat → Nat) (np c : Nat) : Nat := bk (wP m) (LC np c).length (np - (LC np c).length) (LC np c)
/-- how many ways there are -/
def wN_ (m : Nat → Nat) (np : Nat) : Nat := wyB m np 0
theorem wyB_s {m : Nat → Nat} {np c d : Nat} (h : (LC np c).length = d + 1) (hd : d < np) : wyB m np c = smL (fun v => wyB m np (c ||| 2 ^ v)) ((LC np c).filter (wP m (np - (d + 1)))) := by
  unfold wyB
  rw [h, bk]
  refine smL_cg _ fun v hv => ?_
  have := filt_len LC_nd (List.mem_filter.mp hv).1
  rw [LC_or] at this
  rw [LC_or, show (LC np (c ||| 2 ^ v)).length = d by omega, show np - (d + 1) + 1 = np - d by omega]
theorem LC_0 {n : Nat} : LC n 0 = List.range' 0 n := by
  unfold LC
  rw [List.filter_eq_self]
  intro a _
  rw [Nat.zero_testBit]; rfl
theorem wN_le {m : Nat → Nat} {np : Nat} (hn : np ≤ 10) : wN_ m np ≤ 3628800 := by
  unfold wN_ wyB
  exact Nat.le_trans (bk_le _ _ _ LC_nd rfl) (fct_10 _ (by rw [LC_0, List.length_range']; exact hn))
theorem wN_mono {m m' : Nat → Nat} {np : Nat} (h : ∀ i j, (m i).testBit j = true → (m' i).testBit j = true) : wN_ m np ≤ wN_ m' np := bk_mono h _ _ _
theorem wN_cg {m m' : Nat → Nat} {np : Nat} (h : ∀ i, i < np → m i = m' i) : wN_ m np = wN_ m' np := by
  unfold wN_ wyB
  apply bk_cg
  intro i c h1 h2 _
  have e : (LC np 0).length = np := by rw [LC_0, List.length_range']
  unfold wP
  rw [h i (by omega)]
section
variable {np nh n : Nat} {σ : Mm} {m : Nat → Nat}
/-- what stands in the table -/
def BT (m : Nat → Nat) (np : Nat) (τ : Mm) (c0 : Nat) : Prop := ∀ c, c0 ≤ c → c < 2 ^ np → mI τ 46 c = N (wyB m np c)
theorem C_many_43 {c k : Nat} {τ : Mm} (K : Co np nh τ) (hc : c < 2 ^ np) (hk : k = pc c) (hm : ∀ j, m j < 1024) (h45 : ∀ j, j < np → mI τ 45 j = N (m j)) (hB : BT m np τ (c + 1)) (Kx : Int32 → Mm → Option (Int32 × Mm)) (hkn : k < np) : ∀ (d v f a : Nat), v + d = np → d < f → FX6_many_43 44 (N c) (N k) f (N a) (N v) τ Kx = Kx (N (a + smL (fun v => wyB m np (c ||| 2 ^ v)) (((List.range' v d).filter fun i => !c.testBit i).filter (wP m k)))) τ := by
  have hC := K.c; have hn0 := K.n0
  have hc2 := p1024 hn0 hc
  intro d
  induction d with
  | zero =>
    intro v f a hv hf
    obtain ⟨f, rfl⟩ : ∃ m, f = m + 1 := ⟨f - 1, by omega⟩
    rw [FX6_many_43, fc_gR44_2 hC, Option.bind_some, fc_gR0_0 hC, Option.bind_some, fw_gI hC.1, Option.bind_some, rw1 K.r, K.n, if_pos (by rw [N_le (by omega) (by omega)]; omega)]
    rfl
  | succ d ih =>
    intro v f a hv hf
    obtain ⟨f, rfl⟩ : ∃ m, f = m + 1 := ⟨f - 1, by omega⟩
    rw [FX6_many_43, fc_gR44_2 hC, Option.bind_some, fc_gR0_0 hC, Option.bind_some, fw_gI hC.1, Option.bind_some, rw1 K.r, K.n, if_neg (by rw [N_le (by omega) (by omega)]; omega), Option.bind_some, fc_gR0_0 hC, Option.bind_some, fw_gI hC.1, Option.bind_some, rw1 K.r, K.n, if_neg (by rw [N_le (by omega) (by omega)]; omega), C_has, Option.bind_some, l1_, N_add, List.range'_succ, List.filter_cons]
    try dsimp only
    simp (disch := omega) only [tb_N]
    by_cases cb : c.testBit v = true
    · rw [if_pos cb, if_neg (show ¬ N 1 = 0 by decide), cb, Bool.not_true, if_neg Bool.false_ne_true, ih (v + 1) f a (by omega) (by omega)]
    · rw [if_neg cb, if_pos (show N 0 = 0 from rfl), Bool.eq_false_iff.mpr cb, Bool.not_false, if_pos rfl, fc_gR44_0 hC, Option.bind_some, fc_rd45 hC (by omega), Option.bind_some, h45 k hkn, C_has, Option.bind_some, List.filter_cons]
      try dsimp only
      have hmk := hm k
      simp (disch := omega) only [tb_N]
      by_cases cm : (m k).testBit v = true
      · have eo : N c ||| (N 1 <<< (N v &&& 31)) = N (c ||| 2 ^ v) := bt_or (by omega)
        have c2 : c ||| 2 ^ v < 2 ^ np := Nat.or_lt_two_pow hc (Nat.pow_lt_pow_right (by omega) (by omega))
        have c3 : c < c ||| 2 ^ v := by
          have h1 : c ≤ c ||| 2 ^ v := Nat.left_le_or
          rcases Nat.lt_or_ge c (c ||| 2 ^ v) with h2 | h2
          · exact h2
          · exfalso
            have e : c ||| 2 ^ v = c := Nat.le_antisymm h2 h1
            apply cb
            rw [← e, Nat.testBit_or, Nat.testBit_two_pow_self, Bool.or_true]
        rw [if_pos cm, if_neg (show ¬ N 1 = 0 by decide), if_pos (show wP m k v = true from cm), fc_gR44_1 hC, Option.bind_some, eo, fc_rd46 hC (by have := p1024 hn0 c2; omega), Option.bind_some, hB _ (by omega) c2, N_add, ih (v + 1) f _ (by omega) (by omega), smL]
        rw [Nat.add_assoc]
      · rw [if_neg cm, if_pos (show N 0 = 0 from rfl), if_neg (show ¬ wP m k v = true from cm), ih (v + 1) f a (by omega) (by omega)]
theorem C_many_11 (K : KR np nh n σ) (hm : ∀ j, m j < 1024) (h45 : ∀ j, j < np → mI σ 45 j = N (m j)) (Kx : Mm → Option (Int32 × Mm)) : ∀ (c f : Nat) (τ : Mm), c ≤ 2 ^ np → c < f → O2 46 46 σ τ → BT m np τ c → ∃ τ', FX6_many_11 44 f (vk c) τ Kx = Kx τ' ∧ O2 46 46 σ τ' ∧ BT m np τ' 0 := by
  have hn0 := K.1.n0
  have p2 : 2 ^ np ≤ 2 ^ 10 := Nat.pow_le_pow_right (by omega) hn0
  intro c
  induction c with
  | zero =>
    intro f τ _ hf hO hB
    obtain ⟨f, rfl⟩ : ∃ m, f = m + 1 := ⟨f - 1, by omega⟩
    exact ⟨τ, by rw [FX6_many_11, show vk 0 = M1 from rfl, if_pos (show M1 < 0 by decide)], hO, hB⟩
  | succ c ih =>
    intro f τ hc hf hO hB
    obtain ⟨f, rfl⟩ : ∃ m, f = m + 1 := ⟨f - 1, by omega⟩
    have hE : EW σ τ := ⟨hO.1, hO.2.1, hO.2.2.1, hO.2.2.2.1, fun p _ _ b _ _ _ _ _ => hO.2.2.2.2 p b b, by rw [hO.e (by omega)], fun k _ _ _ => by rw [hO.e (by omega)]⟩
    have K' := (hE.kr K).1
    have hC := K'.c
    have h45' : ∀ j, j < np → mI τ 45 j = N (m j) := by rw [hO.e (by omega)]; exact h45
    have hc1 : c < 2 ^ np := by omega
    have hc2 := p1024 hn0 hc1
    have hl := LC_len hn0 hc1
    have ea : FX2_all 1 τ = some (N (2 ^ np - 1), τ) := by
      unfold FX2_all
      rw [fw_gI hC.1, Option.bind_some, rw1 K'.r, K'.n]
      exact congrArg (fun x => some (x, τ)) (all_N np hn0)
    have em : N c + (-1) = vk c := vk_dec c
    have val : ∀ Ky : Int32 → Mm → Option (Int32 × Mm), FX6_many_43 44 (N c) (N (pc c)) fu (if N c = N (2 ^ np - 1) then 1 else 0) (N 0) τ Ky = Ky (N (wyB m np c)) τ := fun Ky => by
      by_cases cf : c = 2 ^ np - 1
      · have nil : LC np c = [] := by
          apply List.eq_nil_iff_forall_not_mem.mpr
          intro v hv
          obtain ⟨h1, h2⟩ := LC_mem.mp hv
          rw [cf, Nat.testBit_two_pow_sub_one] at h2
          exact h2 (decide_eq_true h1)
        have e1 : wyB m np c = 1 := by unfold wyB; rw [nil]; rfl
        rw [nil] at hl
        have pcn : pc c = np := by rw [← hl]; rfl
        rw [if_pos (by rw [cf]), e1, show fu = 99999 + 1 from rfl, FX6_many_43, fc_gR44_2 hC, Option.bind_some, fc_gR0_0 hC, Option.bind_some, fw_gI hC.1, Option.bind_some, rw1 K'.r, K'.n]
        by_cases c0 : np = 0
        · rw [if_pos (by rw [c0]; decide)]; rfl
        · rw [if_neg (by rw [N_le (by omega) (by omega)]; omega), Option.bind_some, fc_gR0_0 hC, Option.bind_some, fw_gI hC.1, Option.bind_some, rw1 K'.r, K'.n, pcn, if_pos (by rw [N_le (by omega) (by omega)]; omega)]; rfl
      · have hpos : 1 ≤ (LC np c).length := by
          cases hL : LC np c with
          | cons v L => rw [List.length_cons]; omega
          | nil =>
            exfalso
            apply cf
            apply Nat.eq_of_testBit_eq
            intro j
            rw [Nat.testBit_two_pow_sub_one]
            by_cases hj : j < np
            · rw [decide_eq_true hj]
              apply Classical.byContradiction
              intro h1
              have := LC_mem.mpr ⟨hj, h1⟩
              rw [hL] at this
              cases this
            · rw [decide_eq_false hj, Nat.testBit_lt_two_pow (Nat.lt_of_lt_of_le hc1 (Nat.pow_le_pow_right (by omega) (by omega)))]
        obtain ⟨d, hd⟩ : ∃ d, (LC np c).length = d + 1 := ⟨(LC np c).length - 1, by omega⟩
        have f := C_many_43 (k := pc c) K' hc1 rfl hm h45' hB Ky (by omega) np 0 fu 0 (by omega) (by unfold fu; omega)
        have p1 := Nat.two_pow_pos np
        rw [if_neg (by rw [N_inj (by omega) (by omega)]; exact cf), wyB_s hd (by omega), show np - (d + 1) = pc c by omega]
        rw [Nat.zero_add] at f
        exact f
    obtain ⟨τ', t1, t2, t3⟩ := ih f (wA τ 46 (up1 (mI τ 46) c (N (wyB m np c)))) (by omega) (by omega) (hO.tr (O2.w (by omega))) (fun c' h1 h2 => by
      rw [mI_wA, if_pos rfl, up1_app]
      by_cases e : c' = c
      · rw [if_pos e, e]
      · rw [if_neg e]; exact hB c' (by omega) h2)
    refine ⟨τ', ?_, t2, t3⟩
    have vks : vk (c + 1) = N c := by unfold vk; rw [if_neg (by omega), Nat.add_sub_cancel]
    have wr : ∀ x, ((gR 6 1 (some 44) τ).bind fun x55 => (sI x55 (N c) x τ).bind fun σ56 => FX6_many_11 44 f (N c + (-1)) σ56 Kx) = FX6_many_11 44 f (vk c) (wA τ 46 (up1 (mI τ 46) c x)) Kx := fun x => by
      rw [fc_gR44_1 hC, Option.bind_some, fc_wr46 hC (by omega), Option.bind_some, em]
    rw [FX6_many_11, vks, if_neg (show ¬ N c < 0 by rw [l0_, N_lt (by omega) (by omega)]; omega), J_bitCount (by omega), Option.bind_some]
    try dsimp only
    rw [fc_gR44_2 hC, Option.bind_some, fc_gR0_0 hC, Option.bind_some, fw_rv hC.1, Option.bind_some, ea, Option.bind_some]
    unfold jn
    try dsimp only
    have v2 := val (fun (x54 : Int32) (σ : Mm) => (gR 6 1 (some 44) σ).bind fun x55 => (sI x55 (N c) x54 σ).bind fun σ56 => FX6_many_11 44 f (N c + (-1)) σ56 Kx)
    by_cases cf : N c = N (2 ^ np - 1)
    · rw [if_pos cf] at v2
      rw [if_pos cf, l0_]
      exact v2.trans ((wr _).trans t1)
    · rw [if_neg cf] at v2
      rw [if_neg cf]
      exact v2.trans ((wr _).trans t1)
theorem C_many (K : KR np nh n σ) (hm : ∀ j, m j < 1024) (h45 : ∀ j, j < np → mI σ 45 j = N (m j)) : ∃ τ', FX6_many 44 σ = some (N (wN_ m np), τ') ∧ O2 46 46 σ τ' := by
  have hC := K.1.c; have hn0 := K.1.n0
  have p1 := Nat.two_pow_pos np
  have p2 : 2 ^ np ≤ 2 ^ 10 := Nat.pow_le_pow_right (by omega) hn0
  have ea : FX2_all 1 σ = some (N (2 ^ np - 1), σ) := by
    unfold FX2_all
    rw [fw_gI hC.1, Option.bind_some, rw1 K.1.r, K.1.n]
    exact congrArg (fun x => some (x, σ)) (all_N np hn0)
  obtain ⟨τ', t1, t2, t3⟩ := C_many_11 K hm h45 (fun (σ : Mm) => (gR 6 1 (some 44) σ).bind fun x59 => (aI 100 x59 0 σ).bind fun x60 => some (x60, σ)) (2 ^ np) fu σ (Nat.le_refl _) (by unfold fu; omega) O2.rf (fun c h1 h2 => by omega)
  have hC' : FC τ' := FC_at2 (fun q _ => by rw [t2.1, t2.2.1]; exact ⟨rfl, rfl⟩) (fun q k _ _ _ => by rw [t2.2.2.1]) hC
  have vks : vk (2 ^ np) = N (2 ^ np - 1) := by unfold vk; rw [if_neg (by omega)]
  rw [vks] at t1
  refine ⟨τ', ?_, t2⟩
  unfold FX6_many
  rw [fc_gR44_2 hC, Option.bind_some, fc_gR0_0 hC, Option.bind_some, fw_rv hC.1, Option.bind_some, ea, Option.bind_some]
  refine t1.trans ?_
  rw [fc_gR44_1 hC', Option.bind_some, l0_, fc_rd46 hC' (by omega), Option.bind_some, t3 0 (by omega) (by omega)]
  rfl
/-- person x wears the y-th, or none -/
def on1 (m : Nat → Nat) (x y : Nat) : Nat → Nat := up1 m x (m x &&& 2 ^ y)
theorem on1_lt {x y : Nat} (hm : ∀ j, m j < 1024) : ∀ j, on1 m x y j < 1024 := by
  intro j
  unfold on1
  rw [up1_app]
  split
  · exact Nat.lt_of_le_of_lt Nat.and_le_left (hm x)
  · exact hm j
theorem on1_sub {x y : Nat} : ∀ i j, (on1 m x y i).testBit j = true → (m i).testBit j = true := by
  intro i j h
  unfold on1 at h
  rw [up1_app] at h
  by_cases e : i = x
  · rw [if_pos e, Nat.testBit_and, Bool.and_eq_true] at h
    rw [e]; exact h.1
  · rw [if_neg e] at h; exact h
theorem C_having {x y : Nat} (K : KR np nh n σ) (hm : ∀ j, m j < 1024) (h45 : ∀ j, j < np → mI σ 45 j = N (m j)) (hx : x < np) (hy : y < np) : ∃ τ', FX6_having 44 (N x) (N y) σ = some (N (wN_ (on1 m x y) np), τ') ∧ O2 45 46 σ τ' ∧ ∀ j, j < np → mI τ' 45 j = N (m j) := by
  have hC := K.1.c; have hn0 := K.1.n0
  obtain ⟨υ, hυ⟩ : ∃ υ, υ = wA σ 45 (up1 (mI σ 45) x (N (m x &&& 2 ^ y))) := ⟨_, rfl⟩
  have oυ : O2 45 46 σ υ := by rw [hυ]; exact O2.w (by omega)
  have Kυ := oυ.ewc.kr K
  obtain ⟨τ, t1, t2⟩ := C_many (m := on1 m x y) Kυ (on1_lt hm) (fun j hj => by
    rw [hυ, mI_wA, if_pos rfl, up1_app]
    unfold on1
    rw [up1_app]
    by_cases e : j = x
    · rw [if_pos e, if_pos e]
    · rw [if_neg e, if_neg e]; exact h45 j hj)
  have t45 : mI τ 45 = mI υ 45 := t2.e (by omega)
  have oτ : O2 45 46 σ τ := oυ.tr ⟨t2.1, t2.2.1, t2.2.2.1, t2.2.2.2.1, fun p _ b => t2.2.2.2.2 p b b⟩
  have hCυ := Kυ.1.c
  have hCτ := (oτ.ewc.kr K).1.c
  refine ⟨wA τ 45 (up1 (mI τ 45) x (N (m x))), ?_, oτ.tr (O2.w (by omega)), fun j hj => ?_⟩
  · unfold FX6_having
    rw [fc_gR44_0 hC, Option.bind_some, fc_rd45 hC (by omega), Option.bind_some, h45 x hx, Option.bind_some, fc_rd45 hC (by omega), Option.bind_some, h45 x hx, and_bt (by omega), fc_wr45 hC (by omega), Option.bind_some, ← hυ, fc_ck44 hCυ, t1, Option.bind_some]
    try dsimp only
    rw [fc_gR44_0 hCτ, Option.bind_some, fc_wr45 hCτ (by omega), Option.bind_some]
  · rw [mI_wA, if_pos rfl, up1_app, t45, hυ, mI_wA, if_pos rfl, up1_app]
    by_cases e : j = x
    · rw [if_pos e, e]
    · rw [if_neg e, if_neg e]; exact h45 j hj
end
