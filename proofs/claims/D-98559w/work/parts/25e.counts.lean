/-! THE PLAIN LAW, 135: how many ways, the model's side -/
set_option maxRecDepth 100000
def wF (m : Nat → Nat) (np t : Nat) : Nat := fk (wP m) 0 (LM np t).length (LM np t)
theorem wF_s {m : Nat → Nat} {np t d : Nat} (hn : np ≤ 10) (h : (LM np t).length = d + 1) : wF m np t = smL (fun v => wF m np (t &&& (1023 - 2 ^ v))) ((LM np t).filter (wP m d)) := by
  unfold wF
  rw [h, fk, Nat.zero_add]
  refine smL_cg _ fun v hv => ?_
  have hv1 := (List.mem_filter.mp hv).1
  have := filt_len LM_nd hv1
  rw [LM_rm hn (by have := (LM_mem.mp hv1).1; omega)] at this
  rw [LM_rm hn (by have := (LM_mem.mp hv1).1; omega), show (LM np (t &&& (1023 - 2 ^ v))).length = d by omega]
theorem LM_all {n : Nat} : LM n (2 ^ n - 1) = List.range' 0 n := by
  unfold LM
  rw [List.filter_eq_self]
  intro a ha
  rw [List.mem_range'_1] at ha
  rw [Nat.testBit_two_pow_sub_one]
  exact decide_eq_true (by omega)
theorem wF_all {m : Nat → Nat} {np : Nat} : wF m np (2 ^ np - 1) = wN_ m np := by
  unfold wF wN_ wyB
  rw [LM_all, LC_0, List.length_range', ← bk_fk, Nat.sub_self]
section
variable {np nh n L : Nat} {σ : Mm} {m : Nat → Nat} {T : Nat → Nat}
/-- what stands in the model's table -/
def OTb (m : Nat → Nat) (np : Nat) (τ : Mm) (c : Nat) : Prop := ∀ t, t < c → mI τ 71 t = N (wF m np t)
theorem M_counts_36 {t k : Nat} {τ : Mm} (h : FM τ) (hn0 : np ≤ 10) (ht : t < 2 ^ np) (hk : k < np) (hm : ∀ j, m j < 1024) (h70 : ∀ j, j < np → mI τ 70 j = N (m j)) (hB : OTb m np τ t) (Kx : Int32 → Mm → Option (Int32 × Mm)) : ∀ (d v f a : Nat), v + d = np → d < f → FX8_counts_36 62 (N np) (N t) (N k) f (N a) (N v) τ Kx = Kx (N (a + smL (fun v => wF m np (t &&& (1023 - 2 ^ v))) (((List.range' v d).filter t.testBit).filter (wP m k)))) τ := by
  have ht2 := p1024 hn0 ht
  intro d
  induction d with
  | zero =>
    intro v f a hv hf
    obtain ⟨f, rfl⟩ : ∃ m, f = m + 1 := ⟨f - 1, by omega⟩
    rw [FX8_counts_36, if_pos (by rw [N_le (by omega) (by omega)]; omega)]
    rfl
  | succ d ih =>
    intro v f a hv hf
    obtain ⟨f, rfl⟩ : ∃ m, f = m + 1 := ⟨f - 1, by omega⟩
    rw [FX8_counts_36, if_neg (by rw [N_le (by omega) (by omega)]; omega), M_isOf, Option.bind_some, m1_, l1_, N_add, List.range'_succ, List.filter_cons]
    try dsimp only
    simp (disch := omega) only [tb_N]
    by_cases cb : t.testBit v = true
    · rw [if_pos cb, if_pos cb, if_neg (show ¬ N 1 = 0 by decide), fm_gR21 h, Option.bind_some, fm_rd70 h (by omega), Option.bind_some, h70 k hk, M_isOf, Option.bind_some, List.filter_cons]
      try dsimp only
      have hmk := hm k
      simp (disch := omega) only [tb_N]
      by_cases cm : (m k).testBit v = true
      · have eo : N t &&& ((N 1 <<< (N v &&& 31)) ^^^ M1) = N (t &&& (1023 - 2 ^ v)) := nb_and ht2 (by omega)
        have tr := bl_rm ht2 (show v < 10 by omega) cb
        rw [if_pos cm, if_neg (show ¬ N 1 = 0 by decide), if_pos (show wP m k v = true from cm), fm_gR22 h, Option.bind_some, eo, fm_rd71 h (by omega), Option.bind_some, hB _ tr, N_add, ih (v + 1) f _ (by omega) (by omega), smL]
        rw [Nat.add_assoc]
      · rw [if_neg cm, if_pos (show N 0 = 0 from rfl), if_neg (show ¬ wP m k v = true from cm), ih (v + 1) f a (by omega) (by omega)]
    · rw [if_neg cb, if_neg cb, if_pos (show N 0 = 0 from rfl), ih (v + 1) f a (by omega) (by omega)]
theorem M_counts_16 (h : FM σ) (hn0 : np ≤ 10) (hm : ∀ j, m j < 1024) (h70 : ∀ j, j < np → mI σ 70 j = N (m j)) (Kx : Mm → Option (Int32 × Mm)) : ∀ (d t f : Nat) (τ : Mm), t + d = 2 ^ np → d < f → 1 ≤ t → O2 71 71 σ τ → OTb m np τ t → ∃ τ', FX8_counts_16 62 (N np) f (N t) τ Kx = Kx τ' ∧ O2 71 71 σ τ' ∧ OTb m np τ' (2 ^ np) := by
  have p2 : 2 ^ np ≤ 2 ^ 10 := Nat.pow_le_pow_right (by omega) hn0
  have e2 : (1 : Int32) <<< (N np &&& 31) = N (2 ^ np) := bt_N np (by omega)
  intro d
  induction d with
  | zero =>
    intro t f τ ht hf h1 hO hB
    obtain ⟨f, rfl⟩ : ∃ m, f = m + 1 := ⟨f - 1, by omega⟩
    have et : t = 2 ^ np := by omega
    rw [et] at hB ⊢
    exact ⟨τ, by rw [FX8_counts_16, e2, if_pos (by rw [N_le (by omega) (by omega)]; omega)], hO, hB⟩
  | succ d ih =>
    intro t f τ ht hf h1 hO hB
    obtain ⟨f, rfl⟩ : ∃ m, f = m + 1 := ⟨f - 1, by omega⟩
    have h' : FM τ := FM_at (fun q _ => by rw [hO.1, hO.2.1]; exact ⟨rfl, rfl⟩) (by rw [hO.2.2.1]) h
    have h70' : ∀ j, j < np → mI τ 70 j = N (m j) := by rw [hO.e (by omega)]; exact h70
    have tl : t < 2 ^ np := by omega
    have t2 := p1024 hn0 tl
    obtain ⟨l1, l2⟩ := lb_ok t t2 (by omega)
    have pp := pc_pos t t2 _ l2 l1
    have pl := pcL hn0 tl
    have pn : pc t ≤ np := by
      rw [pl]
      have := List.length_filter_le t.testBit (List.range' 0 np)
      rw [List.length_range'] at this
      exact this
    obtain ⟨k, hk⟩ : ∃ k, pc t = k + 1 := ⟨pc t - 1, by omega⟩
    obtain ⟨τ', t3, t4, t5⟩ := ih (t + 1) f (wA τ 71 (up1 (mI τ 71) t (N (wF m np t)))) (by omega) (by omega) (by omega) (hO.tr (O2.w (by omega))) (fun t' h1 => by
      rw [mI_wA, if_pos rfl, up1_app]
      by_cases e : t' = t
      · rw [if_pos e, e]
      · rw [if_neg e]; exact hB t' (by omega))
    refine ⟨τ', ?_, t4, t5⟩
    have cc := M_counts_36 (k := k) h' hn0 tl (by omega) hm h70' hB (fun (x38 : Int32) (σ : Mm) => (gR 8 22 (some 62) σ).bind fun x39 => (sI x39 (N t) x38 σ).bind fun σ40 => FX8_counts_16 62 (N np) f (N t + 1) σ40 Kx) np 0 fu 0 (by omega) (by unfold fu; omega)
    rw [FX8_counts_16, e2, if_neg (by rw [N_le (by omega) (by omega)]; omega), M_bits (by omega), Option.bind_some]
    try dsimp only
    rw [hk, l1_, N_sub (show 1 ≤ k + 1 by omega), Nat.add_sub_cancel, l0_]
    refine cc.trans ?_
    try dsimp only
    rw [Nat.zero_add, show smL (fun v => wF m np (t &&& (1023 - 2 ^ v))) (((List.range' 0 np).filter t.testBit).filter (wP m k)) = wF m np t from (wF_s hn0 (by rw [← pl, hk])).symm, fm_gR22 h', Option.bind_some, fm_wr71 h' (by omega), Option.bind_some, l1_, N_add, t3]
theorem M_counts (h : FM σ) (hnn : mI σ 63 3 = N np) (hn0 : np ≤ 10) (hm : ∀ j, m j < 1024) (h70 : ∀ j, j < np → mI σ 70 j = N (m j)) : ∃ τ, FX8_counts 62 σ = some (N (wN_ m np), τ) ∧ O2 71 71 σ τ := by
  have p1 := Nat.two_pow_pos np
  have p2 : 2 ^ np ≤ 2 ^ 10 := Nat.pow_le_pow_right (by omega) hn0
  obtain ⟨τ, t1, t2, t3⟩ := M_counts_16 h hn0 hm h70 (fun (σ : Mm) => (gR 8 22 (some 62) σ).bind fun x42 => (aI 100 x42 ((1 <<< (N np &&& 31)) - 1) σ).bind fun x43 => some (x43, σ)) (2 ^ np - 1) 1 fu (wA σ 71 (up1 (mI σ 71) 0 (N 1))) (by omega) (by unfold fu; omega) (by omega) (O2.w (by omega)) (fun t ht => by
    have e : t = 0 := by omega
    subst e
    rw [mI_wA, if_pos rfl, up1_app, if_pos rfl]
    have : LM np 0 = [] := by
      apply List.eq_nil_iff_forall_not_mem.mpr
      intro v hv
      have := (LM_mem.mp hv).2
      rw [Nat.zero_testBit] at this; cases this
    unfold wF
    rw [this]; rfl)
  have h' : FM τ := FM_at (fun q _ => by rw [t2.1, t2.2.1]; exact ⟨rfl, rfl⟩) (by rw [t2.2.2.1]) h
  have e1 : (1 <<< (N np &&& 31)) - 1 = N (2 ^ np - 1) := all_N np hn0
  refine ⟨τ, ?_, t2⟩
  unfold FX8_counts
  rw [fm_gR1 h, Option.bind_some, l3_, fm_rd63 h (by omega), Option.bind_some, hnn, fm_gR22 h, Option.bind_some, l0_, l1_, fm_wr71 h (by omega), Option.bind_some]
  refine t1.trans ?_
  rw [fm_gR22 h', Option.bind_some, e1, fm_rd71 h' (by omega), Option.bind_some, t3 _ (by omega), wF_all]
theorem M_ownedS {S : Nat} (h : FM σ) (hnn : mI σ 63 3 = N np) (hn0 : np ≤ 10) (h20 : mI σ 62 20 = N (L / 3)) (hL : L ≤ 36) (h3 : L % 3 = 0) (hT : ∀ k, k < L → bo T np k = true ∧ mI σ 69 k = N (T k)) (hS : S < 4096) {τ : Mm} (hO : O2 70 71 σ τ) : ∃ τ', FX8_owned 62 (N S) τ = some (N (wN_ (myR T np S (L / 3)) np), τ') ∧ O2 70 71 σ τ' ∧ ∀ j, j < np → mI τ' 70 j = N (myR T np S (L / 3) j) := by
  have h' : FM τ := FM_at (fun q _ => by rw [hO.1, hO.2.1]; exact ⟨rfl, rfl⟩) (by rw [hO.2.2.1]) h
  have p1 := Nat.two_pow_pos np
  have p2 : 2 ^ np ≤ 2 ^ 10 := Nat.pow_le_pow_right (by omega) hn0
  obtain ⟨τ1, a1, a2, a3, -⟩ := M_owned_9 (y1 := N S) h hn0 (fun (σ : Mm) => FX8_owned_33 62 (N S) fu (N 0) σ (fun (σ : Mm) => ck 8 62 σ <| (FX8_counts 62 σ).bind fun (x43, σ44) => some (x43, σ44))) np 0 fu τ (by omega) (by unfold fu; omega) hO
  obtain ⟨τ2, b1, b2, b3⟩ := M_owned_33 (y1 := N S) (T := T) h hn0 h20 hL h3 hT hS rfl (fun (σ : Mm) => ck 8 62 σ <| (FX8_counts 62 σ).bind fun (x43, σ44) => some (x43, σ44)) (L / 3) 0 fu (fun _ => 2 ^ np - 1) τ1 (by omega) (by unfold fu; omega) a2 (fun _ => by omega) (fun j hj => a3 j (by omega) hj)
  have h2 : FM τ2 := FM_at (fun q _ => by rw [b2.1, b2.2.1]; exact ⟨rfl, rfl⟩) (by rw [b2.2.2.1]) h
  have e63 : mI τ2 63 = mI σ 63 := b2.e (by omega)
  obtain ⟨τ3, c1, c2⟩ := M_counts (m := myR T np S (L / 3)) h2 (by rw [e63]; exact hnn) hn0 (fun j => Nat.lt_of_lt_of_le (myR_lt j) p2) b3
  refine ⟨τ3, ?_, b2.tr ⟨c2.1, c2.2.1, c2.2.2.1, c2.2.2.2.1, fun p _ b => c2.2.2.2.2 p b b⟩, by rw [c2.e (by omega)]; exact b3⟩
  unfold FX8_owned
  rw [fm_gR1 h', Option.bind_some, l3_, fm_rd63 h' (by omega), Option.bind_some, hO.e (by omega), hnn, l0_, a1]
  refine b1.trans ?_
  rw [fm_ck h2, c1, Option.bind_some]
theorem b4095 : ∀ j, j < 12 → (4095 : Nat).testBit j = true := by decide
theorem M_ways {x y : Nat} (h : FM σ) (hnn : mI σ 63 3 = N np) (hn0 : np ≤ 10) (h20 : mI σ 62 20 = N (L / 3)) (hL : L ≤ 36) (h3 : L % 3 = 0) (hT : ∀ k, k < L → bo T np k = true ∧ mI σ 69 k = N (T k)) (hx : x < np) (hy : y < np) {τ : Mm} (hO : O2 70 71 σ τ) : ∃ τ', FX8_waysOf 62 (N x) (N y) τ = some (N (wN_ (on1 (myR T np 4095 (L / 3)) x y) np), τ') ∧ O2 70 71 σ τ' := by
  have h' : FM τ := FM_at (fun q _ => by rw [hO.1, hO.2.1]; exact ⟨rfl, rfl⟩) (by rw [hO.2.2.1]) h
  obtain ⟨τ1, a1, a2, a3⟩ := M_ownedS h hnn hn0 h20 hL h3 hT (S := 4095) (by omega) hO
  have h1 : FM τ1 := FM_at (fun q _ => by rw [a2.1, a2.2.1]; exact ⟨rfl, rfl⟩) (by rw [a2.2.2.1]) h
  have e63 : mI τ1 63 = mI σ 63 := a2.e (by omega)
  have p2 : 2 ^ np ≤ 2 ^ 10 := Nat.pow_le_pow_right (by omega) hn0
  have ml : ∀ j, myR T np 4095 (L / 3) j < 1024 := fun j => Nat.lt_of_lt_of_le (myR_lt j) p2
  have mlx := ml x
  unfold FX8_waysOf
  rw [fm_ck h', show (4095 : Int32) = N 4095 from rfl, a1, Option.bind_some]
  try dsimp only
  rw [fm_gR21 h1, Option.bind_some, fm_rd70 h1 (by omega), Option.bind_some, a3 x hx, M_isOf, Option.bind_some]
  try dsimp only
  simp (disch := omega) only [tb_N]
  by_cases c : (myR T np 4095 (L / 3) x).testBit y = true
  · have ea : myR T np 4095 (L / 3) x &&& 2 ^ y = 2 ^ y := by
      apply Nat.eq_of_testBit_eq
      intro j
      rw [Nat.testBit_and, Nat.testBit_two_pow]
      by_cases e : y = j
      · rw [← e, c, decide_eq_true rfl]; rfl
      · rw [decide_eq_false e, Bool.and_false]
    obtain ⟨τ2, b1, b2⟩ := M_counts (σ := wA τ1 70 (up1 (mI τ1 70) x (N (2 ^ y)))) (m := on1 (myR T np 4095 (L / 3)) x y) (FM_w h1) (show mI τ1 63 3 = N np by rw [e63]; exact hnn) hn0 (on1_lt ml) (fun j hj => by
      rw [mI_wA, if_pos rfl, up1_app]
      unfold on1
      rw [up1_app]
      by_cases e : j = x
      · rw [if_pos e, if_pos e, ea]
      · rw [if_neg e, if_neg e]; exact a3 j hj)
    have ey : (1 : Int32) <<< (N y &&& 31) = N (2 ^ y) := bt_N y (by omega)
    refine ⟨τ2, ?_, (a2.tr (O2.w (by omega))).tr ⟨b2.1, b2.2.1, b2.2.2.1, b2.2.2.2.1, fun p _ b => b2.2.2.2.2 p b b⟩⟩
    rw [if_pos c, if_neg (show ¬ N 1 = 0 by decide), fm_gR21 h1, Option.bind_some, ey, fm_wr70 h1 (by omega), Option.bind_some, fm_ck (FM_w h1), b1, Option.bind_some]
  · have z : wN_ (on1 (myR T np 4095 (L / 3)) x y) np = 0 := by
      unfold wN_ wyB
      have len : (LC np 0).length = np := by rw [LC_0, List.length_range']
      refine bk_none (r := x) _ _ _ (by omega) (by omega) fun d _ => ?_
      unfold wP on1
      rw [up1_app, if_pos rfl, Nat.testBit_and, Nat.testBit_two_pow]
      by_cases e : y = d
      · rw [← e, Bool.eq_false_iff.mpr c, Bool.false_and]
      · rw [decide_eq_false e, Bool.and_false]
    exact ⟨τ1, by rw [if_neg c, if_pos (show N 0 = 0 from rfl), z]; rfl, a2⟩
end
