/-! THE PLAIN LAW, 128: the queue, the component's side -/
set_option maxRecDepth 100000
def TQ (σ τ : Mm) : Prop := mS τ = mS σ ∧ mL τ = mL σ ∧ mR τ = mR σ ∧ mN τ = mN σ ∧ ∀ p, p ≠ 47 → p ≠ 48 → p ≠ 49 → mI τ p = mI σ p
theorem TQ.rf {σ : Mm} : TQ σ σ := ⟨rfl, rfl, rfl, rfl, fun _ _ _ _ => rfl⟩
theorem TQ.w {σ τ : Mm} {p : Nat} {f : Nat → Int32} (h : TQ σ τ) (hp : p = 47 ∨ p = 48 ∨ p = 49) : TQ σ (wA τ p f) := by
  refine ⟨h.1, h.2.1, h.2.2.1, h.2.2.2.1, fun q a b c => ?_⟩
  rw [mI_wA, if_neg (by omega)]
  exact h.2.2.2.2 q a b c
theorem TQ.kp {σ τ : Mm} (h : TQ σ τ) : Kp σ τ := by
  obtain ⟨h1, h2, h3, h4, h5⟩ := h
  have e37 := h5 37 (by omega) (by omega) (by omega)
  have e62 := h5 62 (by omega) (by omega) (by omega)
  refine ⟨h1, h2, h3, h4, fun p hp => ?_, ⟨by rw [e37], by rw [e37]⟩, by rw [e62], by rw [e62], by rw [e62], by rw [e62], fun hb => ?_⟩
  · unfold KPl at hp
    exact h5 p (by omega) (by omega) (by omega)
  · unfold B62 at *
    rw [e62]; exact hb
theorem TQ.co {np nh : Nat} {σ τ : Mm} (h : TQ σ τ) (K : Co np nh σ) : Co np nh τ := Co_kp h.kp K
theorem TQ.e {σ τ : Mm} (h : TQ σ τ) {p : Nat} (hp : p < 47 ∨ 49 < p) : mI τ p = mI σ p := h.2.2.2.2 p (by omega) (by omega) (by omega)
def hkA (A : Nat → Int32) (v : Nat) : Nat := min 11 (ix (PA A v 3))
theorem hkA_lt {A : Nat → Int32} {v : Nat} : hkA A v < 12 := by unfold hkA; omega
def who (np s i : Nat) : Nat := (LM np s).getD i 0
def hkc (A : Nat → Int32) (np s i : Nat) : Nat := hkA A (who np s i)
theorem hkc_lt {A : Nat → Int32} {np s : Nat} : ∀ i, hkc A np s i < 12 := fun _ => hkA_lt
theorem hkA_ok {A : Nat → Int32} {np nh p : Nat} (hw : WF A np nh) (hp : p < np) (h3 : PA A p 3 ≠ M1) : PA A p 3 = N (hkA A p) := by
  rcases (hw.2.1 p hp).2.1 with h | ⟨a, ha, h⟩
  · exact absurd h h3
  · have := hw.1.2.2.2.2.1
    unfold hkA
    rw [h, ix_N (by omega), Nat.min_eq_right (by omega)]
theorem who_at {np s i : Nat} (hn : np ≤ 10) (hs : s < 2 ^ np) (hi : i < pc s) : i < (LM np s).length ∧ (LM np s)[i]? = some (who np s i) ∧ who np s i < np ∧ s.testBit (who np s i) = true := by
  have hl : i < (LM np s).length := by rw [← pcL hn hs]; exact hi
  have e : (LM np s)[i]? = some (who np s i) := by
    unfold who
    rw [List.getD_eq_getElem?_getD, List.getElem?_eq_getElem hl]; rfl
  have m := LM_mem.mp (List.mem_of_getElem? e)
  exact ⟨hl, e, m.1, m.2⟩
theorem who_inj {np s i j : Nat} (hn : np ≤ 10) (hs : s < 2 ^ np) (hi : i < pc s) (hj : j < pc s) (h : who np s i = who np s j) : i = j := by
  obtain ⟨i1, i2, -, -⟩ := who_at hn hs hi
  obtain ⟨j1, j2, -, -⟩ := who_at hn hs hj
  rw [List.getElem?_eq_getElem i1] at i2
  rw [List.getElem?_eq_getElem j1] at j2
  have a := (LM_nd (n := np) (s := s)).idxOf_getElem i i1
  rw [Option.some.inj i2, h, ← Option.some.inj j2, (LM_nd (n := np) (s := s)).idxOf_getElem j j1] at a
  exact a.symm
theorem who_map {np s : Nat} (hn : np ≤ 10) (hs : s < 2 ^ np) : (LC (pc s) 0).map (who np s) = LM np s := by
  have e0 : LC (pc s) 0 = List.range' 0 (pc s) := by
    unfold LC
    rw [List.filter_eq_self]
    intro a _
    rw [Nat.zero_testBit]; rfl
  rw [e0]
  apply List.ext_getElem
  · rw [List.length_map, List.length_range', pcL hn hs]
  · intro i h1 h2
    rw [List.getElem_map, List.getElem_range']
    have hi : i < pc s := by rw [pcL hn hs]; exact h2
    have := (who_at hn hs hi).2.1
    rw [List.getElem?_eq_getElem h2] at this
    rw [show 0 + 1 * i = i by omega]
    exact (Option.some.inj this).symm
theorem id_abs : ∀ a, a < 12 → ∀ b, b < 12 → iabs (N a - N b) + N 1 = N (hdist a b) := by decide +kernel
theorem ix_10 : ∀ l, l < 10 → ∀ c, c < 1024 → (N l <<< (N 10 &&& N 31)) ||| N c = N (l * 1024 + c) := by decide +kernel
theorem imin_M {a b : Nat} (ha : a < 2147483648) (hb : b < 2147483648) : imin (N a) (N b) = N (min a b) := by
  unfold imin
  by_cases c : b < a
  · rw [if_pos (by rw [N_lt hb ha]; exact c), Nat.min_eq_right (by omega)]
  · rw [if_neg (by rw [N_lt hb ha]; exact c), Nat.min_eq_left (by omega)]
/-- what stands in the table, for the masks above c -/
def TBL (A : Nat → Int32) (np s : Nat) (τ : Mm) (c0 : Nat) : Prop := ∀ c, c0 < c → c < 2 ^ pc s → ∀ l, l < pc s → mI τ 49 (l * 1024 + c) = N (vf (hkc A np s) (LC (pc s) c).length (LC (pc s) c) (some l))
section
variable {np nh s : Nat} {σ : Mm} {A : Nat → Int32}
theorem C_hookO {o : Option Nat} {τ : Mm} (K : Co np nh τ) (hA : mI τ 63 = A) (hs : s < 2 ^ np) (ht : ∀ p, s.testBit p = true → PA A p 3 ≠ M1) (h48 : ∀ i, i < pc s → mI τ 48 i = N (who np s i)) (ho : ∀ i, o = some i → i < pc s) : FX7_hookOf 47 (oN o) τ = some (N (hlst (hkc A np s) o), τ) := by
  have hC := K.c; have hn0 := K.n0
  subst hA
  unfold FX7_hookOf
  cases o with
  | none => rw [if_pos (show oN none = -1 from rfl)]; rfl
  | some i =>
    have hi := ho i rfl
    have h10 := pc_10 s (p1024 hn0 hs)
    obtain ⟨-, -, w1, w2⟩ := who_at hn0 hs hi
    rw [if_neg (show ¬ oN (some i) = -1 by rw [m1_]; show ¬ N i = M1; rw [N_m1 (by omega)]; exact id), fc_gR47_3 hC, Option.bind_some, fc_gR0_0 hC, Option.bind_some, fw_gR11 hC.1, Option.bind_some, fc_gR47_0 hC, Option.bind_some, show oN (some i) = N i from rfl, fc_rd48 hC (by omega), Option.bind_some, h48 i hi, fw_rd4 hC.1 (by omega), Option.bind_some, rwT K.r (by omega), hkA_ok K.w w1 (ht _ w2)]
    rfl
theorem C_byO {o : Option Nat} {c v m : Nat} {τ : Mm} (K : Co np nh τ) (hA : mI τ 63 = A) (hs : s < 2 ^ np) (ht : ∀ p, s.testBit p = true → PA A p 3 ≠ M1) (h48 : ∀ i, i < pc s → mI τ 48 i = N (who np s i)) (h47 : mI τ 47 2 = N (pc s)) (hT : TBL A np s τ c) (ho : ∀ i, o = some i → i < pc s) (hc : c < 2 ^ pc s) (hv : v < pc s) (hcv : ¬ c.testBit v = true) (hm : (LC (pc s) c).length = m + 1) : FX7_by 47 (N c) (oN o) (N v) τ = some (N (qf (hkc A np s) m (LC (pc s) c) o v), τ) := by
  have hC := K.c; have hn0 := K.n0
  have h10 := pc_10 s (p1024 hn0 hs)
  have hc2 : c < 1024 := p1024 h10 hc
  have hl := LC_len h10 hc
  have ec := C_hookO (o := o) K hA hs ht h48 ho
  have ev := C_hookO (o := some v) K hA hs ht h48 (fun i hi => by cases hi; exact hv)
  have hlt : hlst (hkc A np s) o < 12 := by
    cases o with
    | none => exact Nat.zero_lt_succ _
    | some i => exact hkc_lt i
  have c2 : c ||| 2 ^ v < 2 ^ pc s := Nat.or_lt_two_pow hc (Nat.pow_lt_pow_right (by omega) hv)
  have c3 : c < c ||| 2 ^ v := by
    have h1 : c ≤ c ||| 2 ^ v := Nat.left_le_or
    rcases Nat.lt_or_ge c (c ||| 2 ^ v) with h2 | h2
    · exact h2
    · exfalso
      have e : c ||| 2 ^ v = c := Nat.le_antisymm h2 h1
      apply hcv
      rw [← e, Nat.testBit_or, Nat.testBit_two_pow_self, Bool.or_true]
  have hm2 : (LC (pc s) (c ||| 2 ^ v)).length = m := by
    have := filt_len (L := LC (pc s) c) LC_nd (LC_mem.mpr ⟨hv, hcv⟩)
    rw [LC_or] at this
    omega
  have eT := hT (c ||| 2 ^ v) c3 c2 v hv
  rw [hm2] at eT
  have ei : ((N v <<< (10 &&& 31)) ||| N c) ||| (1 <<< (N v &&& 31)) = N (v * 1024 + (c ||| 2 ^ v)) := by
    rw [Int32.or_assoc]
    have : N c ||| (1 <<< (N v &&& 31)) = N (c ||| 2 ^ v) := bt_or (by omega)
    rw [this]
    exact ix_10 v (by omega) _ (p1024 h10 c2)
  unfold FX7_by
  rw [fc_ck47 hC, ec, Option.bind_some]
  try dsimp only
  rw [fc_ck47 hC, show N v = oN (some v) from rfl, ev, Option.bind_some]
  try dsimp only
  rw [show oN (some v) = N v from rfl, ei, fc_gI47 hC, Option.bind_some, J_bitCount (by omega), Option.bind_some]
  try dsimp only
  rw [fc_gR47_1 hC, Option.bind_some, fc_rd49 hC (by have := p1024 h10 c2; omega), Option.bind_some, eT, h47, l1_, show hlst (hkc A np s) (some v) = hkc A np s v from rfl, id_abs _ hlt _ (hkc_lt v), N_sub (show pc c ≤ pc s by omega), N_mul, N_add, show pc s - pc c = m + 1 by omega]
  unfold qf
  rw [LC_or]
theorem C_rest_20 {o : Option Nat} {c m : Nat} {τ : Mm} (K : Co np nh τ) (hA : mI τ 63 = A) (hs : s < 2 ^ np) (ht : ∀ p, s.testBit p = true → PA A p 3 ≠ M1) (h48 : ∀ i, i < pc s → mI τ 48 i = N (who np s i)) (h47 : mI τ 47 2 = N (pc s)) (hT : TBL A np s τ c) (ho : ∀ i, o = some i → i < pc s) (hc : c < 2 ^ pc s) (hm : (LC (pc s) c).length = m + 1) (Kx : Int32 → Mm → Option (Int32 × Mm)) : ∀ (k v n a : Nat), v + k = pc s → k < n → a ≤ 100000 → FX7_rest_20 47 (N c) (oN o) n (N a) (N v) τ Kx = Kx (N (lmin (qf (hkc A np s) m (LC (pc s) c) o) ((List.range' v k).filter fun i => !c.testBit i) a)) τ := by
  have hC := K.c; have hn0 := K.n0
  have h10 := pc_10 s (p1024 hn0 hs)
  have hc2 : c < 1024 := p1024 h10 hc
  have hl := LC_len h10 hc
  intro k
  induction k with
  | zero =>
    intro v n a hv hn ha
    obtain ⟨n, rfl⟩ : ∃ m, n = m + 1 := ⟨n - 1, by omega⟩
    rw [FX7_rest_20, fc_gI47 hC, Option.bind_some, h47, if_pos (by rw [N_le (by omega) (by omega)]; omega)]
    rfl
  | succ k ih =>
    intro v n a hv hn ha
    obtain ⟨n, rfl⟩ : ∃ m, n = m + 1 := ⟨n - 1, by omega⟩
    rw [FX7_rest_20, fc_gI47 hC, Option.bind_some, h47, if_neg (by rw [N_le (by omega) (by omega)]; omega), C_has, Option.bind_some, l1_, N_add, List.range'_succ, List.filter_cons]
    try dsimp only
    simp (disch := omega) only [tb_N]
    by_cases cb : c.testBit v = true
    · rw [if_pos cb, if_neg (show ¬ N 1 = 0 by decide), cb, Bool.not_true, if_neg Bool.false_ne_true, ih (v + 1) n a (by omega) (by omega) ha]
    · have hq := qf_le (hk := hkc A np s) hkc_lt (o := o) LC_nd hm (by omega) (LC_mem.mpr ⟨show v < pc s by omega, cb⟩)
      rw [if_neg cb, if_pos (show N 0 = 0 from rfl), fc_ck47 hC, C_byO K hA hs ht h48 h47 hT ho hc (by omega) cb hm, Option.bind_some, Bool.eq_false_iff.mpr cb, Bool.not_false, if_pos rfl]
      try dsimp only
      rw [imin_M (by omega) (by omega), ih (v + 1) n _ (by omega) (by omega) (by omega)]
      rfl
theorem C_restO {o : Option Nat} {c : Nat} {τ : Mm} (K : Co np nh τ) (hA : mI τ 63 = A) (hs : s < 2 ^ np) (ht : ∀ p, s.testBit p = true → PA A p 3 ≠ M1) (h48 : ∀ i, i < pc s → mI τ 48 i = N (who np s i)) (h47 : mI τ 47 2 = N (pc s)) (hT : TBL A np s τ c) (ho : ∀ i, o = some i → i < pc s) (hc : c < 2 ^ pc s) : FX7_rest 47 (N c) (oN o) τ = some (N (vf (hkc A np s) (LC (pc s) c).length (LC (pc s) c) o), τ) := by
  have hC := K.c; have hn0 := K.n0
  have h10 := pc_10 s (p1024 hn0 hs)
  have hc2 : c < 1024 := p1024 h10 hc
  have hl := LC_len h10 hc
  have e1 : (1 <<< (N (pc s) &&& 31)) - 1 = N (2 ^ pc s - 1) := all_N _ h10
  have p2 := Nat.two_pow_pos (pc s)
  have p3 : 2 ^ pc s ≤ 2 ^ 10 := Nat.pow_le_pow_right (by omega) h10
  unfold FX7_rest
  rw [fc_gI47 hC, Option.bind_some, h47, e1]
  by_cases cf : c = 2 ^ pc s - 1
  · have : LC (pc s) c = [] := by
      apply List.eq_nil_iff_forall_not_mem.mpr
      intro v hv
      obtain ⟨h1, h2⟩ := LC_mem.mp hv
      rw [cf, Nat.testBit_two_pow_sub_one] at h2
      exact h2 (decide_eq_true h1)
    rw [if_pos (by rw [cf]), this]; rfl
  · obtain ⟨m, hm⟩ : ∃ m, (LC (pc s) c).length = m + 1 := by
      cases hL : LC (pc s) c with
      | cons v L => exact ⟨L.length, List.length_cons⟩
      | nil =>
        exfalso
        apply cf
        apply Nat.eq_of_testBit_eq
        intro j
        rw [Nat.testBit_two_pow_sub_one]
        by_cases hj : j < pc s
        · rw [decide_eq_true hj]
          apply Classical.byContradiction
          intro h1
          have := LC_mem.mpr ⟨hj, h1⟩
          rw [hL] at this
          cases this
        · rw [decide_eq_false hj, Nat.testBit_lt_two_pow (Nat.lt_of_lt_of_le hc (Nat.pow_le_pow_right (by omega) (by omega)))]
    have f := C_rest_20 K hA hs ht h48 h47 hT ho hc hm (fun (x30 : Int32) (σ : Mm) => some (x30, σ)) (pc s) 0 fu 100000 (by omega) (by unfold fu; omega) (by omega)
    rw [if_neg (by rw [N_inj (by omega) (by omega)]; exact cf), hm]
    exact f
theorem C_begins_21 (K : Co np nh σ) (hs : s < 2 ^ np) (Kx : Mm → Option (Option Nat × Mm)) : ∀ (k i n : Nat) (τ : Mm), i + k = pc s → k < n → TQ σ τ → mI τ 47 2 = N (pc s) → ∃ τ', FX7_begins_21 47 (N s) n (N i) τ Kx = Kx τ' ∧ TQ σ τ' ∧ mI τ' 47 2 = N (pc s) ∧ (∀ j, i ≤ j → j < pc s → mI τ' 48 j = N (who np s j)) ∧ ∀ j, j < i → mI τ' 48 j = mI τ 48 j := by
  have hn0 := K.n0
  have hs2 := p1024 hn0 hs
  have h10 := pc_10 s hs2
  intro k
  induction k with
  | zero =>
    intro i n τ hi hn hT h47
    obtain ⟨n, rfl⟩ : ∃ m, n = m + 1 := ⟨n - 1, by omega⟩
    have hC := (hT.co K).c
    refine ⟨τ, ?_, hT, h47, fun j h1 h2 => by omega, fun _ _ => rfl⟩
    rw [FX7_begins_21, fc_gI47 hC, Option.bind_some, h47, if_pos (by rw [N_le (by omega) (by omega)]; omega)]
  | succ k ih =>
    intro i n τ hi hn hT h47
    obtain ⟨n, rfl⟩ : ∃ m, n = m + 1 := ⟨n - 1, by omega⟩
    have hC := (hT.co K).c
    obtain ⟨v, v1, v2, v3⟩ := C_kth (σ := τ) hs2 (show i < pc s by omega)
    have ev : v = who np s i := by
      obtain ⟨d, hd⟩ : ∃ d, 10 = np + d := ⟨10 - np, by omega⟩
      rw [hd, kt_add np 0 i (fun j h1 h2 => by
        rw [Nat.testBit_lt_two_pow (Nat.lt_of_lt_of_le hs (Nat.pow_le_pow_right (by omega) (by omega)))]), kth_L] at v2
      have := (who_at hn0 hs (show i < pc s by omega)).2.1
      have v2' : (LM np s)[i]? = some v := v2
      rw [this] at v2'
      exact (Option.some.inj v2').symm
    obtain ⟨τ', t1, t2, t3, t4, t5⟩ := ih (i + 1) n (wA τ 48 (up1 (mI τ 48) i (N v))) (by omega) (by omega) (hT.w (by omega)) (by rw [mI_wA, if_neg (by omega)]; exact h47)
    refine ⟨τ', ?_, t2, t3, fun j h1 h2 => ?_, fun j hj => ?_⟩
    · rw [FX7_begins_21, fc_gI47 hC, Option.bind_some, h47, if_neg (by rw [N_le (by omega) (by omega)]; omega), fc_gR47_0 hC, Option.bind_some, v3, Option.bind_some]
      try dsimp only
      rw [fc_wr48 hC (by omega), Option.bind_some, l1_, N_add, t1]
    · by_cases e : j = i
      · subst e
        rw [t5 j (by omega), mI_wA, if_pos rfl, up1_app, if_pos rfl, ev]
      · exact t4 j (by omega) h2
    · rw [t5 j (by omega), mI_wA, if_pos rfl, up1_app, if_neg (by omega)]
/-- what is there while the table is filled -/
def QT (A : Nat → Int32) (np s : Nat) (σ τ : Mm) : Prop := TQ σ τ ∧ mI τ 47 2 = N (pc s) ∧ ∀ i, i < pc s → mI τ 48 i = N (who np s i)
theorem C_begins_61 {c : Nat} (K : Co np nh σ) (hA : mI σ 63 = A) (hs : s < 2 ^ np) (ht : ∀ p, s.testBit p = true → PA A p 3 ≠ M1) (hc : c < 2 ^ pc s) (Kx : Mm → Option (Option Nat × Mm)) : ∀ (k l n : Nat) (τ : Mm), l + k = pc s → k < n → QT A np s σ τ → TBL A np s τ c → ∃ τ', FX7_begins_61 47 (N c) n (N l) τ Kx = Kx τ' ∧ QT A np s σ τ' ∧ TBL A np s τ' c ∧ (∀ j, l ≤ j → j < pc s → mI τ' 49 (j * 1024 + c) = N (vf (hkc A np s) (LC (pc s) c).length (LC (pc s) c) (some j))) ∧ ∀ j, j < l → mI τ' 49 (j * 1024 + c) = mI τ 49 (j * 1024 + c) := by
  have hn0 := K.n0
  have hs2 := p1024 hn0 hs
  have h10 := pc_10 s hs2
  have hc2 : c < 1024 := p1024 h10 hc
  intro k
  induction k with
  | zero =>
    intro l n τ hl hn hQ hT
    obtain ⟨n, rfl⟩ : ∃ m, n = m + 1 := ⟨n - 1, by omega⟩
    have hC := (hQ.1.co K).c
    refine ⟨τ, ?_, hQ, hT, fun j h1 h2 => by omega, fun _ _ => rfl⟩
    rw [FX7_begins_61, fc_gI47 hC, Option.bind_some, hQ.2.1, if_pos (by rw [N_le (by omega) (by omega)]; omega)]
  | succ k ih =>
    intro l n τ hl hn hQ hT
    obtain ⟨n, rfl⟩ : ∃ m, n = m + 1 := ⟨n - 1, by omega⟩
    obtain ⟨q1, q2, q3⟩ := id hQ
    have K' := q1.co K
    have hC := K'.c
    have hA' : mI τ 63 = A := (q1.e (by omega)).trans hA
    have er := C_restO (o := some l) (c := c) K' hA' hs ht q3 q2 hT (fun i hi => by cases hi; omega) hc
    obtain ⟨x, hx⟩ : ∃ x, x = N (vf (hkc A np s) (LC (pc s) c).length (LC (pc s) c) (some l)) := ⟨_, rfl⟩
    rw [← hx] at er
    obtain ⟨τ', t1, t2, t3, t4, t5⟩ := ih (l + 1) n (wA τ 49 (up1 (mI τ 49) (l * 1024 + c) x)) (by omega) (by omega) ⟨q1.w (by omega), by rw [mI_wA, if_neg (by omega)]; exact q2, fun i hi => by rw [mI_wA, if_neg (by omega)]; exact q3 i hi⟩ (fun c' h1 h2 l' h3 => by
      have := p1024 h10 h2
      rw [mI_wA, if_pos rfl, up1_app, if_neg (by omega)]
      exact hT c' h1 h2 l' h3)
    refine ⟨τ', ?_, t2, t3, fun j h1 h2 => ?_, fun j hj => ?_⟩
    · have ei : (N l <<< (10 &&& 31)) ||| N c = N (l * 1024 + c) := ix_10 l (by omega) c hc2
      rw [FX7_begins_61, fc_gI47 hC, Option.bind_some, q2, if_neg (by rw [N_le (by omega) (by omega)]; omega), fc_gR47_1 hC, Option.bind_some, fc_ck47 hC, ei, show N l = oN (some l) from rfl, er, Option.bind_some]
      try dsimp only
      rw [fc_wr49 hC (by omega), Option.bind_some, show oN (some l) = N l from rfl, l1_, N_add, t1]
    · by_cases e : j = l
      · subst e
        rw [t5 j (by omega), mI_wA, if_pos rfl, up1_app, if_pos rfl, hx]
      · exact t4 j (by omega) h2
    · rw [t5 j (by omega), mI_wA, if_pos rfl, up1_app, if_neg (by omega)]
theorem C_begins_55 (K : Co np nh σ) (hA : mI σ 63 = A) (hs : s < 2 ^ np) (ht : ∀ p, s.testBit p = true → PA A p 3 ≠ M1) (Kx : Mm → Option (Option Nat × Mm)) : ∀ (c n : Nat) (τ : Mm), c < 2 ^ pc s → c < n → QT A np s σ τ → TBL A np s τ c → ∃ τ', FX7_begins_55 47 n (N c) τ Kx = Kx τ' ∧ QT A np s σ τ' ∧ TBL A np s τ' 0 := by
  have hn0 := K.n0
  have hs2 := p1024 hn0 hs
  have h10 := pc_10 s hs2
  intro c
  induction c with
  | zero =>
    intro n τ _ hn hQ hT
    obtain ⟨n, rfl⟩ : ∃ m, n = m + 1 := ⟨n - 1, by omega⟩
    exact ⟨τ, by rw [FX7_begins_55, if_pos (show N 0 ≤ 0 by decide)], hQ, hT⟩
  | succ c ih =>
    intro n τ hc hn hQ hT
    obtain ⟨n, rfl⟩ : ∃ m, n = m + 1 := ⟨n - 1, by omega⟩
    have hc2 : c + 1 < 1024 := p1024 h10 hc
    obtain ⟨τ1, a1, a2, a3, a4, -⟩ := C_begins_61 K hA hs ht hc (fun (σ : Mm) => FX7_begins_55 47 n (N (c + 1) + (-1)) σ Kx) (pc s) 0 fu τ (by omega) (by unfold fu; omega) hQ hT
    obtain ⟨τ2, b1, b2, b3⟩ := ih n τ1 (by omega) (by omega) a2 (fun c' h1 h2 l h3 => by
      by_cases e : c' = c + 1
      · subst e; exact a4 l (by omega) h3
      · exact a3 c' (by omega) h2 l h3)
    refine ⟨τ2, ?_, b2, b3⟩
    have em : N (c + 1) + (-1) = N c := by rw [m1_, N_dec]
    rw [FX7_begins_55, if_neg (by rw [l0_, N_le (by omega) (by omega)]; omega), l0_, a1]
    try dsimp only
    rw [em, b1]
theorem C_beginsQ (K : Co np nh σ) (hA : mI σ 63 = A) (hs : s < 2 ^ np) (hH : aHolders A np = N s) (ht : ∀ p, s.testBit p = true → PA A p 3 ≠ M1) : ∃ τ, FX7_begins 47 σ = some (some 47, τ) ∧ QT A np s σ τ ∧ TBL A np s τ 0 := by
  have hC := K.c; have hn0 := K.n0
  have hs2 := p1024 hn0 hs
  have h10 := pc_10 s hs2
  have p2 := Nat.two_pow_pos (pc s)
  have p3 : 2 ^ pc s ≤ 2 ^ 10 := Nat.pow_le_pow_right (by omega) h10
  obtain ⟨τ1, a1, a2, a3, a4, -⟩ := C_begins_21 K hs (fun (σ : Mm) => (gI 7 2 (some 47) σ).bind fun x36 => FX7_begins_55 47 fu ((1 <<< (x36 &&& 31)) - 1) σ (fun (σ : Mm) => some ((some 47), σ))) (pc s) 0 fu (wA σ 47 (up1 (mI σ 47) 2 (N (pc s)))) (by omega) (by unfold fu; omega) (TQ.rf.w (by omega)) (by rw [mI_wA, if_pos rfl, up1_app, if_pos rfl])
  have hC1 := (a2.co K).c
  obtain ⟨τ2, b1, b2, b3⟩ := C_begins_55 K hA hs ht (fun (σ : Mm) => some ((some 47), σ)) (2 ^ pc s - 1) fu τ1 (by omega) (by unfold fu; omega) ⟨a2, a3, fun i hi => a4 i (by omega) hi⟩ (fun c h1 h2 => by omega)
  refine ⟨τ2, ?_, b2, b3⟩
  have e1 : (1 <<< (N (pc s) &&& 31)) - 1 = N (2 ^ pc s - 1) := all_N _ h10
  unfold FX7_begins
  rw [fc_gR47_3 hC, Option.bind_some, fc_gR0_0 hC, Option.bind_some, fw_rv hC.1, Option.bind_some, W_with hC.1 K.r K.n hn0, hA, hH, Option.bind_some]
  try dsimp only
  rw [J_bitCount (by omega), Option.bind_some]
  try dsimp only
  rw [fc_pI47 hC, Option.bind_some, l0_, a1, fc_gI47 hC1, Option.bind_some, a3, e1, b1]
theorem C_kth_24 {o : Option Nat} {c m x w : Nat} {y1 y4 : Int32} {τ : Mm} (K : Co np nh τ) (hA : mI τ 63 = A) (hs : s < 2 ^ np) (ht : ∀ p, s.testBit p = true → PA A p 3 ≠ M1) (h48 : ∀ i, i < pc s → mI τ 48 i = N (who np s i)) (h47 : mI τ 47 2 = N (pc s)) (hT : TBL A np s τ c) (ho : ∀ i, o = some i → i < pc s) (hc : c < 2 ^ pc s) (hm : (LC (pc s) c).length = m + 1) (hx : x ≤ 100000) (Kx : Int32 → Mm → Option (Int32 × Mm)) : ∀ (k v n : Nat), v + k = pc s → k < n → ((List.range' v k).filter fun i => !c.testBit i).find? (fun v => decide (qf (hkc A np s) m (LC (pc s) c) o v = x)) = some w → FX7_kthServed_24 47 y1 (N c) (oN o) y4 (N x) n (N v) τ Kx = Kx (N w) τ := by
  have hC := K.c; have hn0 := K.n0
  have h10 := pc_10 s (p1024 hn0 hs)
  have hc2 : c < 1024 := p1024 h10 hc
  have hl := LC_len h10 hc
  intro k
  induction k with
  | zero => intro v n hv hn hf; cases hf
  | succ k ih =>
    intro v n hv hn hf
    obtain ⟨n, rfl⟩ : ∃ m, n = m + 1 := ⟨n - 1, by omega⟩
    rw [List.range'_succ, List.filter_cons] at hf
    rw [FX7_kthServed_24, C_has, Option.bind_some, l1_, N_add]
    try dsimp only
    simp (disch := omega) only [tb_N]
    by_cases cb : c.testBit v = true
    · rw [cb, Bool.not_true, if_neg Bool.false_ne_true] at hf
      rw [if_pos cb, if_neg (show ¬ N 1 = 0 by decide), ih (v + 1) n (by omega) (by omega) hf]
    · have hq := qf_le (hk := hkc A np s) hkc_lt (o := o) LC_nd hm (by omega) (LC_mem.mpr ⟨show v < pc s by omega, cb⟩)
      rw [Bool.eq_false_iff.mpr cb, Bool.not_false, if_pos rfl, List.find?_cons] at hf
      rw [if_neg cb, if_pos (show N 0 = 0 from rfl), fc_ck47 hC, C_byO K hA hs ht h48 h47 hT ho hc (by omega) cb hm, Option.bind_some]
      try dsimp only
      by_cases e : qf (hkc A np s) m (LC (pc s) c) o v = x
      · rw [decide_eq_true e] at hf
        rw [if_pos (by rw [e]), Option.some.inj hf]
      · rw [decide_eq_false e] at hf
        rw [if_neg (by rw [N_inj (by omega) (by omega)]; exact e), ih (v + 1) n (by omega) (by omega) hf]
theorem C_kth_7 {q : Nat} {τ : Mm} (K : Co np nh τ) (hA : mI τ 63 = A) (hs : s < 2 ^ np) (ht : ∀ p, s.testBit p = true → PA A p 3 ≠ M1) (h48 : ∀ i, i < pc s → mI τ 48 i = N (who np s i)) (h47 : mI τ 47 2 = N (pc s)) (hT : TBL A np s τ 0) (hq : q < pc s) (Kx : Int32 → Mm → Option (Int32 × Mm)) : ∀ (d j n c w : Nat) (o : Option Nat), j + d = q → d + 1 < n → c < 2 ^ pc s → (∀ i, o = some i → i < pc s) → svk (hkc A np s) (LC (pc s) c).length (LC (pc s) c) o d = some w → FX7_kthServed_7 47 (N q) n (N c) (oN o) (N j) τ Kx = Kx (N w) τ := by
  have hC := K.c; have hn0 := K.n0
  have h10 := pc_10 s (p1024 hn0 hs)
  have step : ∀ (d j n c w : Nat) (o : Option Nat) (m : Nat), j + d = q → c < 2 ^ pc s → (∀ i, o = some i → i < pc s) → (LC (pc s) c).length = m + 1 → pickv (qf (hkc A np s) m (LC (pc s) c) o) (LC (pc s) c) = w → w < pc s ∧ w ∈ LC (pc s) c ∧ FX7_kthServed_7 47 (N q) (n + 1) (N c) (oN o) (N j) τ Kx = FX7_kthServed_7 47 (N q) n (N (c ||| 2 ^ w)) (oN (some w)) (N (j + 1)) τ Kx := by
    intro d j n c w o m hj hc ho hm hw
    have hc2 : c < 1024 := p1024 h10 hc
    have hl := LC_len h10 hc
    have ex : ∃ v, v ∈ LC (pc s) c ∧ qf (hkc A np s) m (LC (pc s) c) o v ≤ 100000 := by
      cases hL : LC (pc s) c with
      | nil => rw [hL] at hm; cases hm
      | cons v L => exact ⟨v, List.mem_cons_self, by rw [← hL]; exact Nat.le_trans (qf_le hkc_lt LC_nd hm (by omega) (by rw [hL]; exact List.mem_cons_self)) (by omega)⟩
    obtain ⟨p1, p2, p3⟩ := pick_ok ex
    rw [hw] at p1 p2 p3
    have hwp := (LC_mem.mp p2).1
    have hTc : TBL A np s τ c := fun c' h1 h2 l h3 => hT c' (by omega) h2 l h3
    have er := C_restO (o := o) (c := c) K hA hs ht h48 h47 hTc ho hc
    rw [hm, vf_s] at er
    have lm := (lmin_le (f := qf (hkc A np s) m (LC (pc s) c) o) (LC (pc s) c) 100000).1
    refine ⟨hwp, p2, ?_⟩
    rw [FX7_kthServed_7, if_neg (by rw [N_lt (by omega) (by omega)]; omega), fc_ck47 hC, er, Option.bind_some]
    try dsimp only
    rw [l0_]
    refine (C_kth_24 (w := w) K hA hs ht h48 h47 hTc ho hc hm lm _ (pc s) 0 fu (by omega) (by unfold fu; omega) p1).trans ?_
    have eo : N c ||| (1 <<< (N w &&& 31)) = N (c ||| 2 ^ w) := bt_or (by omega)
    rw [eo, l1_, N_add]
    rfl
  intro d
  induction d with
  | zero =>
    intro j n c w o hj hn hc ho hf
    obtain ⟨n, rfl⟩ : ∃ m, n = m + 2 := ⟨n - 2, by omega⟩
    cases hm : (LC (pc s) c).length with
    | zero => rw [hm] at hf; cases hf
    | succ m =>
      rw [hm, svk] at hf
      obtain ⟨s1, s2, s3⟩ := step 0 j (n + 1) c w o m hj hc ho hm (Option.some.inj hf)
      rw [s3, FX7_kthServed_7, if_pos (by rw [N_lt (by omega) (by omega)]; omega)]
      rfl
  | succ d ih =>
    intro j n c w o hj hn hc ho hf
    obtain ⟨n, rfl⟩ : ∃ m, n = m + 1 := ⟨n - 1, by omega⟩
    cases hm : (LC (pc s) c).length with
    | zero => rw [hm] at hf; cases hf
    | succ m =>
      rw [hm, svk] at hf
      obtain ⟨s1, s2, s3⟩ := step (d + 1) j n c _ o m hj hc ho hm rfl
      rw [s3]
      have hL := filt_len LC_nd s2
      rw [LC_or] at hf hL
      exact ih (j + 1) n _ w (some _) (by omega) (by omega) (Nat.or_lt_two_pow hc (Nat.pow_lt_pow_right (by omega) s1)) (fun i hi => by cases hi; exact s1) (by rw [show (LC (pc s) (c ||| 2 ^ pickv (qf (hkc A np s) m (LC (pc s) c) o) (LC (pc s) c))).length = m by omega]; exact hf)
end
