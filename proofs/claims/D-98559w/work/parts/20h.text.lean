/-! THE PLAIN LAW, 57: how HungFaces reads: bytes, signs, figures -/
set_option maxRecDepth 100000
/-- a byte as Java has it -/
def cb (t : Nat) : Int32 := if t < 128 then N t else if t < 256 then N t - N 256 else M1
theorem cb_neg : ∀ t, t < 257 → 128 ≤ t → cb t < 0 := by decide +kernel
theorem cb_eq {t c : Nat} (ht : t ≤ 256) (hc : c < 128) : (cb t = N c) = (t = c) := by
  by_cases h : t < 128
  · have e : cb t = N t := if_pos h
    rw [e, N_inj (by omega) (by omega)]
  · rw [(lt_neg (a := c) (by omega) (show cb t < N 0 from cb_neg t (by omega) (by omega))).1]
    exact (eq_false (by omega)).symm
theorem C_isInB {t b c : Nat} {σ : Mm} (ht : t ≤ 256) (hb : b < 128) (hc : c < 128) : FX1_in (cb t) (N b) (N c) σ = some ((if b ≤ t ∧ t ≤ c then N 1 else N 0), σ) := by
  by_cases h : t < 128
  · have e : cb t = N t := if_pos h
    rw [e]
    by_cases h2 : b ≤ t ∧ t ≤ c
    · rw [C_in_in h2.1 h2.2 (by omega), if_pos h2]
    · rw [if_neg h2]
      exact C_in_out (by rw [N_lt (by omega) (by omega), N_lt (by omega) (by omega)]; omega)
  · rw [if_neg (by omega)]
    refine C_in_out (Or.inl ?_)
    rw [(lt_neg (a := b) (by omega) (show cb t < N 0 from cb_neg t (by omega) (by omega))).2.2.2.1]
    trivial
/-- HungFaces' places of reading: at, begin, deep -/
def rs (σ : Mm) (a b d : Int32) : Mm := wA σ 37 (up1 (up1 (up1 (mI σ 37) 3 a) 4 b) 6 d)
def RT (T : Nat → Nat) (e : Nat) (σ : Mm) : Prop := FC σ ∧ mI σ 37 2 = N e ∧ ∀ k, k < e → mI σ 38 k = cb (T k)
theorem up4_3 {f : Nat → Int32} {a g d x : Int32} : up1 (up1 (up1 (up1 f 3 a) 4 g) 6 d) 3 x = up1 (up1 (up1 f 3 x) 4 g) 6 d := by
  funext j; unfold up1
  by_cases h1 : j = 3
  · subst h1; rfl
  · rw [if_neg h1]
    repeat' split
    all_goals first | rfl | contradiction
theorem up4_4 {f : Nat → Int32} {a g d x : Int32} : up1 (up1 (up1 (up1 f 3 a) 4 g) 6 d) 4 x = up1 (up1 (up1 f 3 a) 4 x) 6 d := by
  funext j; unfold up1
  by_cases h1 : j = 4
  · subst h1; rfl
  · rw [if_neg h1]
    repeat' split
    all_goals first | rfl | contradiction
theorem up4_6 {f : Nat → Int32} {a g d x : Int32} : up1 (up1 (up1 (up1 f 3 a) 4 g) 6 d) 6 x = up1 (up1 (up1 f 3 a) 4 g) 6 x := by
  funext j; unfold up1
  repeat' split
  all_goals first | rfl | contradiction
theorem rs_3 (σ : Mm) (a f d x : Int32) : wA (rs σ a f d) 37 (up1 (mI (rs σ a f d) 37) 3 x) = rs σ x f d := by
  show wA (rs σ a f d) 37 (up1 (up1 (up1 (up1 (mI σ 37) 3 a) 4 f) 6 d) 3 x) = _
  rw [up4_3]; unfold rs; rw [wA_wA]
theorem rs_4 (σ : Mm) (a f d x : Int32) : wA (rs σ a f d) 37 (up1 (mI (rs σ a f d) 37) 4 x) = rs σ a x d := by
  show wA (rs σ a f d) 37 (up1 (up1 (up1 (up1 (mI σ 37) 3 a) 4 f) 6 d) 4 x) = _
  rw [up4_4]; unfold rs; rw [wA_wA]
theorem rs_6 (σ : Mm) (a f d x : Int32) : wA (rs σ a f d) 37 (up1 (mI (rs σ a f d) 37) 6 x) = rs σ a f x := by
  show wA (rs σ a f d) 37 (up1 (up1 (up1 (up1 (mI σ 37) 3 a) 4 f) 6 d) 6 x) = _
  rw [up4_6]; unfold rs; rw [wA_wA]
theorem rs_self (σ : Mm) : rs σ (mI σ 37 3) (mI σ 37 4) (mI σ 37 6) = σ := by
  have e : up1 (up1 (up1 (mI σ 37) 3 (mI σ 37 3)) 4 (mI σ 37 4)) 6 (mI σ 37 6) = mI σ 37 := by
    funext j; unfold up1
    repeat' split
    all_goals first | rfl | simp only [*]
  unfold rs; rw [e, wA_self]
theorem rs_rs (σ : Mm) (a b d a' b' d' : Int32) : rs (rs σ a b d) a' b' d' = rs σ a' b' d' := by
  rw [← rs_3 σ a' b' d' a', ← rs_4 σ a' b' d' b']
  show wA (rs σ a b d) 37 (up1 (up1 (up1 (up1 (up1 (up1 (mI σ 37) 3 a) 4 b) 6 d) 3 a') 4 b') 6 d') = _
  have e : up1 (up1 (up1 (up1 (up1 (up1 (mI σ 37) 3 a) 4 b) 6 d) 3 a') 4 b') 6 d' = up1 (up1 (up1 (mI σ 37) 3 a') 4 b') 6 d' := by
    funext j; unfold up1
    repeat' split
    all_goals first | rfl | contradiction
  rw [e, rs_4, rs_3]
  unfold rs; rw [wA_wA]
theorem FC_rs {σ : Mm} {a f d : Int32} (h : FC σ) : FC (rs σ a f d) := h
theorem rs_q {σ : Mm} {a f d : Int32} {q : Nat} (h : q ≠ 37) : mI (rs σ a f d) q = mI σ q := if_neg h
theorem rs_k {σ : Mm} {a f d : Int32} {k : Nat} (h : k ≠ 3 ∧ k ≠ 4 ∧ k ≠ 6) : mI (rs σ a f d) 37 k = mI σ 37 k := by
  show up1 (up1 (up1 (mI σ 37) 3 a) 4 f) 6 d k = _
  rw [up1_app, if_neg h.2.2, up1_app, if_neg h.2.1, up1_app, if_neg h.1]
theorem RT_rs {T : Nat → Nat} {e : Nat} {σ : Mm} {a f d : Int32} (h : RT T e σ) : RT T e (rs σ a f d) := by
  refine ⟨h.1, ?_, ?_⟩
  · rw [rs_k (by omega)]; exact h.2.1
  · rw [rs_q (by omega)]; exact h.2.2
section
variable {T : Nat → Nat} {e : Nat} {σ : Mm} {a b d x : Int32} {k : Nat}
theorem c_ck {β : Type} {o : Option β} (h : FC σ) : ck 3 37 (rs σ a b d) o = o := fc_ck37 (FC_rs h)
theorem c_g3 (h : FC σ) : gI 3 3 (some 37) (rs σ a b d) = some a := fc_gI37 (FC_rs h)
theorem c_g4 (h : FC σ) : gI 3 4 (some 37) (rs σ a b d) = some b := fc_gI37 (FC_rs h)
theorem c_g6 (h : FC σ) : gI 3 6 (some 37) (rs σ a b d) = some d := fc_gI37 (FC_rs h)
theorem c_g2 (h : RT T e σ) : gI 3 2 (some 37) (rs σ a b d) = some (N e) := (fc_gI37 (FC_rs h.1)).trans (by rw [rs_k (by omega), h.2.1])
theorem c_p3 (h : FC σ) : pI 3 3 (some 37) x (rs σ a b d) = some (rs σ x b d) := (fc_pI37 (FC_rs h)).trans (by rw [rs_3])
theorem c_p4 (h : FC σ) : pI 3 4 (some 37) x (rs σ a b d) = some (rs σ a x d) := (fc_pI37 (FC_rs h)).trans (by rw [rs_4])
theorem c_p6 (h : FC σ) : pI 3 6 (some 37) x (rs σ a b d) = some (rs σ a b x) := (fc_pI37 (FC_rs h)).trans (by rw [rs_6])
theorem c_rd (hT : TX T e) (h : RT T e σ) (hk : k < e) : aI 101 (some 38) (N k) (rs σ a b d) = some (cb (T k)) := by
  have he := hT.1
  rw [fc_rd38 (FC_rs h.1) (by omega), rs_q (by omega), h.2.2 k hk]
theorem C_byteAt (hT : TX T e) (h : RT T e σ) (hk : k < 1000000) : FX3_byteAt 37 (N k) (rs σ a b d) = some (cb (T k), rs σ a b d) := by
  have he := hT.1
  unfold FX3_byteAt
  rw [c_g2 h, Option.bind_some]
  by_cases h2 : k < e
  · rw [if_neg (by rw [N_le (by omega) (by omega)]; omega), fc_gR37_0 (FC_rs h.1), Option.bind_some, c_rd hT h h2, Option.bind_some]
  · rw [if_pos (by rw [N_le (by omega) (by omega)]; omega), m1_, hT.2.2 k (by omega)]; rfl
theorem C_blanks_0 (hT : TX T e) (h : RT T e σ) (kx : Mm → Option Mm) : ∀ (j k n : Nat), k < 100000 → e - k = j → j < n → FX3_blanks_0 37 n (rs σ (N k) b d) kx = kx (rs σ (N (wh (fun i => T i = 32) j k)) b d) := by
  have he := hT.1
  intro j
  induction j with
  | zero =>
    intro k n hk hj hn
    obtain ⟨n, rfl⟩ : ∃ n', n = n' + 1 := ⟨n - 1, by omega⟩
    rw [FX3_blanks_0, c_g3 h.1, Option.bind_some, c_ck h.1, C_byteAt hT h (by omega), Option.bind_some]
    dsimp only
    rw [if_neg (by rw [l32_, cb_eq hT.l (by omega), hT.2.2 k (by omega)]; omega), wh]
  | succ j ih =>
    intro k n hk hj hn
    obtain ⟨n, rfl⟩ : ∃ n', n = n' + 1 := ⟨n - 1, by omega⟩
    rw [FX3_blanks_0, c_g3 h.1, Option.bind_some, c_ck h.1, C_byteAt hT h (by omega), Option.bind_some, wh]
    dsimp only
    by_cases hc : T k = 32
    · rw [if_pos hc, if_pos (by rw [l32_, cb_eq hT.l (by omega)]; exact hc), c_g3 h.1, Option.bind_some, c_p3 h.1, Option.bind_some, l1_, N_add]
      exact ih (k + 1) n (by omega) (by omega) (by omega)
    · rw [if_neg hc, if_neg (by rw [l32_, cb_eq hT.l (by omega)]; exact hc)]
theorem C_blanks (hT : TX T e) (h : RT T e σ) (hk : k < 100000) : FX3_blanks 37 (rs σ (N k) b d) = some (rs σ (N (sk T e k)) (N (sk T e k)) d) := by
  have he := hT.1
  unfold FX3_blanks
  rw [C_blanks_0 hT h _ (e - k) k fu hk rfl (by unfold fu; omega)]
  show ((gI 3 3 (some 37) (rs σ (N (sk T e k)) b d)).bind fun x28 => (pI 3 4 (some 37) x28 (rs σ (N (sk T e k)) b d)).bind fun σ29 => some σ29) = _
  rw [c_g3 h.1, Option.bind_some, c_p4 h.1, Option.bind_some]
theorem C_isOver (hT : TX T e) (h : RT T e σ) (hk : k ≤ e) : FX3_isOver 37 (rs σ (N k) b d) = some ((if sk T e k = e then N 1 else N 0), rs σ (N (sk T e k)) (N (sk T e k)) d) := by
  have he := hT.1
  have h1 := sk_le (T := T) hk
  unfold FX3_isOver
  rw [c_ck h.1, C_blanks hT h (by omega), Option.bind_some, c_g3 h.1, Option.bind_some, c_g2 h, Option.bind_some]
  by_cases c : sk T e k = e
  · rw [if_pos c, if_pos (by rw [c]), l1_, rZ_1]
  · rw [if_neg c, if_neg (by rw [N_inj (by omega) (by omega)]; exact c), l0_, rZ_0]
theorem C_isFig (hT : TX T e) (h : RT T e σ) (hk : k ≤ e) : FX3_isFigure 37 (rs σ (N k) b d) = some ((if 48 ≤ T (sk T e k) ∧ T (sk T e k) ≤ 57 then N 1 else N 0), rs σ (N (sk T e k)) (N (sk T e k)) d) := by
  have he := hT.1
  have h1 := sk_le (T := T) hk
  unfold FX3_isFigure
  rw [c_ck h.1, C_blanks hT h (by omega), Option.bind_some, c_g3 h.1, Option.bind_some, c_ck h.1, C_byteAt hT h (by omega), Option.bind_some]
  dsimp only
  rw [l48_, l57_, C_isInB hT.l (by omega) (by omega), Option.bind_some]
  by_cases c : 48 ≤ T (sk T e k) ∧ T (sk T e k) ≤ 57
  · rw [if_pos c]; exact rZ_1 _
  · rw [if_neg c]; exact rZ_0 _
theorem C_sign {c : Nat} (hT : TX T e) (h : RT T e σ) (hk : k ≤ e) (hc : c < 128) : FX3_sign 37 (N c) (rs σ (N k) b d) = some ((if T (sk T e k) = c then N 1 else N 0), rs σ (N (if T (sk T e k) = c then sk T e k + 1 else sk T e k)) (N (sk T e k)) d) := by
  have he := hT.1
  have h1 := sk_le (T := T) hk
  unfold FX3_sign
  rw [c_ck h.1, C_blanks hT h (by omega), Option.bind_some, c_g3 h.1, Option.bind_some, c_ck h.1, C_byteAt hT h (by omega), Option.bind_some]
  dsimp only
  by_cases h3 : T (sk T e k) = c
  · rw [if_pos h3, if_pos h3, if_pos (by rw [cb_eq hT.l hc]; exact h3), c_g3 h.1, Option.bind_some, c_p3 h.1, Option.bind_some, l1_, N_add, rZ_1]
  · rw [if_neg h3, if_neg h3, if_neg (by rw [cb_eq hT.l hc]; exact h3), l0_, rZ_0]
theorem C_word_4 (hT : TX T e) (h : RT T e σ) (kx : Mm → DX (Option Nat × Mm)) : ∀ (j k n : Nat), k < 100000 → e - k = j → j < n → FX3_word_4 37 n (rs σ (N k) b d) kx = kx (rs σ (N (wh (fun i => 97 ≤ T i ∧ T i ≤ 122) j k)) b d) := by
  have he := hT.1
  intro j
  induction j with
  | zero =>
    intro k n hk hj hn
    obtain ⟨n, rfl⟩ : ∃ n', n = n' + 1 := ⟨n - 1, by omega⟩
    rw [FX3_word_4, c_g3 h.1, Option.bind_some, c_ck h.1, C_byteAt hT h (by omega), Option.bind_some]
    dsimp only
    rw [l97_, l122_, C_isInB hT.l (by omega) (by omega), Option.bind_some]
    dsimp only
    rw [if_neg (show ¬ (97 ≤ T k ∧ T k ≤ 122) by rw [hT.2.2 k (by omega)]; omega), if_pos (show (N 0 : Int32) = 0 from rfl), wh]
  | succ j ih =>
    intro k n hk hj hn
    obtain ⟨n, rfl⟩ : ∃ n', n = n' + 1 := ⟨n - 1, by omega⟩
    rw [FX3_word_4, c_g3 h.1, Option.bind_some, c_ck h.1, C_byteAt hT h (by omega), Option.bind_some, wh]
    dsimp only
    rw [l97_, l122_, C_isInB hT.l (by omega) (by omega), Option.bind_some]
    dsimp only
    by_cases hc : 97 ≤ T k ∧ T k ≤ 122
    · rw [if_pos hc, if_pos hc, if_neg (show ¬ (N 1 : Int32) = 0 by decide), c_g3 h.1, Option.bind_some, c_p3 h.1, Option.bind_some, l1_, N_add]
      exact ih (k + 1) n (by omega) (by omega) (by omega)
    · rw [if_neg hc, if_neg hc, if_pos (show (N 0 : Int32) = 0 from rfl)]
/-- figures: at most three count -/
theorem cb_fig {t : Nat} (h : 48 ≤ t ∧ t ≤ 57) : cb t = N t := if_pos (by omega)
theorem C_fig_7 (hT : TX T e) (h : RT T e σ) (lo hi : Int32) (kx : Int32 → Mm → DX (Int32 × Mm)) (b0 : Nat) (hb : b0 ≤ e) : ∀ (j i n : Nat), b0 + i + j = dg T e b0 → j < n → FX3_figures_7 37 lo hi (N 3) n (N (nv T b0 (min i 3))) (rs σ (N (b0 + i)) (N b0) d) kx = kx (N (nv T b0 (min (dg T e b0 - b0) 3))) (rs σ (N (dg T e b0)) (N b0) d) := by
  have he := hT.1
  have hd := dg_le (T := T) hb
  have hg := dg_ge (T := T) (e := e) (k := b0)
  intro j
  induction j with
  | zero =>
    intro i n hi' hn
    obtain ⟨n, rfl⟩ : ∃ n', n = n' + 1 := ⟨n - 1, by omega⟩
    have h5 : ¬ (48 ≤ T (dg T e b0) ∧ T (dg T e b0) ≤ 57) := wh_at (P := fun j => 48 ≤ T j ∧ T j ≤ 57) (e - b0) b0 (by show ¬ (48 ≤ T (b0 + (e - b0)) ∧ T (b0 + (e - b0)) ≤ 57); rw [hT.2.2 _ (by omega)]; omega)
    have e1 : b0 + i = dg T e b0 := by omega
    have e2 : i = dg T e b0 - b0 := by omega
    rw [FX3_figures_7, c_g3 h.1, Option.bind_some, c_ck h.1, C_byteAt hT h (by omega), Option.bind_some]
    dsimp only
    rw [l48_, l57_, C_isInB hT.l (by omega) (by omega), Option.bind_some, e1, if_neg h5, if_pos (show (N 0 : Int32) = 0 from rfl), ← e2]
  | succ j ih =>
    intro i n hi' hn
    obtain ⟨n, rfl⟩ : ∃ n', n = n' + 1 := ⟨n - 1, by omega⟩
    have h2 : 48 ≤ T (b0 + i) ∧ T (b0 + i) ≤ 57 := dg_in (T := T) (e := e) (k := b0) (by omega) (by omega)
    have ih' := ih (i + 1) n (by omega) (by omega)
    rw [FX3_figures_7, c_g3 h.1, Option.bind_some, c_ck h.1, C_byteAt hT h (by omega), Option.bind_some]
    dsimp only
    rw [l48_, l57_, C_isInB hT.l (by omega) (by omega), Option.bind_some, if_pos h2, if_neg (show ¬ (N 1 : Int32) = 0 by decide), c_g3 h.1, Option.bind_some, c_g4 h.1, Option.bind_some]
    unfold jn
    dsimp only
    rw [N_sub (by omega), show b0 + i - b0 = i by omega]
    by_cases h3 : 3 ≤ i
    · rw [if_pos (by rw [N_le (by omega) (by omega)]; exact h3), c_g3 h.1, Option.bind_some, c_p3 h.1, Option.bind_some, l1_, N_add]
      rw [show min (i + 1) 3 = min i 3 by omega] at ih'
      exact ih'
    · rw [if_neg (by rw [N_le (by omega) (by omega)]; exact h3), Option.bind_some, c_ck h.1, C_byteAt hT h (by omega), Option.bind_some]
      dsimp only
      rw [c_g3 h.1, Option.bind_some, c_p3 h.1, Option.bind_some, l1_, N_add, cb_fig h2, l10_, fig_v h2, show min i 3 = i by omega]
      rw [show min (i + 1) 3 = i + 1 by omega] at ih'
      exact ih'
end
