/-! THE PLAIN LAW, 53: the model reads numbers, parts, sums -/
set_option maxRecDepth 100000
theorem kw_of {σ : Mm} {i : Nat} {w : List Nat} (hK : KS σ) (hi : i < 22) (h1 : lenK.getD i 0 = w.length) (h2 : w.length < 30) (h3 : ∀ j, j < w.length → (bytK.getD i []).getD j 0 = N (w.getD j 0) ∧ w.getD j 0 < 128) : KW (BIG + 2 * i) w σ := by
  have hB : BIG = 1000000 := rfl
  have e1 := hK.1 (BIG + 2 * i) (by omega)
  have e2 := hK.1 (BIG + 2 * i + 1) (by omega)
  have e3 := hK.2 (BIG + 2 * i) 0 (by omega) (by omega)
  refine ⟨e1.1.trans ?_, e3.trans ?_, (e1.2.2 1).trans ?_, e2.1.trans ?_, e2.2.1.trans ?_, h2, fun j hj => ⟨(e2.2.2 j).trans ?_, (h3 j hj).2⟩⟩
  · unfold kS; rw [if_pos (by omega), if_pos (by omega)]
  · unfold kR; rw [if_pos (by omega), if_pos ⟨by omega, rfl⟩]
  · unfold kI; rw [if_pos (by omega), if_pos (by omega), if_neg (by omega)]; rfl
  · unfold kS; rw [if_pos (by omega), if_neg (by omega)]
  · unfold kL; rw [if_pos (by omega), show (BIG + 2 * i + 1 - BIG) / 2 = i by omega]; exact h1
  · unfold kI; rw [if_pos (by omega), if_neg (by omega), show (BIG + 2 * i + 1 - BIG) / 2 = i by omega]; exact (h3 j hj).1
theorem KS_wA {σ : Mm} {p : Nat} {f : Nat → Int32} (hp : p < BIG) (h : KS σ) : KS (wA σ p f) := by
  refine ⟨fun q hq => ?_, h.2⟩
  rw [mI_wA, if_neg (by omega)]; exact h.1 q hq
theorem KS_ms {σ : Mm} {a f d : Int32} (h : KS σ) : KS (ms σ a f d) := KS_wA (by have hB : BIG = 1000000 := rfl; omega) h
section
variable {σ : Mm}
theorem kHand (h : KS σ) : KW (BIG + 2 * 7) wHand σ := kw_of h (by decide) rfl (by decide) (by decide)
theorem kFetch (h : KS σ) : KW (BIG + 2 * 8) wFetch σ := kw_of h (by decide) rfl (by decide) (by decide)
theorem kIf (h : KS σ) : KW (BIG + 2 * 9) wIf σ := kw_of h (by decide) rfl (by decide) (by decide)
theorem kNot (h : KS σ) : KW (BIG + 2 * 10) wNot σ := kw_of h (by decide) rfl (by decide) (by decide)
theorem kOwn (h : KS σ) : KW (BIG + 2 * 11) wOwn σ := kw_of h (by decide) rfl (by decide) (by decide)
theorem kAnd (h : KS σ) : KW (BIG + 2 * 12) wAnd σ := kw_of h (by decide) rfl (by decide) (by decide)
theorem kOr (h : KS σ) : KW (BIG + 2 * 13) wOr σ := kw_of h (by decide) rfl (by decide) (by decide)
theorem kWho (h : KS σ) : KW (BIG + 2 * 15) wWho σ := kw_of h (by decide) rfl (by decide) (by decide)
theorem kHour (h : KS σ) : KW (BIG + 2 * 16) wHour σ := kw_of h (by decide) rfl (by decide) (by decide)
theorem kHook (h : KS σ) : KW (BIG + 2 * 17) wHook σ := kw_of h (by decide) rfl (by decide) (by decide)
theorem kMarks (h : KS σ) : KW (BIG + 2 * 18) wMarks σ := kw_of h (by decide) rfl (by decide) (by decide)
theorem kHung (h : KS σ) : KW (BIG + 2 * 19) wHung σ := kw_of h (by decide) rfl (by decide) (by decide)
theorem kFree (h : KS σ) : KW (BIG + 2 * 20) wFree σ := kw_of h (by decide) rfl (by decide) (by decide)
theorem kWed (h : KS σ) : KW (BIG + 2 * 2) wWed σ := kw_of h (by decide) rfl (by decide) (by decide)
end
theorem N_dN {a n : Nat} (ha : a < 2147483648) (hn : n ≤ 2147483648) : (N a ≤ dN n) = (a < n) := by
  cases n with
  | zero => rw [dN_0, N_lem ha]; exact propext ⟨False.elim, fun h => by omega⟩
  | succ n => rw [dN_s, N_le ha (by omega)]; exact propext ⟨fun h => by omega, fun h => by omega⟩
section
variable {T : Nat → Nat} {e : Nat} {σ : Mm} {a f d : Int32} {k : Nat}
theorem fig_v {v t : Nat} (h : 48 ≤ t ∧ t ≤ 57) : N 10 * N v + N t - N 48 = N (10 * v + (t - 48)) := by
  rw [N_mul, N_add, N_sub (by omega)]
  congr 1; omega
theorem M_fig (hT : TX T e) (h : MT T e σ) (lo hi : Int32) (kx : Int32 → Mm → Option (Int32 × Mm)) (b : Nat) (hb : b ≤ e) : ∀ (j i n : Nat), i + j = min (dg T e b - b) 4 → j < n → FX8_figures_18 62 lo hi (N b) n (N (nv T b i)) (ms σ (N (b + i)) f d) kx = kx (N (nv T b (min (dg T e b - b) 4))) (ms σ (N (b + min (dg T e b - b) 4)) f d) := by
  have he := hT.1
  have hd := dg_le (T := T) hb
  have hg := dg_ge (T := T) (e := e) (k := b)
  intro j
  induction j with
  | zero =>
    intro i n hi' hn
    obtain ⟨n, rfl⟩ : ∃ n', n = n' + 1 := ⟨n - 1, by omega⟩
    rw [FX8_figures_18, s_g11 h.1, Option.bind_some, s_g10 h, Option.bind_some, Nat.add_zero] at *
    rw [← hi']
    by_cases h1 : b + i < e
    · rw [if_neg (by rw [N_le (by omega) (by omega)]; omega), Option.bind_some, s_ck h.1, M_letter hT h h1, Option.bind_some]
      have ht := hT.2.1 _ h1
      show ((FX8_isIn (N (T (b + i))) 48 57 _).bind fun x => _) = _
      rw [l48_, l57_, M_isInN (by omega) (by omega) (by omega), Option.bind_some]
      dsimp only
      by_cases h2 : 48 ≤ T (b + i) ∧ T (b + i) ≤ 57
      · have h3 : i = 4 := by
          by_cases h4 : i = dg T e b - b
          · have h5 : ¬ (48 ≤ T (dg T e b) ∧ T (dg T e b) ≤ 57) := wh_at (P := fun j => 48 ≤ T j ∧ T j ≤ 57) (e - b) b (by show ¬ (48 ≤ T (b + (e - b)) ∧ T (b + (e - b)) ≤ 57); rw [hT.2.2 _ (by omega)]; omega)
            rw [show b + i = dg T e b by omega] at h2
            exact absurd h2 h5
          · omega
        rw [if_pos h2, l0_, if_neg (show ¬ (N 1 : Int32) = N 0 by decide), s_g11 h.1, Option.bind_some, N_sub (by omega), show b + i - b = i by omega, h3, l3_, if_pos (show N 3 < N 4 by decide)]
      · rw [if_neg h2, l0_, if_pos rfl]
    · rw [if_pos (by rw [N_le (by omega) (by omega)]; omega)]
  | succ j ih =>
    intro i n hi' hn
    obtain ⟨n, rfl⟩ : ∃ n', n = n' + 1 := ⟨n - 1, by omega⟩
    have h1 : b + i < e := by omega
    have h2 : 48 ≤ T (b + i) ∧ T (b + i) ≤ 57 := dg_in (T := T) (e := e) (k := b) (by omega) (by omega)
    have ht := hT.2.1 _ h1
    rw [FX8_figures_18, s_g11 h.1, Option.bind_some, s_g10 h, Option.bind_some, if_neg (by rw [N_le (by omega) (by omega)]; omega), Option.bind_some, s_ck h.1, M_letter hT h h1, Option.bind_some]
    show ((FX8_isIn (N (T (b + i))) 48 57 _).bind fun x => _) = _
    rw [l48_, l57_, M_isInN (by omega) (by omega) (by omega), Option.bind_some]
    dsimp only
    rw [if_pos h2, l0_, if_neg (show ¬ (N 1 : Int32) = N 0 by decide), s_g11 h.1, Option.bind_some, N_sub (by omega), show b + i - b = i by omega, l3_, if_neg (by rw [N_lt (by omega) (by omega)]; omega), Option.bind_some, s_ck h.1, M_letter hT h h1, Option.bind_some]
    show ((gI 8 11 (some 62) (ms σ (N (b + i)) f d)).bind fun x38 => (pI 8 11 (some 62) (x38 + 1) (ms σ (N (b + i)) f d)).bind fun σ39 => FX8_figures_18 62 lo hi (N b) n (10 * N (nv T b i) + N (T (b + i)) - N 48) σ39 kx) = _
    rw [s_g11 h.1, Option.bind_some, s_p11 h.1, Option.bind_some, l1_, N_add, l10_, fig_v h2]
    exact ih (i + 1) n (by omega) (by omega)
theorem M_place (hT : TX T e) (h : MT T e σ) (hk : k ≤ e) : FX8_place 62 (ms σ (N k) f d) = some (N (sk T e k), ms σ (N (sk T e k)) f d) := by
  have he := hT.1
  unfold FX8_place
  rw [s_ck h.1, M_skip hT h (by omega), Option.bind_some, s_g11 h.1, Option.bind_some]
theorem M_wrong0 (h : FM σ) {p : Int32} : FX8_wrong 62 p (ms σ a M1 d) = some (ms σ a p d) := by
  unfold FX8_wrong
  rw [s_g12 h, Option.bind_some, m1_, if_pos rfl, s_p12 h, Option.bind_some]
theorem M_wrong1 (h : FM σ) {p : Nat} {q : Int32} (hp : p < 2147483648) : FX8_wrong 62 q (ms σ a (N p) d) = some (ms σ a (N p) d) := by
  unfold FX8_wrong
  rw [s_g12 h, Option.bind_some, m1_, if_neg (by rw [N_m1 hp]; exact id)]
/-- a number is read, or a fault told -/
theorem M_figures (hT : TX T e) (h : MT T e σ) {lo n : Nat} (hlo : lo < 1000000) (hn : n ≤ 1000000) (hk : k ≤ e) : match numP T e lo n k with
    | .ok o => FX8_figures 62 (N lo) (dN n) (ms σ (N k) M1 d) = some (N o.1, ms σ (N o.2) M1 d)
    | .error p => ∃ x b, b ≤ e ∧ FX8_figures 62 (N lo) (dN n) (ms σ (N k) M1 d) = some (x, ms σ (N b) (N p) d) := by
  have he := hT.1
  have h1 := sk_le (T := T) hk
  have h3 := dg_ge (T := T) (e := e) (k := sk T e k)
  have h4 := dg_le (T := T) (e := e) (k := sk T e k) h1
  have hv : nv T (sk T e k) (min (dg T e (sk T e k) - sk T e k) 4) < 10000 := by
    have := nv_lt (T := T) (k := sk T e k) (min (dg T e (sk T e k) - sk T e k) 4) fun j hj => dg_in (T := T) (e := e) (k := sk T e k) (by omega) (by omega)
    have h5 : 10 ^ min (dg T e (sk T e k) - sk T e k) 4 ≤ 10 ^ 4 := Nat.pow_le_pow_right (by omega) (by omega)
    omega
  have run : FX8_figures 62 (N lo) (dN n) (ms σ (N k) M1 d) = if dg T e (sk T e k) = sk T e k ∨ 3 < dg T e (sk T e k) - sk T e k ∨ nv T (sk T e k) (dg T e (sk T e k) - sk T e k) < lo ∨ n ≤ nv T (sk T e k) (dg T e (sk T e k) - sk T e k) then some (N (nv T (sk T e k) (min (dg T e (sk T e k) - sk T e k) 4)), ms σ (N (sk T e k + min (dg T e (sk T e k) - sk T e k) 4)) (N (sk T e k)) d) else some (N (nv T (sk T e k) (min (dg T e (sk T e k) - sk T e k) 4)), ms σ (N (sk T e k + min (dg T e (sk T e k) - sk T e k) 4)) M1 d) := by
    unfold FX8_figures
    rw [s_g12 h.1, Option.bind_some, m1_, if_pos rfl, s_ck h.1, M_place hT h hk, Option.bind_some]
    have hl := M_fig (f := M1) (d := d) hT h (N lo) (dN n) (fun (x43 : Int32) (σ : Mm) => (gI 8 11 (some 62) σ).bind fun x44 => jn (fun (σ : Mm) => ck 8 62 σ ((FX8_wrong 62 (N (sk T e k)) σ).bind fun σ46 => some (x43, σ46))) fun J119 => if x44 = N (sk T e k) then J119 σ else (gI 8 11 (some 62) σ).bind fun x47 => if 3 < x47 - N (sk T e k) then J119 σ else if x43 < N lo then J119 σ else if x43 ≤ dN n then some (x43, σ) else J119 σ) (sk T e k) h1 (min (dg T e (sk T e k) - sk T e k) 4) 0 fu (by omega) (by unfold fu; omega)
    rw [Nat.add_zero] at hl
    refine Eq.trans hl ?_
    have tl : ∀ x : Int32, ck 8 62 (ms σ (N (sk T e k + min (dg T e (sk T e k) - sk T e k) 4)) M1 d) ((FX8_wrong 62 (N (sk T e k)) (ms σ (N (sk T e k + min (dg T e (sk T e k) - sk T e k) 4)) M1 d)).bind fun σ46 => some (x, σ46)) = some (x, ms σ (N (sk T e k + min (dg T e (sk T e k) - sk T e k) 4)) (N (sk T e k)) d) := fun x => by
      rw [s_ck h.1, M_wrong0 h.1, Option.bind_some]
    rw [s_g11 h.1, Option.bind_some]
    unfold jn
    simp only [tl]
    by_cases c1 : dg T e (sk T e k) = sk T e k
    · rw [if_pos (by rw [c1]; congr 1; omega), if_pos (Or.inl c1)]
    rw [if_neg (by rw [N_inj (by omega) (by omega)]; omega), Option.bind_some, N_sub (by omega), show sk T e k + min (dg T e (sk T e k) - sk T e k) 4 - sk T e k = min (dg T e (sk T e k) - sk T e k) 4 by omega, l3_]
    by_cases c2 : 3 < dg T e (sk T e k) - sk T e k
    · rw [if_pos (by rw [N_lt (by omega) (by omega)]; omega), if_pos (Or.inr (Or.inl c2))]
    have c3 : min (dg T e (sk T e k) - sk T e k) 4 = dg T e (sk T e k) - sk T e k := by omega
    rw [if_neg (by rw [N_lt (by omega) (by omega)]; omega)]
    rw [c3] at hv ⊢
    by_cases c4 : nv T (sk T e k) (dg T e (sk T e k) - sk T e k) < lo
    · rw [if_pos (by rw [N_lt (by omega) (by omega)]; exact c4), if_pos (Or.inr (Or.inr (Or.inl c4)))]
    rw [if_neg (by rw [N_lt (by omega) (by omega)]; exact c4)]
    by_cases c5 : n ≤ nv T (sk T e k) (dg T e (sk T e k) - sk T e k)
    · rw [if_neg (by rw [N_dN (by omega) (by omega)]; omega), if_pos (Or.inr (Or.inr (Or.inr c5)))]
    · rw [if_pos (by rw [N_dN (by omega) (by omega)]; omega), if_neg (by omega)]
  unfold numP
  dsimp only
  rw [run]
  by_cases c : dg T e (sk T e k) = sk T e k ∨ 3 < dg T e (sk T e k) - sk T e k ∨ nv T (sk T e k) (dg T e (sk T e k) - sk T e k) < lo ∨ n ≤ nv T (sk T e k) (dg T e (sk T e k) - sk T e k)
  · rw [if_pos c, if_pos c]
    exact ⟨_, _, by omega, rfl⟩
  · rw [if_neg c, if_neg c]
    have c3 : min (dg T e (sk T e k) - sk T e k) 4 = dg T e (sk T e k) - sk T e k := by omega
    rw [c3, show sk T e k + (dg T e (sk T e k) - sk T e k) = dg T e (sk T e k) by omega]
end
