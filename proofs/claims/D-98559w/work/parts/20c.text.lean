/-! THE PLAIN LAW, 52: how the model reads -/
set_option maxRecDepth 100000
theorem l41_ : (41 : Int32) = N 41 := rfl
theorem l43_ : (43 : Int32) = N 43 := rfl
/-- the model's places of reading: at, fault, deep -/
def ms (σ : Mm) (a f d : Int32) : Mm := wA σ 62 (up1 (up1 (up1 (mI σ 62) 11 a) 12 f) 13 d)
def MT (T : Nat → Nat) (e : Nat) (σ : Mm) : Prop := FM σ ∧ mI σ 62 10 = N e ∧ ((mI σ 62 9 = M1 ∧ ∀ k, k < e → mI σ 67 k = N (T k)) ∨ (mI σ 62 9 = N 584 ∧ ∀ k, k < e → mI σ 63 (584 + k) = N (T k)))
/-- a constant String -/
def KW (q : Nat) (w : List Nat) (σ : Mm) : Prop := mS σ q = 520 ∧ mR σ q 0 = some (q + 1) ∧ mI σ q 1 = N 0 ∧ mS σ (q + 1) = 601 ∧ mL σ (q + 1) = w.length ∧ w.length < 30 ∧ ∀ i, i < w.length → mI σ (q + 1) i = N (w.getD i 0) ∧ w.getD i 0 < 128
theorem up3_11 {f : Nat → Int32} {a g d x : Int32} : up1 (up1 (up1 (up1 f 11 a) 12 g) 13 d) 11 x = up1 (up1 (up1 f 11 x) 12 g) 13 d := by
  funext j; unfold up1
  by_cases h1 : j = 11
  · subst h1; rfl
  · rw [if_neg h1]; by_cases h2 : j = 13
    · rw [if_pos h2, if_pos h2]
    · rw [if_neg h2, if_neg h2]; by_cases h3 : j = 12
      · rw [if_pos h3, if_pos h3]
      · rw [if_neg h3, if_neg h3, if_neg h1, if_neg h1]
theorem up3_12 {f : Nat → Int32} {a g d x : Int32} : up1 (up1 (up1 (up1 f 11 a) 12 g) 13 d) 12 x = up1 (up1 (up1 f 11 a) 12 x) 13 d := by
  funext j; unfold up1
  by_cases h1 : j = 12
  · subst h1; rfl
  · rw [if_neg h1]; by_cases h2 : j = 13
    · rw [if_pos h2, if_pos h2]
    · rw [if_neg h2, if_neg h2, if_neg h1, if_neg h1]
theorem up3_13 {f : Nat → Int32} {a g d x : Int32} : up1 (up1 (up1 (up1 f 11 a) 12 g) 13 d) 13 x = up1 (up1 (up1 f 11 a) 12 g) 13 x := by
  funext j; unfold up1
  by_cases h1 : j = 13
  · subst h1; rfl
  · rw [if_neg h1, if_neg h1, if_neg h1]
theorem ms_11 (σ : Mm) (a f d x : Int32) : wA (ms σ a f d) 62 (up1 (mI (ms σ a f d) 62) 11 x) = ms σ x f d := by
  show wA (ms σ a f d) 62 (up1 (up1 (up1 (up1 (mI σ 62) 11 a) 12 f) 13 d) 11 x) = _
  rw [up3_11]; unfold ms; rw [wA_wA]
theorem ms_12 (σ : Mm) (a f d x : Int32) : wA (ms σ a f d) 62 (up1 (mI (ms σ a f d) 62) 12 x) = ms σ a x d := by
  show wA (ms σ a f d) 62 (up1 (up1 (up1 (up1 (mI σ 62) 11 a) 12 f) 13 d) 12 x) = _
  rw [up3_12]; unfold ms; rw [wA_wA]
theorem ms_13 (σ : Mm) (a f d x : Int32) : wA (ms σ a f d) 62 (up1 (mI (ms σ a f d) 62) 13 x) = ms σ a f x := by
  show wA (ms σ a f d) 62 (up1 (up1 (up1 (up1 (mI σ 62) 11 a) 12 f) 13 d) 13 x) = _
  rw [up3_13]; unfold ms; rw [wA_wA]
theorem ms_self (σ : Mm) : ms σ (mI σ 62 11) (mI σ 62 12) (mI σ 62 13) = σ := by
  have e : up1 (up1 (up1 (mI σ 62) 11 (mI σ 62 11)) 12 (mI σ 62 12)) 13 (mI σ 62 13) = mI σ 62 := by
    funext j; unfold up1
    repeat' split
    all_goals first | rfl | simp only [*]
  unfold ms; rw [e, wA_self]
theorem FM_ms {σ : Mm} {a f d : Int32} (h : FM σ) : FM (ms σ a f d) := h
theorem ms_q {σ : Mm} {a f d : Int32} {q : Nat} (h : q ≠ 62) : mI (ms σ a f d) q = mI σ q := if_neg h
theorem ms_k {σ : Mm} {a f d : Int32} {k : Nat} (h : k ≠ 11 ∧ k ≠ 12 ∧ k ≠ 13) : mI (ms σ a f d) 62 k = mI σ 62 k := by
  show up1 (up1 (up1 (mI σ 62) 11 a) 12 f) 13 d k = _
  rw [up1_app, if_neg h.2.2, up1_app, if_neg h.2.1, up1_app, if_neg h.1]
theorem M_isInN {a b c : Nat} {σ : Mm} (ha : a < 2147483648) (hb : b < 2147483648) (hc : c < 2147483648) : FX8_isIn (N a) (N b) (N c) σ = some ((if b ≤ a ∧ a ≤ c then N 1 else N 0), σ) := by
  by_cases h : b ≤ a ∧ a ≤ c
  · rw [M_isIn_in h.1 h.2 hc, if_pos h]
  · rw [M_isIn_out (by rw [N_lt (by omega) (by omega), N_lt (by omega) (by omega)]; omega), if_neg h]
section
variable {T : Nat → Nat} {e : Nat} {σ : Mm} {a f d x : Int32} {k : Nat}
theorem s_ck {β : Type} {o : Option β} (h : FM σ) : ck 8 62 (ms σ a f d) o = o := fm_ck (FM_ms h)
theorem s_g11 (h : FM σ) : gI 8 11 (some 62) (ms σ a f d) = some a := fm_gI (FM_ms h)
theorem s_g12 (h : FM σ) : gI 8 12 (some 62) (ms σ a f d) = some f := fm_gI (FM_ms h)
theorem s_g13 (h : FM σ) : gI 8 13 (some 62) (ms σ a f d) = some d := fm_gI (FM_ms h)
theorem s_g10 (h : MT T e σ) : gI 8 10 (some 62) (ms σ a f d) = some (N e) := (fm_gI (FM_ms h.1)).trans (by rw [ms_k (by omega), h.2.1])
theorem s_p11 (h : FM σ) : pI 8 11 (some 62) x (ms σ a f d) = some (ms σ x f d) := (fm_pI (FM_ms h)).trans (by rw [ms_11])
theorem s_p12 (h : FM σ) : pI 8 12 (some 62) x (ms σ a f d) = some (ms σ a x d) := (fm_pI (FM_ms h)).trans (by rw [ms_12])
theorem s_p13 (h : FM σ) : pI 8 13 (some 62) x (ms σ a f d) = some (ms σ a f x) := (fm_pI (FM_ms h)).trans (by rw [ms_13])
theorem M_letter (hT : TX T e) (h : MT T e σ) (hk : k < e) : FX8_letter 62 (N k) (ms σ a f d) = some (N (T k), ms σ a f d) := by
  have he := hT.1
  obtain ⟨hM, h10, h9⟩ := h
  unfold FX8_letter
  rw [fm_gI (FM_ms hM), Option.bind_some, ms_k (by omega)]
  rcases h9 with ⟨h9, ht⟩ | ⟨h9, ht⟩
  · rw [h9, m1_, if_pos rfl, fm_gR7 (FM_ms hM), Option.bind_some, fm_rd67 (FM_ms hM) (by omega), Option.bind_some, ms_q (by omega), ht k hk]
  · rw [h9, m1_, if_neg (by rw [N_m1 (by omega)]; exact id), fm_gR1 (FM_ms hM), Option.bind_some, Option.bind_some, N_add, fm_rd63 (FM_ms hM) (by omega), Option.bind_some, ms_q (by omega), ht k hk]
theorem M_skip_0 (hT : TX T e) (h : MT T e σ) (kx : Mm → Option Mm) : ∀ (j k n : Nat), k < 1000000 → e - k = j → j < n → FX8_skip_0 62 n (ms σ (N k) f d) kx = kx (ms σ (N (wh (fun i => T i = 32) j k)) f d) := by
  have he := hT.1
  intro j
  induction j with
  | zero =>
    intro k n hk hj hn
    obtain ⟨n, rfl⟩ : ∃ n', n = n' + 1 := ⟨n - 1, by omega⟩
    rw [FX8_skip_0, s_g11 h.1, Option.bind_some, s_g10 h, Option.bind_some, if_pos (by rw [N_le (by omega) (by omega)]; omega), wh]
  | succ j ih =>
    intro k n hk hj hn
    obtain ⟨n, rfl⟩ : ∃ n', n = n' + 1 := ⟨n - 1, by omega⟩
    have ht := hT.2.1 k (by omega)
    rw [FX8_skip_0, s_g11 h.1, Option.bind_some, s_g10 h, Option.bind_some, if_neg (by rw [N_le (by omega) (by omega)]; omega), Option.bind_some, s_ck h.1, M_letter hT h (by omega), Option.bind_some, wh]
    by_cases hc : T k = 32
    · rw [if_pos hc]
      show (if N (T k) = 32 then _ else _) = _
      rw [if_pos (by rw [hc]; rfl), s_g11 h.1, Option.bind_some, s_p11 h.1, Option.bind_some, l1_, N_add]
      exact ih (k + 1) n (by omega) (by omega) (by omega)
    · rw [if_neg hc]
      show (if N (T k) = 32 then _ else _) = _
      rw [if_neg (by rw [l32_, N_inj (by omega) (by omega)]; exact hc)]
theorem M_skip (hT : TX T e) (h : MT T e σ) (hk : k < 1000000) : FX8_skip 62 (ms σ (N k) f d) = some (ms σ (N (sk T e k)) f d) := by
  have he := hT.1
  unfold FX8_skip sk
  rw [M_skip_0 hT h _ (e - k) k fu hk rfl (by unfold fu; omega)]
theorem M_isSign {c : Nat} (hT : TX T e) (h : MT T e σ) (hk : k ≤ e) (hc : c < 256) : FX8_isSign 62 (N c) (ms σ (N k) f d) = some ((if T (sk T e k) = c then N 1 else N 0), ms σ (N (sk T e k)) f d) := by
  have he := hT.1
  have h1 := sk_le (T := T) hk
  unfold FX8_isSign
  rw [s_ck h.1, M_skip hT h (by omega), Option.bind_some, s_g11 h.1, Option.bind_some, s_g10 h, Option.bind_some]
  by_cases h2 : sk T e k < e
  · have ht := hT.2.1 _ h2
    rw [if_neg (by rw [N_le (by omega) (by omega)]; omega), Option.bind_some, s_ck h.1, M_letter hT h h2, Option.bind_some]
    show (if N (T (sk T e k)) = N c then _ else _) = _
    by_cases h3 : T (sk T e k) = c
    · rw [if_pos h3, if_pos (by rw [h3]), l1_, rZ_1]
    · rw [if_neg h3, if_neg (by rw [N_inj (by omega) (by omega)]; exact h3), l0_, rZ_0]
  · have ht := hT.2.2 (sk T e k) (by omega)
    rw [if_pos (by rw [N_le (by omega) (by omega)]; omega), if_neg (by omega), l0_, rZ_0]
theorem M_hask_9 (hT : TX T e) (h : MT T e σ) (y : Option Nat) (kx : Int32 → Mm → Option (Int32 × Mm)) : ∀ (j k n : Nat), k < 1000000 → e - k = j → j < n → FX8_hask01_9 62 y n (N k) (ms σ a f d) kx = kx (N (wh (fun i => 97 ≤ T i ∧ T i ≤ 122) j k)) (ms σ a f d) := by
  have he := hT.1
  intro j
  induction j with
  | zero =>
    intro k n hk hj hn
    obtain ⟨n, rfl⟩ : ∃ n', n = n' + 1 := ⟨n - 1, by omega⟩
    rw [FX8_hask01_9, s_g10 h, Option.bind_some, if_pos (by rw [N_le (by omega) (by omega)]; omega), wh]
  | succ j ih =>
    intro k n hk hj hn
    obtain ⟨n, rfl⟩ : ∃ n', n = n' + 1 := ⟨n - 1, by omega⟩
    have ht := hT.2.1 k (by omega)
    rw [FX8_hask01_9, s_g10 h, Option.bind_some, if_neg (by rw [N_le (by omega) (by omega)]; omega), s_ck h.1, M_letter hT h (by omega), Option.bind_some, wh]
    dsimp only
    rw [l97_, l122_, M_isInN (by omega) (by omega) (by omega), Option.bind_some]
    dsimp only
    by_cases hc : 97 ≤ T k ∧ T k ≤ 122
    · rw [if_pos hc, if_pos hc, if_neg (show ¬ (N 1 : Int32) = 0 by decide), l1_, N_add]
      exact ih (k + 1) n (by omega) (by omega) (by omega)
    · rw [if_neg hc, if_neg hc, if_pos (show (N 0 : Int32) = 0 from rfl)]
end
/-! constant Strings -/
theorem ch_nok : ∀ c, c < 128 → ((N c &&& 255).toUInt32 % 65536).toInt32 = N c ∧ nok .char (N c) = true := by decide +kernel
theorem K_len {q : Nat} {w : List Nat} {σ : Mm} (h : KW q w σ) : FJ6_lengthk1 q σ = some (N w.length, σ) := by
  obtain ⟨h1, h2, h3, h4, h5, h6, h7⟩ := h
  have e1 : nok .byte (N 0) = true := by decide
  have e2 : N w.length >>> (N 0 &&& 31) = N w.length := by rw [l31_, N_shr (by omega) (by omega)]; rfl
  have e3 : aL 601 (some (q + 1)) σ = some (N w.length) := by simp only [aL, Option.bind_some]; rw [if_pos h4, h5]; rfl
  unfold FJ6_lengthk1 FJ6_coderk1
  rw [gR_s h1 h2, Option.bind_some, e3, Option.bind_some, ck_s h1, if_neg (by decide), gI_s h1, Option.bind_some, h3]
  unfold rN
  rw [if_pos e1, Option.bind_some]
  show some (N w.length >>> (N 0 &&& 31), σ) = _
  rw [e2]
theorem K_at {q i : Nat} {w : List Nat} {σ : Mm} (h : KW q w σ) (hi : i < w.length) : FJ6_charAtk10 q (N i) σ = some (N (w.getD i 0), σ) := by
  obtain ⟨h1, h2, h3, h4, h5, h6, h7⟩ := h
  obtain ⟨h8, h9⟩ := h7 i hi
  have e3 : aL 601 (some (q + 1)) σ = some (N w.length) := by simp only [aL, Option.bind_some]; rw [if_pos h4, h5]; rfl
  have e4 : FJ6_checkIndex (N i) (N w.length) σ = some σ := by
    unfold FJ6_checkIndex FJ11_checkIndex jn
    dsimp only
    rw [if_neg (by rw [l0_, N_lt (by omega) (by omega)]; omega), if_pos (by rw [N_lt (by omega) (by omega)]; exact hi)]
    rfl
  obtain ⟨c1, c2⟩ := ch_nok _ h9
  unfold FJ6_charAtk10 FJ6_isLatin1k1 FJ10_charAtk10
  rw [ck_s h1, if_neg (by decide), gI_s h1, Option.bind_some, h3, l0_, if_pos rfl, l1_, rZ_1, Option.bind_some]
  show (if N 1 = N 0 then _ else _) = _
  rw [if_neg (by decide), gR_s h1 h2, Option.bind_some, e3, Option.bind_some, e4, Option.bind_some, aI_N h4 h5 hi (by omega), Option.bind_some, h8, c1]
  unfold rN
  rw [if_pos c2, Option.bind_some]
  show (if nok .char (N (w.getD i 0)) = true then _ else _) = _
  rw [if_pos c2]
section
variable {T : Nat → Nat} {e : Nat} {σ : Mm} {a f d x : Int32} {k q : Nat} {w : List Nat}
theorem M_hask_55 (hT : TX T e) (h : MT T e σ) (hK : KW q w (ms σ (N k) f d)) (y : Int32) (hw : k + w.length ≤ e) (kx ky : Mm → Option (Int32 × Mm)) : ∀ (j i n : Nat), i + j = w.length → j < n → FX8_hask01_55 62 (some q) y n (N i) (ms σ (N k) f d) kx ky = if ∀ i', i' < w.length → i ≤ i' → T (k + i') = w.getD i' 0 then kx (ms σ (N k) f d) else ky (ms σ (N k) f d) := by
  have he := hT.1
  have hl := hK.2.2.2.2.2.1
  have rv1 : rv 520 (some q) (ms σ (N k) f d) = some q := rv_s hK.1
  intro j
  induction j with
  | zero =>
    intro i n hi hn
    obtain ⟨n, rfl⟩ : ∃ n', n = n' + 1 := ⟨n - 1, by omega⟩
    rw [FX8_hask01_55, rv1, Option.bind_some, K_len hK, Option.bind_some]
    show (if N w.length ≤ N i then _ else _) = _
    rw [if_pos (by rw [N_le (by omega) (by omega)]; omega), if_pos (fun i' h1 h2 => by omega)]
  | succ j ih =>
    intro i n hi hn
    obtain ⟨n, rfl⟩ : ∃ n', n = n' + 1 := ⟨n - 1, by omega⟩
    have ht := hT.2.1 (k + i) (by omega)
    have hc := (hK.2.2.2.2.2.2 i (by omega)).2
    rw [FX8_hask01_55, rv1, Option.bind_some, K_len hK, Option.bind_some]
    show (if N w.length ≤ N i then _ else _) = _
    rw [if_neg (by rw [N_le (by omega) (by omega)]; omega), s_g11 h.1, Option.bind_some, s_ck h.1, N_add, M_letter hT h (by omega), Option.bind_some]
    dsimp only
    rw [rv1, Option.bind_some, K_at hK (by omega), Option.bind_some]
    show (if N (T (k + i)) = N (w.getD i 0) then _ else _) = _
    by_cases h3 : T (k + i) = w.getD i 0
    · rw [if_pos (by rw [h3]), l1_, N_add, ih (i + 1) n (by omega) (by omega)]
      by_cases h4 : ∀ i', i' < w.length → i + 1 ≤ i' → T (k + i') = w.getD i' 0
      · rw [if_pos h4, if_pos (fun i' h1 h2 => by
          by_cases e1 : i' = i
          · rw [e1]; exact h3
          · exact h4 i' (by omega) (by omega))]
      · rw [if_neg h4, if_neg (fun h5 => h4 fun i' h1 h2 => h5 i' (by omega) (by omega))]
    · rw [if_neg (by rw [N_inj (by omega) (by omega)]; exact h3), if_neg (fun h5 => h3 (h5 i (by omega) (by omega)))]
theorem M_hask (hT : TX T e) (h : MT T e σ) (hK : ∀ a, KW q w (ms σ a f d)) (hk : k ≤ e) : FX8_hask01 62 (some q) (ms σ (N k) f d) = some ((if isW T e (sk T e k) w = true then N 1 else N 0), ms σ (N (if isW T e (sk T e k) w = true then wd T e (sk T e k) else sk T e k)) f d) := by
  have he := hT.1
  have h1 := sk_le (T := T) hk
  have h2 := wd_ge (T := T) (e := e) (k := sk T e k)
  have h3 := wd_le (T := T) h1
  have hl := (hK 0).2.2.2.2.2.1
  unfold FX8_hask01
  rw [s_ck h.1, M_skip hT h (by omega), Option.bind_some, s_g11 h.1, Option.bind_some, M_hask_9 hT h _ _ (e - sk T e k) (sk T e k) fu (by omega) rfl (by unfold fu; omega)]
  show ((gI 8 11 (some 62) (ms σ (N (sk T e k)) f d)).bind fun x33 => (rv 520 (some q) (ms σ (N (sk T e k)) f d)).bind fun q34 => (FJ6_lengthk1 q34 (ms σ (N (sk T e k)) f d)).bind fun x => if N (wd T e (sk T e k)) - x33 = x.1 then _ else _) = _
  rw [s_g11 h.1, Option.bind_some, rv_s (hK _).1, Option.bind_some, K_len (hK _), Option.bind_some, N_sub h2]
  by_cases h4 : wd T e (sk T e k) - sk T e k = w.length
  · rw [if_pos (by rw [h4]), l0_]
    rw [M_hask_55 hT h (hK _) _ (by omega) _ _ w.length 0 fu (by omega) (by unfold fu; omega)]
    by_cases h5 : ∀ i', i' < w.length → 0 ≤ i' → T (sk T e k + i') = w.getD i' 0
    · have h6 : isW T e (sk T e k) w = true := isW_iff.mpr ⟨h4, fun i hi => h5 i hi (by omega)⟩
      rw [if_pos h5, if_pos h6, if_pos h6, s_p11 h.1, Option.bind_some, l1_, rZ_1]
      rfl
    · have h6 : ¬ isW T e (sk T e k) w = true := fun z => h5 fun i hi _ => (isW_iff.mp z).2 i hi
      rw [if_neg h5, if_neg h6, if_neg h6, rZ_0]
  · have h6 : ¬ isW T e (sk T e k) w = true := fun z => h4 (isW_iff.mp z).1
    rw [if_neg (by rw [N_inj (by omega) (by omega)]; exact h4), if_neg h6, if_neg h6, l0_, rZ_0]
end
