/-! THE PLAIN LAW, 54: the model reads parts, sums, comparisons -/
set_option maxRecDepth 100000
def ME (σ : Mm) : Nat → Int32 := fun j => if j < 6 then mI σ 68 j else if j = 6 then mI σ 62 15 else if j = 7 then mI σ 62 16 else N 0
def MO (e : Nat) (σ : Mm) (d : Int32) (r : PR Sm) (o : Option (Int32 × Mm)) : Prop := match r with
  | .ok u => o = some (u.1 (ME σ), ms σ (N u.2) M1 d)
  | .error p => ∃ x b, b ≤ e ∧ o = some (x, ms σ (N b) (N p) d)
theorem numP_sk {T : Nat → Nat} {e lo n k : Nat} (hT : TX T e) (hk : k ≤ e) : numP T e lo n (sk T e k) = numP T e lo n k := by
  unfold numP; rw [sk_sk hT hk]
theorem n1_0 : (N 1 = N 0) = False := eq_false (by decide)
theorem n0_0 : (N 0 = N 0) = True := eq_self _
section
variable {T : Nat → Nat} {e : Nat} {σ : Mm} {a f d : Int32} {k q : Nat} {w : List Nat}
theorem M_haskA (hT : TX T e) (h : MT T e σ) (hK : ∀ a, KW q w (ms σ a f d)) (hk : k ≤ e) (hs : T k ≠ 32) : FX8_hask01 62 (some q) (ms σ (N k) f d) = some ((if isW T e k w = true then N 1 else N 0), ms σ (N (if isW T e k w = true then wd T e k else k)) f d) := by
  have := M_hask (f := f) (d := d) hT h hK hk
  rw [sk_eq hs] at this
  exact this
theorem M_has1 (hT : TX T e) (h : MT T e σ) (hK : ∀ a, KW q w (ms σ a f d)) (hk : k ≤ e) (hs : T k ≠ 32) (hw : isW T e k w = true) : FX8_hask01 62 (some q) (ms σ (N k) f d) = some (N 1, ms σ (N (wd T e k)) f d) := by
  rw [M_haskA hT h hK hk hs, if_pos hw, if_pos hw]
theorem M_has0 (hT : TX T e) (h : MT T e σ) (hK : ∀ a, KW q w (ms σ a f d)) (hk : k ≤ e) (hs : T k ≠ 32) (hw : ¬ isW T e k w = true) : FX8_hask01 62 (some q) (ms σ (N k) f d) = some (N 0, ms σ (N k) f d) := by
  rw [M_haskA hT h hK hk hs, if_neg hw, if_neg hw]
theorem M_fact {j : Nat} (h : FM σ) (hj : j < 6) : aI 100 (some 68) (N j) (ms σ a f d) = some (ME σ j) := by
  rw [fm_rd68 (FM_ms h) hj, ms_q (by omega)]
  unfold ME; rw [if_pos hj]
theorem M_part (hT : TX T e) (h : MT T e σ) (hK : KS σ) (hk : k ≤ e) : MO e σ d (partP T e k) (FX8_part 62 (ms σ (N k) M1 d)) := by
  have he := hT.1
  have h1 := sk_le (T := T) hk
  have hs := sk_at hT hk
  have hnum := numP_sk (lo := 0) (n := 1000) hT hk
  unfold partP FX8_part
  rw [s_g12 h.1, Option.bind_some, m1_, if_pos rfl, s_ck h.1, M_skip hT h (by omega), Option.bind_some, s_g11 h.1, Option.bind_some, s_g10 h, Option.bind_some]
  generalize sk T e k = k1 at *
  by_cases hd : 48 ≤ T k1 ∧ T k1 ≤ 57
  · have h2 : k1 < e := hT.lt (by omega)
    have ht := hT.2.1 _ h2
    have hf := M_figures (d := d) (lo := 0) (n := 1000) hT h (by omega) (by omega) h1
    rw [hnum] at hf
    rw [if_pos hd]
    unfold jn
    dsimp only
    rw [if_neg (by rw [N_le (by omega) (by omega)]; omega), Option.bind_some, s_ck h.1, M_letter hT h h2, Option.bind_some]
    dsimp only
    rw [l48_, l57_, M_isInN (by omega) (by omega) (by omega), if_pos hd, Option.bind_some]
    dsimp only
    rw [if_neg (by decide), s_ck h.1]
    rw [dN_s] at hf
    revert hf
    cases numP T e 0 1000 k with
    | ok o =>
      intro hf
      show (FX8_figures 62 (N 0) (N 999) (ms σ (N k1) M1 d)).bind _ = _
      rw [hf]
      rfl
    | error p =>
      intro hf
      obtain ⟨x, b, hb, hf⟩ := hf
      exact ⟨x, b, hb, by
        show (FX8_figures 62 (N 0) (N 999) (ms σ (N k1) M1 d)).bind _ = _
        rw [hf]
        rfl⟩
  · rw [if_neg hd]
    unfold jn
    dsimp only
    rcases Nat.lt_or_ge k1 e with h2 | h2
    · have ht := hT.2.1 _ h2
      rw [if_neg (by rw [N_le (by omega) (by omega)]; omega), Option.bind_some, s_ck h.1, M_letter hT h h2, Option.bind_some]
      dsimp only
      rw [l48_, l57_, M_isInN (by omega) (by omega) (by omega), if_neg hd, Option.bind_some]
      dsimp only
      rw [if_pos (show (N 0 : Int32) = 0 from rfl), s_ck h.1]
      by_cases w0 : isW T e k1 wWho = true
      · rw [M_has1 hT h (fun _ => kWho (KS_ms hK)) h1 hs w0, Option.bind_some]
        dsimp only
        rw [if_neg (show ¬ (N 1 : Int32) = 0 by decide)]
        rw [if_neg (by decide), fm_gR14 (FM_ms h.1), Option.bind_some, l0_, M_fact h.1 (by omega)]
        have ef : factP T e k1 = some 0 := by unfold factP; rw [if_pos w0]
        rw [ef]
        rfl
      by_cases w1 : isW T e k1 wHour = true
      · rw [M_has0 hT h (fun _ => kWho (KS_ms hK)) h1 hs w0, Option.bind_some]
        dsimp only
        rw [if_pos (show (N 0 : Int32) = 0 from rfl), s_ck h.1]
        rw [M_has1 hT h (fun _ => kHour (KS_ms hK)) h1 hs w1, Option.bind_some]
        dsimp only
        rw [if_neg (show ¬ (N 1 : Int32) = 0 by decide)]
        rw [if_neg (by decide), fm_gR14 (FM_ms h.1), Option.bind_some, l1_, M_fact h.1 (by omega)]
        have ef : factP T e k1 = some 1 := by unfold factP; rw [if_neg w0, if_pos w1]
        rw [ef]
        rfl
      by_cases w2 : isW T e k1 wHook = true
      · rw [M_has0 hT h (fun _ => kWho (KS_ms hK)) h1 hs w0, Option.bind_some]
        dsimp only
        rw [if_pos (show (N 0 : Int32) = 0 from rfl), s_ck h.1]
        rw [M_has0 hT h (fun _ => kHour (KS_ms hK)) h1 hs w1, Option.bind_some]
        dsimp only
        rw [if_pos (show (N 0 : Int32) = 0 from rfl), s_ck h.1]
        rw [M_has1 hT h (fun _ => kHook (KS_ms hK)) h1 hs w2, Option.bind_some]
        dsimp only
        rw [if_neg (show ¬ (N 1 : Int32) = 0 by decide)]
        rw [if_neg (by decide), fm_gR14 (FM_ms h.1), Option.bind_some, l2_, M_fact h.1 (by omega)]
        have ef : factP T e k1 = some 2 := by unfold factP; rw [if_neg w0, if_neg w1, if_pos w2]
        rw [ef]
        rfl
      by_cases w3 : isW T e k1 wMarks = true
      · rw [M_has0 hT h (fun _ => kWho (KS_ms hK)) h1 hs w0, Option.bind_some]
        dsimp only
        rw [if_pos (show (N 0 : Int32) = 0 from rfl), s_ck h.1]
        rw [M_has0 hT h (fun _ => kHour (KS_ms hK)) h1 hs w1, Option.bind_some]
        dsimp only
        rw [if_pos (show (N 0 : Int32) = 0 from rfl), s_ck h.1]
        rw [M_has0 hT h (fun _ => kHook (KS_ms hK)) h1 hs w2, Option.bind_some]
        dsimp only
        rw [if_pos (show (N 0 : Int32) = 0 from rfl), s_ck h.1]
        rw [M_has1 hT h (fun _ => kMarks (KS_ms hK)) h1 hs w3, Option.bind_some]
        dsimp only
        rw [if_neg (show ¬ (N 1 : Int32) = 0 by decide)]
        rw [if_neg (by decide), fm_gR14 (FM_ms h.1), Option.bind_some, l3_, M_fact h.1 (by omega)]
        have ef : factP T e k1 = some 3 := by unfold factP; rw [if_neg w0, if_neg w1, if_neg w2, if_pos w3]
        rw [ef]
        rfl
      by_cases w4 : isW T e k1 wHung = true
      · rw [M_has0 hT h (fun _ => kWho (KS_ms hK)) h1 hs w0, Option.bind_some]
        dsimp only
        rw [if_pos (show (N 0 : Int32) = 0 from rfl), s_ck h.1]
        rw [M_has0 hT h (fun _ => kHour (KS_ms hK)) h1 hs w1, Option.bind_some]
        dsimp only
        rw [if_pos (show (N 0 : Int32) = 0 from rfl), s_ck h.1]
        rw [M_has0 hT h (fun _ => kHook (KS_ms hK)) h1 hs w2, Option.bind_some]
        dsimp only
        rw [if_pos (show (N 0 : Int32) = 0 from rfl), s_ck h.1]
        rw [M_has0 hT h (fun _ => kMarks (KS_ms hK)) h1 hs w3, Option.bind_some]
        dsimp only
        rw [if_pos (show (N 0 : Int32) = 0 from rfl), s_ck h.1]
        rw [M_has1 hT h (fun _ => kHung (KS_ms hK)) h1 hs w4, Option.bind_some]
        dsimp only
        rw [if_neg (show ¬ (N 1 : Int32) = 0 by decide)]
        rw [if_neg (by decide), fm_gR14 (FM_ms h.1), Option.bind_some, l4_, M_fact h.1 (by omega)]
        have ef : factP T e k1 = some 4 := by unfold factP; rw [if_neg w0, if_neg w1, if_neg w2, if_neg w3, if_pos w4]
        rw [ef]
        rfl
      by_cases w5 : isW T e k1 wFree = true
      · rw [M_has0 hT h (fun _ => kWho (KS_ms hK)) h1 hs w0, Option.bind_some]
        dsimp only
        rw [if_pos (show (N 0 : Int32) = 0 from rfl), s_ck h.1]
        rw [M_has0 hT h (fun _ => kHour (KS_ms hK)) h1 hs w1, Option.bind_some]
        dsimp only
        rw [if_pos (show (N 0 : Int32) = 0 from rfl), s_ck h.1]
        rw [M_has0 hT h (fun _ => kHook (KS_ms hK)) h1 hs w2, Option.bind_some]
        dsimp only
        rw [if_pos (show (N 0 : Int32) = 0 from rfl), s_ck h.1]
        rw [M_has0 hT h (fun _ => kMarks (KS_ms hK)) h1 hs w3, Option.bind_some]
        dsimp only
        rw [if_pos (show (N 0 : Int32) = 0 from rfl), s_ck h.1]
        rw [M_has0 hT h (fun _ => kHung (KS_ms hK)) h1 hs w4, Option.bind_some]
        dsimp only
        rw [if_pos (show (N 0 : Int32) = 0 from rfl), s_ck h.1]
        rw [M_has1 hT h (fun _ => kFree (KS_ms hK)) h1 hs w5, Option.bind_some]
        dsimp only
        rw [if_neg (show ¬ (N 1 : Int32) = 0 by decide)]
        rw [if_neg (by decide), fm_gR14 (FM_ms h.1), Option.bind_some, l5_, M_fact h.1 (by omega)]
        have ef : factP T e k1 = some 5 := by unfold factP; rw [if_neg w0, if_neg w1, if_neg w2, if_neg w3, if_neg w4, if_pos w5]
        rw [ef]
        rfl
      rw [M_has0 hT h (fun _ => kWho (KS_ms hK)) h1 hs w0, Option.bind_some]
      dsimp only
      rw [if_pos (show (N 0 : Int32) = 0 from rfl), s_ck h.1]
      rw [M_has0 hT h (fun _ => kHour (KS_ms hK)) h1 hs w1, Option.bind_some]
      dsimp only
      rw [if_pos (show (N 0 : Int32) = 0 from rfl), s_ck h.1]
      rw [M_has0 hT h (fun _ => kHook (KS_ms hK)) h1 hs w2, Option.bind_some]
      dsimp only
      rw [if_pos (show (N 0 : Int32) = 0 from rfl), s_ck h.1]
      rw [M_has0 hT h (fun _ => kMarks (KS_ms hK)) h1 hs w3, Option.bind_some]
      dsimp only
      rw [if_pos (show (N 0 : Int32) = 0 from rfl), s_ck h.1]
      rw [M_has0 hT h (fun _ => kHung (KS_ms hK)) h1 hs w4, Option.bind_some]
      dsimp only
      rw [if_pos (show (N 0 : Int32) = 0 from rfl), s_ck h.1]
      rw [M_has0 hT h (fun _ => kFree (KS_ms hK)) h1 hs w5, Option.bind_some]
      dsimp only
      rw [if_pos (show (N 0 : Int32) = 0 from rfl)]
      rw [if_pos rfl, s_g11 h.1, Option.bind_some, s_ck h.1, M_wrong0 h.1, Option.bind_some]
      have ef : factP T e k1 = none := by unfold factP; rw [if_neg w0, if_neg w1, if_neg w2, if_neg w3, if_neg w4, if_neg w5]
      rw [ef]
      exact ⟨_, _, h1, rfl⟩
    · rw [if_pos (by rw [N_le (by omega) (by omega)]; omega), s_ck h.1]
      by_cases w0 : isW T e k1 wWho = true
      · rw [M_has1 hT h (fun _ => kWho (KS_ms hK)) h1 hs w0, Option.bind_some]
        dsimp only
        rw [if_neg (show ¬ (N 1 : Int32) = 0 by decide)]
        rw [if_neg (by decide), fm_gR14 (FM_ms h.1), Option.bind_some, l0_, M_fact h.1 (by omega)]
        have ef : factP T e k1 = some 0 := by unfold factP; rw [if_pos w0]
        rw [ef]
        rfl
      by_cases w1 : isW T e k1 wHour = true
      · rw [M_has0 hT h (fun _ => kWho (KS_ms hK)) h1 hs w0, Option.bind_some]
        dsimp only
        rw [if_pos (show (N 0 : Int32) = 0 from rfl), s_ck h.1]
        rw [M_has1 hT h (fun _ => kHour (KS_ms hK)) h1 hs w1, Option.bind_some]
        dsimp only
        rw [if_neg (show ¬ (N 1 : Int32) = 0 by decide)]
        rw [if_neg (by decide), fm_gR14 (FM_ms h.1), Option.bind_some, l1_, M_fact h.1 (by omega)]
        have ef : factP T e k1 = some 1 := by unfold factP; rw [if_neg w0, if_pos w1]
        rw [ef]
        rfl
      by_cases w2 : isW T e k1 wHook = true
      · rw [M_has0 hT h (fun _ => kWho (KS_ms hK)) h1 hs w0, Option.bind_some]
        dsimp only
        rw [if_pos (show (N 0 : Int32) = 0 from rfl), s_ck h.1]
        rw [M_has0 hT h (fun _ => kHour (KS_ms hK)) h1 hs w1, Option.bind_some]
        dsimp only
        rw [if_pos (show (N 0 : Int32) = 0 from rfl), s_ck h.1]
        rw [M_has1 hT h (fun _ => kHook (KS_ms hK)) h1 hs w2, Option.bind_some]
        dsimp only
        rw [if_neg (show ¬ (N 1 : Int32) = 0 by decide)]
        rw [if_neg (by decide), fm_gR14 (FM_ms h.1), Option.bind_some, l2_, M_fact h.1 (by omega)]
        have ef : factP T e k1 = some 2 := by unfold factP; rw [if_neg w0, if_neg w1, if_pos w2]
        rw [ef]
        rfl
      by_cases w3 : isW T e k1 wMarks = true
      · rw [M_has0 hT h (fun _ => kWho (KS_ms hK)) h1 hs w0, Option.bind_some]
        dsimp only
        rw [if_pos (show (N 0 : Int32) = 0 from rfl), s_ck h.1]
        rw [M_has0 hT h (fun _ => kHour (KS_ms hK)) h1 hs w1, Option.bind_some]
        dsimp only
        rw [if_pos (show (N 0 : Int32) = 0 from rfl), s_ck h.1]
        rw [M_has0 hT h (fun _ => kHook (KS_ms hK)) h1 hs w2, Option.bind_some]
        dsimp only
        rw [if_pos (show (N 0 : Int32) = 0 from rfl), s_ck h.1]
        rw [M_has1 hT h (fun _ => kMarks (KS_ms hK)) h1 hs w3, Option.bind_some]
        dsimp only
        rw [if_neg (show ¬ (N 1 : Int32) = 0 by decide)]
        rw [if_neg (by decide), fm_gR14 (FM_ms h.1), Option.bind_some, l3_, M_fact h.1 (by omega)]
        have ef : factP T e k1 = some 3 := by unfold factP; rw [if_neg w0, if_neg w1, if_neg w2, if_pos w3]
        rw [ef]
        rfl
      by_cases w4 : isW T e k1 wHung = true
      · rw [M_has0 hT h (fun _ => kWho (KS_ms hK)) h1 hs w0, Option.bind_some]
        dsimp only
        rw [if_pos (show (N 0 : Int32) = 0 from rfl), s_ck h.1]
        rw [M_has0 hT h (fun _ => kHour (KS_ms hK)) h1 hs w1, Option.bind_some]
        dsimp only
        rw [if_pos (show (N 0 : Int32) = 0 from rfl), s_ck h.1]
        rw [M_has0 hT h (fun _ => kHook (KS_ms hK)) h1 hs w2, Option.bind_some]
        dsimp only
        rw [if_pos (show (N 0 : Int32) = 0 from rfl), s_ck h.1]
        rw [M_has0 hT h (fun _ => kMarks (KS_ms hK)) h1 hs w3, Option.bind_some]
        dsimp only
        rw [if_pos (show (N 0 : Int32) = 0 from rfl), s_ck h.1]
        rw [M_has1 hT h (fun _ => kHung (KS_ms hK)) h1 hs w4, Option.bind_some]
        dsimp only
        rw [if_neg (show ¬ (N 1 : Int32) = 0 by decide)]
        rw [if_neg (by decide), fm_gR14 (FM_ms h.1), Option.bind_some, l4_, M_fact h.1 (by omega)]
        have ef : factP T e k1 = some 4 := by unfold factP; rw [if_neg w0, if_neg w1, if_neg w2, if_neg w3, if_pos w4]
        rw [ef]
        rfl
      by_cases w5 : isW T e k1 wFree = true
      · rw [M_has0 hT h (fun _ => kWho (KS_ms hK)) h1 hs w0, Option.bind_some]
        dsimp only
        rw [if_pos (show (N 0 : Int32) = 0 from rfl), s_ck h.1]
        rw [M_has0 hT h (fun _ => kHour (KS_ms hK)) h1 hs w1, Option.bind_some]
        dsimp only
        rw [if_pos (show (N 0 : Int32) = 0 from rfl), s_ck h.1]
        rw [M_has0 hT h (fun _ => kHook (KS_ms hK)) h1 hs w2, Option.bind_some]
        dsimp only
        rw [if_pos (show (N 0 : Int32) = 0 from rfl), s_ck h.1]
        rw [M_has0 hT h (fun _ => kMarks (KS_ms hK)) h1 hs w3, Option.bind_some]
        dsimp only
        rw [if_pos (show (N 0 : Int32) = 0 from rfl), s_ck h.1]
        rw [M_has0 hT h (fun _ => kHung (KS_ms hK)) h1 hs w4, Option.bind_some]
        dsimp only
        rw [if_pos (show (N 0 : Int32) = 0 from rfl), s_ck h.1]
        rw [M_has1 hT h (fun _ => kFree (KS_ms hK)) h1 hs w5, Option.bind_some]
        dsimp only
        rw [if_neg (show ¬ (N 1 : Int32) = 0 by decide)]
        rw [if_neg (by decide), fm_gR14 (FM_ms h.1), Option.bind_some, l5_, M_fact h.1 (by omega)]
        have ef : factP T e k1 = some 5 := by unfold factP; rw [if_neg w0, if_neg w1, if_neg w2, if_neg w3, if_neg w4, if_pos w5]
        rw [ef]
        rfl
      rw [M_has0 hT h (fun _ => kWho (KS_ms hK)) h1 hs w0, Option.bind_some]
      dsimp only
      rw [if_pos (show (N 0 : Int32) = 0 from rfl), s_ck h.1]
      rw [M_has0 hT h (fun _ => kHour (KS_ms hK)) h1 hs w1, Option.bind_some]
      dsimp only
      rw [if_pos (show (N 0 : Int32) = 0 from rfl), s_ck h.1]
      rw [M_has0 hT h (fun _ => kHook (KS_ms hK)) h1 hs w2, Option.bind_some]
      dsimp only
      rw [if_pos (show (N 0 : Int32) = 0 from rfl), s_ck h.1]
      rw [M_has0 hT h (fun _ => kMarks (KS_ms hK)) h1 hs w3, Option.bind_some]
      dsimp only
      rw [if_pos (show (N 0 : Int32) = 0 from rfl), s_ck h.1]
      rw [M_has0 hT h (fun _ => kHung (KS_ms hK)) h1 hs w4, Option.bind_some]
      dsimp only
      rw [if_pos (show (N 0 : Int32) = 0 from rfl), s_ck h.1]
      rw [M_has0 hT h (fun _ => kFree (KS_ms hK)) h1 hs w5, Option.bind_some]
      dsimp only
      rw [if_pos (show (N 0 : Int32) = 0 from rfl)]
      rw [if_pos rfl, s_g11 h.1, Option.bind_some, s_ck h.1, M_wrong0 h.1, Option.bind_some]
      have ef : factP T e k1 = none := by unfold factP; rw [if_neg w0, if_neg w1, if_neg w2, if_neg w3, if_neg w4, if_neg w5]
      rw [ef]
      exact ⟨_, _, h1, rfl⟩
theorem M_sum_5 (hT : TX T e) (h : MT T e σ) (hK : KS σ) : ∀ (n : Nat) (g : Sm) (k m : Nat), k ≤ e → e < k + n → n ≤ m → MO e σ d (sumL T e n g k) (FX8_sum_5 62 m (g (ME σ)) (ms σ (N k) M1 d) fun x σ => some (x, σ)) := by
  have he := hT.1
  intro n
  induction n with
  | zero => intro g k m hk hn hm; omega
  | succ n ih =>
    intro g k m hk hn hm
    obtain ⟨m, rfl⟩ : ∃ m', m = m' + 1 := ⟨m - 1, by omega⟩
    have h1 := sk_le (T := T) hk
    have h2 := sk_ge (T := T) (e := e) (k := k)
    rw [sumL, FX8_sum_5, s_g12 h.1, Option.bind_some, m1_, if_pos rfl, s_ck h.1, l43_, M_isSign hT h hk (by omega), Option.bind_some]
    dsimp only
    by_cases hc : T (sk T e k) = 43
    · have h3 := hT.lt (k := sk T e k) (by omega)
      have hp := M_part (d := d) hT h hK (k := sk T e k + 1) h3
      have hb := partP_bd (T := T) (k := sk T e k + 1) h3
      rw [if_pos hc, if_pos hc, if_neg (by decide), s_g11 h.1, Option.bind_some, s_p11 h.1, Option.bind_some, l1_, N_add, s_ck h.1]
      revert hp hb
      cases partP T e (sk T e k + 1) with
      | error p =>
        intro hp hb
        obtain ⟨x, b, hb2, hp⟩ := hp
        refine ⟨g (ME σ) + x, b, hb2, ?_⟩
        rw [hp, Option.bind_some]
        dsimp only
        obtain ⟨m, rfl⟩ : ∃ m', m = m' + 1 := ⟨m - 1, by omega⟩
        have hpe : p ≤ e := hb
        rw [FX8_sum_5, s_g12 h.1, Option.bind_some, m1_, if_neg (by rw [N_m1 (by omega)]; exact id)]
      | ok o =>
        intro hp hb
        have hp : FX8_part 62 (ms σ (N (sk T e k + 1)) M1 d) = some (o.1 (ME σ), ms σ (N o.2) M1 d) := hp
        have hb : sk T e k + 1 < o.2 ∧ o.2 ≤ e := hb
        rw [hp, Option.bind_some]
        exact ih (fun E => g E + o.1 E) o.2 m hb.2 (by omega) (by omega)
    · rw [if_neg hc, if_neg hc, if_pos (show (N 0 : Int32) = 0 from rfl)]
      exact rfl
theorem M_sum (hT : TX T e) (h : MT T e σ) (hK : KS σ) (hk : k ≤ e) : MO e σ d (sumP T e k) (FX8_sum 62 (ms σ (N k) M1 d)) := by
  have he := hT.1
  have hp := M_part (d := d) hT h hK (k := k) hk
  have hb := partP_bd (T := T) (k := k) hk
  unfold sumP FX8_sum
  rw [s_ck h.1]
  revert hp hb
  cases partP T e k with
  | error p =>
    intro hp hb
    obtain ⟨x, b, hb2, hp⟩ := hp
    refine ⟨x, b, hb2, ?_⟩
    have hpe : p ≤ e := hb
    rw [hp, Option.bind_some]
    dsimp only
    show FX8_sum_5 62 (99999 + 1) x _ _ = _
    rw [FX8_sum_5, s_g12 h.1, Option.bind_some, m1_, if_neg (by rw [N_m1 (by omega)]; exact id)]
  | ok o =>
    intro hp hb
    have hp : FX8_part 62 (ms σ (N k) M1 d) = some (o.1 (ME σ), ms σ (N o.2) M1 d) := hp
    have hb : k < o.2 ∧ o.2 ≤ e := hb
    rw [hp, Option.bind_some]
    exact M_sum_5 hT h hK 401 o.1 o.2 fu hb.2 (by omega) (by unfold fu; omega)
end
