/-! THE PLAIN LAW, 19: steps of a World and of the row -/
set_option maxRecDepth 100000
def sLog (A : Nat → Int32) (p h f w : Int32) : Nat → Int32 := fun j => if 289 ≤ j ∧ j < 584 then A (j - 5) else if j = 284 then A 5 else if j = 285 then p else if j = 286 then h else if j = 287 then f else if j = 288 then w else if j = 8 then (if A 8 + N 1 ≤ N 60 then A 8 + N 1 else N 60) else A j
def shf (A : Nat → Int32) (k : Nat) : Nat → Int32 := fun j => if 289 ≤ j ∧ j < 289 + k then A (j - 5) else A j
theorem shf_0 (A : Nat → Int32) : shf A 0 = A := by
  funext j; unfold shf; rw [if_neg (by omega)]
theorem shf_s (A : Nat → Int32) (k : Nat) : shf (up1 A (284 + (k + 5)) (A (284 + (k + 5) - 5))) k = shf A (k + 1) := by
  funext j
  unfold shf up1
  by_cases h1 : 289 ≤ j ∧ j < 289 + k
  · rw [if_pos h1, if_neg (by omega), if_pos (by omega)]
  · rw [if_neg h1]
    by_cases h2 : j = 284 + (k + 5)
    · rw [if_pos h2, if_pos (by omega)]; congr 1; omega
    · rw [if_neg h2, if_neg (by omega)]
theorem M_writes_5 {y1 y2 y3 y4 : Int32} (kx : Mm → Option Mm) (k : Nat) : ∀ (n : Nat) (σ : Mm), FM σ → k ≤ 295 → k < n → FX8_writes_5 62 y1 y2 y3 y4 n (N (k + 4)) σ kx = kx (wA σ 63 (shf (mI σ 63) k)) := by
  induction k with
  | zero =>
    intro n σ h hk hn
    obtain ⟨n, rfl⟩ : ∃ n', n = n' + 1 := ⟨n - 1, by omega⟩
    rw [FX8_writes_5, if_pos (show N (0 + 4) < 5 by decide), shf_0, wA_self]
  | succ k ih =>
    intro n σ h hk hn
    obtain ⟨n, rfl⟩ : ∃ n', n = n' + 1 := ⟨n - 1, by omega⟩
    rw [FX8_writes_5]
    have e1 : N (284 + (k + 1 + 4)) - N 5 = N (284 + (k + 1 + 4) - 5) := N_sub (by omega)
    have e2 : N (k + 1 + 4) + M1 = N (k + 4) := by rw [show k + 1 + 4 = (k + 4) + 1 by omega]; exact N_dec
    have e3 : 284 + (k + 1 + 4) = 284 + (k + 5) := by omega
    simp (disch := first | exact h | omega) only [↓m1_, l0_, l1_, l2_, l3_, l4_, l5_, l6_, l7_, l8_, l9_, l10_, l11_, l12_, l13_, l14_, l15_, l16_, l17_, l18_, l19_, l20_, l21_, l22_, l23_, l24_, l25_, l26_, l27_, l28_, l29_, l30_, l31_, l32_, l40_, l48_, l57_, l59_, l60_, l61_, l62_, l63_, l72_, l77_, l90_, l97_, l99_, l100_, l122_, l128_, l172_, l255_, l272_, l284_, l285_, l286_, l287_, l288_, l289_, l299_, l300_, l320_, l400_, l584_, l984_, l999_, l1023_, l1024_, l4095_, l6424_, l7008_, l10240_, l12345_, l32767_, l100000_, l1103515245_, l2000000000_, N_add, N_mul, up1_app, mI_wA, wA_wA, Option.bind_some, Option.bind_none, jn, fm_ck, fm_rv, fm_gI, fm_pI, fm_gR1, fm_gR2, fm_gR4, fm_gR5, fm_gR7, fm_gR14, fm_gR19, fm_gR21, fm_gR22, fm_gR23, fm_gR24, fm_gR25, fm_rd63, fm_wr63, fm_rd64, fm_wr64, fm_rd65, fm_wr65, fm_rd66, fm_wr66, fm_rd67, fm_wr67, fm_rd68, fm_wr68, fm_rd69, fm_wr69, fm_rd70, fm_wr70, fm_rd71, fm_wr71, fm_rd72, fm_wr72, fm_rd73, fm_wr73, fm_rd74, fm_wr74, nle1_, nle2_, nle3_, nle0_, nlt1_, nlt2_, nlt3_, nlt0_, neq10_, neq01_, neq20_, neq30_, neq21_, neq31_, neq12_, neq32_, neq00_, neq11_, if_true, if_false, N_lt, N_le, N_inj, N_m1, m1_N, m1_lt, m1_le, N_ltm, N_lem, m1_m1, e1, e2, show ¬ k + 1 + 4 < 5 from by omega]
    rw [ih n _ (FM_w h) (by omega) (by omega), mI_wA, if_pos rfl, wA_wA, e3, shf_s]
theorem M_writes {σ : Mm} {p h f w : Int32} (hF : FM σ) : FX8_writes 62 p h f w σ = some (wA σ 63 (sLog (mI σ 63) p h f w)) := by
  unfold FX8_writes
  have e : (299 : Int32) = N (295 + 4) := rfl
  rw [e, M_writes_5 _ 295 fu σ hF (by omega) (by unfold fu; omega)]
  have h0 : FM (wA σ 63 (shf (mI σ 63) 295)) := hF
  have g8 : shf (mI σ 63) 295 8 = mI σ 63 8 := rfl
  have g5 : shf (mI σ 63) 295 5 = mI σ 63 5 := rfl
  simp (disch := first | omega | ((repeat (first | apply FM_w)); exact hF)) only [↓m1_, l0_, l1_, l2_, l3_, l4_, l5_, l6_, l7_, l8_, l9_, l10_, l11_, l12_, l13_, l14_, l15_, l16_, l17_, l18_, l19_, l20_, l21_, l22_, l23_, l24_, l25_, l26_, l27_, l28_, l29_, l30_, l31_, l32_, l40_, l48_, l57_, l59_, l60_, l61_, l62_, l63_, l72_, l77_, l90_, l97_, l99_, l100_, l122_, l128_, l172_, l255_, l272_, l284_, l285_, l286_, l287_, l288_, l289_, l299_, l300_, l320_, l400_, l584_, l984_, l999_, l1023_, l1024_, l4095_, l6424_, l7008_, l10240_, l12345_, l32767_, l100000_, l1103515245_, l2000000000_, N_add, N_mul, up1_app, mI_wA, wA_wA, Option.bind_some, Option.bind_none, jn, fm_ck, fm_rv, fm_gI, fm_pI, fm_gR1, fm_gR2, fm_gR4, fm_gR5, fm_gR7, fm_gR14, fm_gR19, fm_gR21, fm_gR22, fm_gR23, fm_gR24, fm_gR25, fm_rd63, fm_wr63, fm_rd64, fm_wr64, fm_rd65, fm_wr65, fm_rd66, fm_wr66, fm_rd67, fm_wr67, fm_rd68, fm_wr68, fm_rd69, fm_wr69, fm_rd70, fm_wr70, fm_rd71, fm_wr71, fm_rd72, fm_wr72, fm_rd73, fm_wr73, fm_rd74, fm_wr74, nle1_, nle2_, nle3_, nle0_, nlt1_, nlt2_, nlt3_, nlt0_, neq10_, neq01_, neq20_, neq30_, neq21_, neq31_, neq12_, neq32_, neq00_, neq11_, if_true, if_false, N_lt, N_le, N_inj, N_m1, m1_N, m1_lt, m1_le, N_ltm, N_lem, m1_m1, M_lesser, wA_wA, if_true, g8, g5, show ((8 : Nat) = 284) = False from by decide, show ((8 : Nat) = 285) = False from by decide, show ((8 : Nat) = 286) = False from by decide, show ((8 : Nat) = 287) = False from by decide, show ((8 : Nat) = 288) = False from by decide, if_false]
  congr 2
  funext j
  unfold sLog shf up1
  by_cases h1 : j = 8
  · subst h1; rfl
  · by_cases h2 : 289 ≤ j ∧ j < 584
    · simp only [h1, if_false, if_pos h2, if_neg (show ¬ j = 288 by omega), if_neg (show ¬ j = 287 by omega), if_neg (show ¬ j = 286 by omega), if_neg (show ¬ j = 285 by omega), if_neg (show ¬ j = 284 by omega), if_pos (show 289 ≤ j ∧ j < 289 + 295 by omega)]
    · simp only [h1, if_false, if_neg h2, if_neg (show ¬ (289 ≤ j ∧ j < 289 + 295) by omega)]
      by_cases e0 : j = 284
      · subst e0; rfl
      · by_cases e1 : j = 285
        · subst e1; rfl
        · by_cases e2 : j = 286
          · subst e2; rfl
          · by_cases e3 : j = 287
            · subst e3; rfl
            · simp only [e0, e1, e2, e3, if_false]
/-! rows: what an update does to persons and hooks -/
theorem PA_P {A : Nat → Int32} {p v q w : Nat} {x : Int32} (hv : v < 6) (hw : w < 6) : PA (up1 A (12 + 6 * p + v) x) q w = if q = p ∧ w = v then x else PA A q w := by
  unfold PA up1
  by_cases h : q = p ∧ w = v
  · rw [if_pos h, if_pos (by omega)]
  · rw [if_neg h, if_neg (by omega)]
theorem PA_H {A : Nat → Int32} {h q w : Nat} {x : Int32} (hq : q < 10) (hw : w < 6) : PA (up1 A (272 + h) x) q w = PA A q w := by
  unfold PA up1
  rw [if_neg (by omega)]
theorem HA_H {A : Nat → Int32} {h g : Nat} {x : Int32} : HA (up1 A (272 + h) x) g = if g = h then x else HA A g := by
  unfold HA up1
  by_cases e : g = h
  · rw [if_pos e, if_pos (by omega)]
  · rw [if_neg e, if_neg (by omega)]
theorem HA_P {A : Nat → Int32} {p v g : Nat} {x : Int32} (hp : p < 10) (hv : v < 6) : HA (up1 A (12 + 6 * p + v) x) g = HA A g := by
  unfold HA up1
  rw [if_neg (by omega)]
theorem PA_L {A : Nat → Int32} {a b c d : Int32} {q w : Nat} (hq : q < 10) (hw : w < 6) : PA (sLog A a b c d) q w = PA A q w := by
  unfold PA sLog
  rw [if_neg (by omega), if_neg (by omega), if_neg (by omega), if_neg (by omega), if_neg (by omega), if_neg (by omega), if_neg (by omega)]
theorem HA_L {A : Nat → Int32} {a b c d : Int32} {g : Nat} (hg : g < 12) : HA (sLog A a b c d) g = HA A g := by
  unfold HA sLog
  rw [if_neg (by omega), if_neg (by omega), if_neg (by omega), if_neg (by omega), if_neg (by omega), if_neg (by omega), if_neg (by omega)]
theorem sL_o {A : Nat → Int32} {a b c d : Int32} {j : Nat} (hj : j < 284) (h8 : j ≠ 8) : sLog A a b c d j = A j := by
  unfold sLog
  rw [if_neg (by omega), if_neg (by omega), if_neg (by omega), if_neg (by omega), if_neg (by omega), if_neg (by omega), if_neg h8]
theorem WS_A {np : Nat} {A A' W T : Nat → Int32} (h : ∀ j, 72 ≤ j → j < 172 → A' j = A j) (hn : np ≤ 10) (hw : WS np A W T) : WS np A' W T := by
  obtain ⟨l, hl⟩ := hw
  refine ⟨l, fun p hp => ?_⟩
  obtain ⟨h1, h2, h3, h4, h5⟩ := hl p hp
  exact ⟨h1, h2, h3, h4, fun k hk => by rw [h _ (by omega) (by omega)]; exact h5 k hk⟩
section
variable {b np : Nat} {A : Nat → Int32} {σ : Mm}
/-- one of the six rows of persons -/
theorem RW_P {p v : Nat} {x : Int32} (hn : np ≤ 10) (hp : p < 10) (hv : v < 6) (hr : RW b A np σ) : RW b (up1 A (12 + 6 * p + v) x) np (wA σ (b + 1 + v) (up1 (mI σ (b + 1 + v)) p x)) := by
  have o : ∀ k, k ≠ 1 + v → mI (wA σ (b + 1 + v) (up1 (mI σ (b + 1 + v)) p x)) (b + k) = mI σ (b + k) := fun k hk => if_neg (by omega)
  have o0 : mI (wA σ (b + 1 + v) (up1 (mI σ (b + 1 + v)) p x)) b = mI σ b := if_neg (by omega)
  have e : mI (wA σ (b + 1 + v) (up1 (mI σ (b + 1 + v)) p x)) (b + 1 + v) = up1 (mI σ (b + 1 + v)) p x := if_pos rfl
  have f : ∀ j, j < 12 ∨ 72 ≤ j → up1 A (12 + 6 * p + v) x j = A j := fun j hj => if_neg (by omega)
  obtain ⟨h1, h2, h3, h4, h5, h6⟩ := hr
  refine ⟨?_, fun q hq => ?_, fun j hj => ?_, fun j hj => ?_, fun j hj => ?_, ?_⟩
  · rw [o0, f _ (by omega), f _ (by omega), f _ (by omega), f _ (by omega), f _ (by omega), f _ (by omega), f _ (by omega), f _ (by omega)]; exact h1
  · obtain ⟨g1, g2, g3, g4, g5, g6⟩ := h2 q hq
    have key : ∀ w, w < 6 → mI σ (b + (1 + w)) q = PA A q w → mI (wA σ (b + 1 + v) (up1 (mI σ (b + 1 + v)) p x)) (b + (1 + w)) q = PA (up1 A (12 + 6 * p + v) x) q w := by
      intro w hw hg
      rw [PA_P hv hw]
      by_cases hwv : w = v
      · subst hwv
        rw [show b + (1 + w) = b + 1 + w by omega, e, up1_app]
        by_cases hq' : q = p
        · rw [if_pos hq', if_pos ⟨hq', rfl⟩]
        · rw [if_neg hq', if_neg (fun z => hq' z.1), ← hg]; congr 1; omega
      · rw [o _ (by omega), if_neg (fun z => hwv z.2)]; exact hg
    exact ⟨key 0 (by omega) g1, key 1 (by omega) g2, key 2 (by omega) g3, key 3 (by omega) g4, key 4 (by omega) g5, key 5 (by omega) g6⟩
  · rw [o 7 (by omega), f _ (by omega)]; exact h3 j hj
  · rw [o 10 (by omega), HA_P hp hv]; exact h4 j hj
  · rw [o 11 (by omega), f _ (by omega)]; exact h5 j hj
  · rw [o 8 (by omega), o 9 (by omega)]
    exact WS_A (fun j hj _ => f j (by omega)) hn h6
theorem RW_H {h : Nat} {x : Int32} (hn : np ≤ 10) (hh : h < 12) (hr : RW b A np σ) : RW b (up1 A (272 + h) x) np (wA σ (b + 10) (up1 (mI σ (b + 10)) h x)) := by
  have o : ∀ k, k ≠ 10 → mI (wA σ (b + 10) (up1 (mI σ (b + 10)) h x)) (b + k) = mI σ (b + k) := fun k hk => if_neg (by omega)
  have o0 : mI (wA σ (b + 10) (up1 (mI σ (b + 10)) h x)) b = mI σ b := if_neg (by omega)
  have e : mI (wA σ (b + 10) (up1 (mI σ (b + 10)) h x)) (b + 10) = up1 (mI σ (b + 10)) h x := if_pos rfl
  have f : ∀ j, j < 272 ∨ 284 ≤ j → up1 A (272 + h) x j = A j := fun j hj => if_neg (by omega)
  obtain ⟨h1, h2, h3, h4, h5, h6⟩ := hr
  refine ⟨?_, fun q hq => ?_, fun j hj => ?_, fun j hj => ?_, fun j hj => ?_, ?_⟩
  · rw [o0, f _ (by omega), f _ (by omega), f _ (by omega), f _ (by omega), f _ (by omega), f _ (by omega), f _ (by omega), f _ (by omega)]; exact h1
  · rw [o 1 (by omega), o 2 (by omega), o 3 (by omega), o 4 (by omega), o 5 (by omega), o 6 (by omega), PA_H hq (by omega), PA_H hq (by omega), PA_H hq (by omega), PA_H hq (by omega), PA_H hq (by omega), PA_H hq (by omega)]
    exact h2 q hq
  · rw [o 7 (by omega), f _ (by omega)]; exact h3 j hj
  · rw [e, up1_app, HA_H]
    by_cases hj' : j = h
    · rw [if_pos hj', if_pos hj']
    · rw [if_neg hj', if_neg hj']; exact h4 j hj
  · rw [o 11 (by omega), f _ (by omega)]; exact h5 j hj
  · rw [o 8 (by omega), o 9 (by omega)]
    exact WS_A (fun j hj _ => f j (by omega)) hn h6
theorem RW_T {t : Nat} {x : Int32} (hn : np ≤ 10) (ht : t < 100) (hr : RW b A np σ) : RW b (up1 A (172 + t) x) np (wA σ (b + 7) (up1 (mI σ (b + 7)) t x)) := by
  have o : ∀ k, k ≠ 7 → mI (wA σ (b + 7) (up1 (mI σ (b + 7)) t x)) (b + k) = mI σ (b + k) := fun k hk => if_neg (by omega)
  have o0 : mI (wA σ (b + 7) (up1 (mI σ (b + 7)) t x)) b = mI σ b := if_neg (by omega)
  have e : mI (wA σ (b + 7) (up1 (mI σ (b + 7)) t x)) (b + 7) = up1 (mI σ (b + 7)) t x := if_pos rfl
  have f : ∀ j, j < 172 ∨ 272 ≤ j → up1 A (172 + t) x j = A j := fun j hj => if_neg (by omega)
  have fP : ∀ q w, q < 10 → w < 6 → PA (up1 A (172 + t) x) q w = PA A q w := fun q w hq hw => f _ (by omega)
  obtain ⟨h1, h2, h3, h4, h5, h6⟩ := hr
  refine ⟨?_, fun q hq => ?_, fun j hj => ?_, fun j hj => ?_, fun j hj => ?_, ?_⟩
  · rw [o0, f _ (by omega), f _ (by omega), f _ (by omega), f _ (by omega), f _ (by omega), f _ (by omega), f _ (by omega), f _ (by omega)]; exact h1
  · rw [o 1 (by omega), o 2 (by omega), o 3 (by omega), o 4 (by omega), o 5 (by omega), o 6 (by omega), fP q _ hq (by omega), fP q _ hq (by omega), fP q _ hq (by omega), fP q _ hq (by omega), fP q _ hq (by omega), fP q _ hq (by omega)]
    exact h2 q hq
  · rw [e, up1_app, up1_app]
    by_cases hj' : j = t
    · rw [if_pos hj', if_pos (by omega)]
    · rw [if_neg hj', if_neg (by omega)]; exact h3 j hj
  · rw [o 10 (by omega)]
    have : HA (up1 A (172 + t) x) j = HA A j := f _ (by omega)
    rw [this]; exact h4 j hj
  · rw [o 11 (by omega), f _ (by omega)]; exact h5 j hj
  · rw [o 8 (by omega), o 9 (by omega)]
    exact WS_A (fun j _ hj => f j (by omega)) hn h6
end
