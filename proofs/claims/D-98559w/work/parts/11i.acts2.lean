/-! THE PLAIN LAW, 20: a World's acts -/
set_option maxRecDepth 100000
/-- all but the World at b is as it was -/
def OW (b : Nat) (σ σ' : Mm) : Prop := mS σ' = mS σ ∧ mL σ' = mL σ ∧ mR σ' = mR σ ∧ mN σ' = mN σ ∧ ∀ q, q < b ∨ b + 12 ≤ q → mI σ' q = mI σ q
theorem OW.rf {b : Nat} {σ : Mm} : OW b σ σ := ⟨rfl, rfl, rfl, rfl, fun _ _ => rfl⟩
theorem OW.tr {b : Nat} {σ τ υ : Mm} (h : OW b σ τ) (g : OW b τ υ) : OW b σ υ :=
  ⟨g.1.trans h.1, g.2.1.trans h.2.1, g.2.2.1.trans h.2.2.1, g.2.2.2.1.trans h.2.2.2.1, fun q hq => (g.2.2.2.2 q hq).trans (h.2.2.2.2 q hq)⟩
theorem OW.w {b p : Nat} {σ τ : Mm} {f : Nat → Int32} (h : OW b σ τ) (hp : b ≤ p ∧ p < b + 12) : OW b σ (wA τ p f) :=
  h.tr ⟨rfl, rfl, rfl, rfl, fun q hq => if_neg (by omega)⟩
theorem OW.fw {b c : Nat} {σ τ : Mm} (h : OW b σ τ) (hf : FW c σ) : FW c τ := FW_eq h.1 h.2.1 h.2.2.1 hf
theorem OW.fm {b : Nat} {σ τ : Mm} (h : OW b σ τ) (hf : FM σ) : FM τ := FM_eq h.1 h.2.1 h.2.2.1 hf
theorem OW.fc {b : Nat} {σ τ : Mm} (h : OW b σ τ) (hf : FC σ) : FC τ := FC_eq h.1 h.2.1 h.2.2.1 hf
theorem gI_eq {c k q : Nat} {σ τ : Mm} (h1 : mS τ = mS σ) (h2 : mI τ q = mI σ q) : gI c k (some q) τ = gI c k (some q) σ := by
  simp only [gI, Option.bind_some, h1, h2]
theorem gI_w {c k q p : Nat} {σ : Mm} {f : Nat → Int32} (h : q ≠ p) : gI c k (some q) (wA σ p f) = gI c k (some q) σ := gI_eq rfl (if_neg h)
theorem OW.gi {b c k q : Nat} {σ τ : Mm} (h : OW b σ τ) (hq : b + 12 ≤ q) : gI c k (some q) τ = gI c k (some q) σ := gI_eq h.1 (h.2.2.2.2 q (Or.inr hq))
theorem b_ne {b k : Nat} (h : 0 < k) : (b = b + k) = False := eq_false (by omega)
theorem bk_ne {b j k : Nat} (h : j ≠ k) : (b + j = b + k) = False := eq_false (by omega)
theorem fw_cp {b : Nat} {σ : Mm} (h : FW b σ) : cpI 100 (some (b + 11)) (N 0) (some (b + 11)) (N 5) (N 295) σ = some (wA σ (b + 11) (va_cpy (mI σ (b + 11)) (mI σ (b + 11)) 0 5 295)) := by
  have hs := h.2.2.2.2.2.2.2.2.2.2.2.1.1
  have hl := h.2.2.2.2.2.2.2.2.2.2.2.1.2
  simp only [cpI, Option.bind_some]
  rw [if_pos ⟨hs, hs, by decide, by decide, by decide, by rw [hl]; decide, by rw [hl]; decide, fun e => by omega⟩]
  rfl
def tlL (L : Nat → Int32) (a p h f w : Int32) : Nat → Int32 := up1 (up1 (up1 (up1 (up1 (va_cpy L L 0 5 295) 0 a) 1 p) 2 h) 3 f) 4 w
theorem tlL_sLog {A L : Nat → Int32} {p h f w : Int32} (hL : ∀ j, j < 300 → L j = A (284 + j)) (j : Nat) (hj : j < 300) : tlL L (A 5) p h f w j = sLog A p h f w (284 + j) := by
  by_cases h5 : 5 ≤ j
  · unfold tlL up1 sLog
    rw [if_neg (by omega), if_neg (by omega), if_neg (by omega), if_neg (by omega), if_neg (by omega), if_pos (by omega), pk_cpy_in h5 (by omega), hL _ (by omega)]
    congr 1; omega
  · have : j = 0 ∨ j = 1 ∨ j = 2 ∨ j = 3 ∨ j = 4 := by omega
    rcases this with rfl | rfl | rfl | rfl | rfl <;> rfl
section
variable {b np : Nat} {A : Nat → Int32} {σ : Mm}
theorem W_tells {p h' f : Int32} {w q : Nat} (hq : b + 12 ≤ q) (hn : np ≤ 10) (hW : FW b σ) (hy : gI 521 0 (some q) σ = some (N w)) (hr : RW b A np σ) : ∃ σ', FX2_tells b p h' f (some q) σ = some σ' ∧ RW b (sLog A p h' f (N w)) np σ' ∧ OW b σ σ' := by
  refine ⟨wA (wA σ (b + 11) (tlL (mI σ (b + 11)) (A 5) p h' f (N w))) b (up1 (mI σ b) 6 (if A 8 + N 1 ≤ N 60 then A 8 + N 1 else N 60)), ?_, ?_, (OW.rf.w (by omega)).w (by omega)⟩
  · have h := hW
    unfold FX2_tells
    simp (disch := first | omega | first | omega | ((repeat (first | apply FW_w)); exact h)) only [↓m1_, l0_, l1_, l2_, l3_, l4_, l5_, l6_, l7_, l8_, l9_, l10_, l11_, l12_, l13_, l14_, l15_, l16_, l17_, l18_, l19_, l20_, l21_, l22_, l23_, l24_, l25_, l26_, l27_, l28_, l29_, l30_, l31_, l32_, l40_, l48_, l57_, l59_, l60_, l61_, l62_, l63_, l72_, l77_, l90_, l97_, l99_, l100_, l122_, l128_, l172_, l255_, l272_, l284_, l285_, l286_, l287_, l288_, l289_, l299_, l300_, l320_, l400_, l584_, l984_, l999_, l1023_, l1024_, l4095_, l6424_, l7008_, l10240_, l12345_, l32767_, l100000_, l1103515245_, l2000000000_, N_add, N_mul, up1_app, mI_wA, wA_wA, Option.bind_some, Option.bind_none, jn, fw_ck, fw_rv, fw_gI, fw_gL, fw_pI, fw_gR8, fw_rd1, fw_wr1, fw_al1, fw_gR9, fw_rd2, fw_wr2, fw_al2, fw_gR10, fw_rd3, fw_wr3, fw_al3, fw_gR11, fw_rd4, fw_wr4, fw_al4, fw_gR12, fw_rd5, fw_wr5, fw_al5, fw_gR13, fw_rd6, fw_wr6, fw_al6, fw_gR14, fw_rd7, fw_wr7, fw_al7, fw_gR15, fw_rd8, fw_wr8, fw_al8, fw_gR16, fw_rd9, fw_wr9, fw_al9, fw_gR17, fw_rd10, fw_wr10, fw_al10, fw_gR18, fw_rd11, fw_wr11, fw_al11, nle1_, nle2_, nle3_, nle0_, nlt1_, nlt2_, nlt3_, nlt0_, neq10_, neq01_, neq20_, neq30_, neq21_, neq31_, neq12_, neq32_, neq00_, neq11_, if_true, if_false, N_lt, N_le, N_inj, N_m1, m1_N, m1_lt, m1_le, N_ltm, N_lem, m1_m1, show N 300 - N 5 = N 295 from rfl, fw_cp, gI_w, hy, b_ne, rw3 hr, rw6 hr, imin]
    have e : (if A 8 + N 1 < N 60 then A 8 + N 1 else N 60) = (if A 8 + N 1 ≤ N 60 then A 8 + N 1 else N 60) := by
      by_cases h1 : A 8 + N 1 < N 60
      · rw [if_pos h1, if_pos (Int32.le_of_lt h1)]
      · rw [if_neg h1]
        split
        · next h2 => exact Int32.le_antisymm (Int32.not_lt.mp h1) h2
        · rfl
    exact congrArg (fun z => some (wA (wA σ (b + 11) (tlL (mI σ (b + 11)) (A 5) p h' f (N w))) b (up1 (mI σ b) 6 z))) e
  · obtain ⟨h1, h2, h3, h4, h5, h6⟩ := hr
    have o : ∀ k, 0 < k → k ≠ 11 → mI (wA (wA σ (b + 11) (tlL (mI σ (b + 11)) (A 5) p h' f (N w))) b (up1 (mI σ b) 6 (if A 8 + N 1 ≤ N 60 then A 8 + N 1 else N 60))) (b + k) = mI σ (b + k) := fun k hk hk2 => by
      rw [mI_wA, if_neg (by omega), mI_wA, if_neg (by omega)]
    have o11 : mI (wA (wA σ (b + 11) (tlL (mI σ (b + 11)) (A 5) p h' f (N w))) b (up1 (mI σ b) 6 (if A 8 + N 1 ≤ N 60 then A 8 + N 1 else N 60))) (b + 11) = tlL (mI σ (b + 11)) (A 5) p h' f (N w) := by
      rw [mI_wA, if_neg (by omega), mI_wA, if_pos rfl]
    have o0 : mI (wA (wA σ (b + 11) (tlL (mI σ (b + 11)) (A 5) p h' f (N w))) b (up1 (mI σ b) 6 (if A 8 + N 1 ≤ N 60 then A 8 + N 1 else N 60))) b = up1 (mI σ b) 6 (if A 8 + N 1 ≤ N 60 then A 8 + N 1 else N 60) := by
      rw [mI_wA, if_pos rfl]
    refine ⟨?_, fun q hq => ?_, fun j hj => ?_, fun j hj => ?_, fun j hj => ?_, ?_⟩
    · rw [o0]
      exact ⟨h1.1, h1.2.1, h1.2.2.1, h1.2.2.2.1, h1.2.2.2.2.1, h1.2.2.2.2.2.1, rfl, h1.2.2.2.2.2.2.2⟩
    · rw [o 1 (by omega) (by omega), o 2 (by omega) (by omega), o 3 (by omega) (by omega), o 4 (by omega) (by omega), o 5 (by omega) (by omega), o 6 (by omega) (by omega), PA_L hq (by omega), PA_L hq (by omega), PA_L hq (by omega), PA_L hq (by omega), PA_L hq (by omega), PA_L hq (by omega)]
      exact h2 q hq
    · rw [o 7 (by omega) (by omega), sL_o (by omega) (by omega)]; exact h3 j hj
    · rw [o 10 (by omega) (by omega), HA_L hj]; exact h4 j hj
    · rw [o11]; exact tlL_sLog h5 j hj
    · rw [o 8 (by omega) (by omega), o 9 (by omega) (by omega)]
      exact WS_A (fun j h1 h2 => sL_o (by omega) (by omega)) hn h6
end
