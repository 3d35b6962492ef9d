/-! THE PLAIN LAW, 68: HungFaces reads the law -/
set_option maxRecDepth 100000
def anyF (P : Nat → Bool) : Nat → Nat → Bool
  | _, 0 => false
  | i, k+1 => P i || anyF P (i + 1) k
theorem anyF_sh {P : Nat → Bool} : ∀ k i, anyF P (i + 1) k = anyF (fun j => P (j + 1)) i k
  | 0, _ => rfl
  | k+1, i => by rw [anyF, anyF, anyF_sh k (i + 1)]
def lnD : Bool × Option Cn := (false, none)
def lnP (E : Nat → Int32) (b : Bool) (x : Bool × Option Cn) : Bool := x.1 == b && coE E x.2
theorem lnE_any {E : Nat → Int32} {b : Bool} : ∀ ls : List (Bool × Option Cn), lnE E b ls = anyF (fun j => lnP E b (ls.getD j lnD)) 0 ls.length
  | [] => rfl
  | x :: ls => by
    have ih := lnE_any (E := E) (b := b) ls
    show (lnP E b x || lnE E b ls) = _
    rw [ih, List.length_cons, anyF, anyF_sh]
    rfl
def LawG (lo hi q : Nat) (ls : List (Bool × Option Cn)) (σ : Mm) : Prop := mS σ q = 10 ∧ (lo ≤ q ∧ q < hi) ∧ ∀ τ, Ag lo hi σ τ → (∃ l e, mR τ q 0 = some l ∧ RL l ls.length e τ) ∧ (EV τ → ∀ b, FX10_tells q (bN b) (some 39) τ = some (bN (lnE (CE τ) b ls), τ))
theorem LawG.ag {lo hi q : Nat} {σ τ : Mm} {ls : List (Bool × Option Cn)} (h : LawG lo hi q ls σ) (g : Ag lo hi σ τ) : LawG lo hi q ls τ := ⟨by rw [(g q h.2.1.1 h.2.1.2).1]; exact h.1, h.2.1, fun μ a => h.2.2 μ (g.trans a)⟩
theorem T_val {σ0 τ : Mm} {q0 l e : Nat} {ls : List (Bool × Option Cn)} (h : LI σ0 τ q0 l ls.length e fun i lo hi q τ => Lg lo hi q (ls.getD i lnD) τ) (hs : mS τ q0 = 10) (hr : mR τ q0 0 = some l) : LawG (mN σ0) (mN τ) q0 ls τ := by
  have hB : BIG = 1000000 := rfl
  have h' := h
  obtain ⟨h1, ⟨h2, h3, h4, h5, h6⟩, h7, h8, h9⟩ := h
  refine ⟨hs, ⟨h2, h3⟩, fun μ ag => ?_⟩
  obtain ⟨hrμ, heμ⟩ := rl_ag h' ag
  have hn := hrμ.2.2.2.1
  have s10 : mS μ q0 = 10 := by rw [(ag q0 h2 h3).1]; exact hs
  have r10 : mR μ q0 0 = some l := by rw [(ag q0 h2 h3).2.2.2]; exact hr
  refine ⟨⟨l, e, r10, hrμ⟩, fun ev b => ?_⟩
  have bb : ∀ x y : Bool, (bN x = bN y) = (x = y) := by decide
  have lp : ∀ (kx ky : Mm → Option (Int32 × Mm)) (j i m : Nat), i + j = ls.length → j < m → RX10_tells_2 (Fholds 20) q0 (bN b) (some 39) m (N i) μ kx ky = if anyF (fun j => lnP (CE μ) b (ls.getD j lnD)) i j = true then ky μ else kx μ := fun kx ky j => by
    induction j with
    | zero =>
      intro i m hi hm
      obtain ⟨m, rfl⟩ : ∃ m', m = m' + 1 := ⟨m - 1, by omega⟩
      rw [RX10_tells_2, gR_s s10 r10, Option.bind_some, rv_s hrμ.1, Option.bind_some, J_size hrμ, Option.bind_some]
      dsimp only
      rw [if_pos (by rw [N_le (by omega) (by omega)]; omega), anyF, if_neg (by decide)]
    | succ j ih =>
      intro i m hi hm
      obtain ⟨m, rfl⟩ : ∃ m', m = m' + 1 := ⟨m - 1, by omega⟩
      obtain ⟨q, lo, hi', c1, c2, c3, c4, c5, c6⟩ := h9 i (by omega)
      have rq : mR μ e i = some q := (heμ i (by omega)).trans c1
      have c7 := c6.ag (ag.sub (by omega) c4)
      have ih' := ih (i + 1) m (by omega) (by omega)
      rw [RX10_tells_2, gR_s s10 r10, Option.bind_some, rv_s hrμ.1, Option.bind_some, J_size hrμ, Option.bind_some]
      dsimp only
      rw [if_neg (by rw [N_le (by omega) (by omega)]; omega), gR_s s10 r10, Option.bind_some, rv_s hrμ.1, Option.bind_some, J_get hrμ (by omega), Option.bind_some]
      dsimp only
      rw [rq, rv_s c7.1, Option.bind_some, gI_s c7.1, Option.bind_some, c7.2.2.1, l1_, N_add, anyF]
      have hany : lnP (CE μ) b (ls.getD i lnD) = lnP (CE μ) b (ls.getD i lnD) := rfl
      generalize ls.getD i lnD = x at c7 hany ⊢
      obtain ⟨b1, co⟩ := x
      by_cases hb : b1 = b
      · rw [if_pos (show bN b1 = bN b by rw [hb])]
        cases co with
        | none =>
          have c8 : mR μ q 1 = none := c7.2.2.2
          have e1 : lnP (CE μ) b (b1, none) = true := by rw [hb]; cases b <;> rfl
          rw [gR_s c7.1 c8, Option.bind_some, e1]
          rfl
        | some c =>
          obtain ⟨p, lo', hi2, d1, d2, d3, d4⟩ := c7.2.2.2
          have e1 : lnP (CE μ) b (b1, some c) = c (CE μ) := by rw [hb]; cases b <;> cases hcc : c (CE μ) <;> simp [lnP, coE, hcc]
          have g := d2.2.2 μ 20 (by omega) Ag.rf ev
          rw [gR_s c7.1 d1, Option.bind_some, e1]
          dsimp only
          rw [Option.bind_some]
          show ((Fholds 20 p (some 39) μ).bind _) = _
          rw [g, Option.bind_some]
          dsimp only
          cases c (CE μ)
          · rw [if_pos (show (bN false : Int32) = 0 from rfl), ih']
            rfl
          · rw [if_neg (show ¬ (bN true : Int32) = 0 by decide)]
            rfl
      · have e1 : lnP (CE μ) b (b1, co) = false := by
          cases b1 <;> cases b <;> first | exact absurd rfl hb | rfl
        rw [if_neg (show ¬ bN b1 = bN b by rw [bb]; exact hb), ih', e1]
        rfl
  unfold FX10_tells RX10_tells
  rw [l0_, lp _ _ ls.length 0 fu (by omega) (by unfold fu; omega), ← lnE_any]
  cases lnE (CE μ) b ls
  · exact (if_neg (by decide)).trans (rZ_0 _)
  · exact (if_pos rfl).trans (rZ_1 _)
section
variable {T : Nat → Nat} {e : Nat} {σ : Mm} {a b d x : Int32} {k dd : Nat}
theorem C_line (hT : TX T e) (h : RT T e σ) (hK : KS σ) (h0 : 76 ≤ mN σ) (hN : mN σ + 400 * (e + 1 - k) + 4000 ≤ BIG) (hk : k ≤ e) : CP T e 60 3000 0 0 2 10 σ k 0 Lg (lineP T e k) (FX1_lawLine 0 (rs σ (N k) b (N 0))) := by
  have hB : BIG = 1000000 := rfl
  have he := hT.1
  have h1 := sk_le (T := T) hk
  have h1' := sk_ge (T := T) (e := e) (k := k)
  have w1 := wd_ge (T := T) (e := e) (k := sk T e k)
  have w2 := wd_le (T := T) h1
  obtain ⟨q, v, τ, c, z, g1, g2, g3, ⟨g5, g6, g7, g8, g9⟩, g10, g11, g12⟩ := C_word (k := k) (b := b) (d := N 0) hT h h0 (by omega) hk
  have hCτ := g2.fc h0 h.1
  have hRτ := g2.rt h0 h
  have hKτ := g2.ks hK
  have hKr : KS (rs τ (N (wd T e (sk T e k))) (N (sk T e k)) (N 0)) := KS_wA (by omega) hKτ
  have hS := STR_rs (a := N (wd T e (sk T e k))) (b := N (sk T e k)) (d := N 0) (by omega : q ≠ 37) (by omega : v ≠ 37) g3
  have e1 := C_isW (cq := BIG + 2 * 7) (w := wHand) hT hS hKr (by omega) (by omega) (by decide) (kHand hKr) h1
  have e2 := C_isW (cq := BIG + 2 * 8) (w := wFetch) hT hS hKr (by omega) (by omega) (by decide) (kFetch hKr) h1
  unfold lineP FX1_lawLine
  rw [fc_gR0_4 (FC_rs h.1), Option.bind_some, fc_rv37 (FC_rs h.1), Option.bind_some, g1, db_in]
  dsimp only
  rw [rv_s hS.1.1, Option.bind_some, e1, Option.bind_some]
  have fin : ∀ (bh : Bool) (hw : (wd T e (sk T e k)) ≥ sk T e k + 4) (r : PR (Bool × Option Cn)) (o : DX (Option Nat × Mm)), r = whenP T e bh (wd T e (sk T e k)) → (match r with
    | .ok u => ∃ q τ' b' c z w, o = some (.inl (some q, rs τ' (N u.2) b' (N 0)), c, z) ∧ FA τ τ' ∧ Lg (mN τ) (mN τ') q u.1 τ' ∧ c ≤ w ∧ mN τ' ≤ mN τ + w ∧ w ≤ 60 * (u.2 - (wd T e (sk T e k))) + 2 * (wd T e u.2 - u.2) + 10 ∧ z ≤ 3000 * (u.2 - (wd T e (sk T e k))) + 10 * (wd T e u.2 - u.2) + 50
    | .error p => ∃ τ' a d' c z w, o = some (.inr (1, rs τ' a (N p) d'), c, z) ∧ FA τ τ' ∧ c ≤ w ∧ mN τ' ≤ mN τ + w ∧ w ≤ 60 * (e + 1 - (wd T e (sk T e k))) + 10 ∧ z ≤ 3000 * (e + 1 - (wd T e (sk T e k))) + 50) → CP T e 60 3000 0 0 2 10 σ k 0 Lg r (pay c z o) := by
    intro bh hw r o hr hm
    have hbw := whenP_bd (h := bh) hT w2
    rw [← hr] at hbw
    revert hm hbw
    cases r with
    | error p =>
      rintro ⟨τ', a, d', c', z', w', i1, i2, i3, i4, i5, i6⟩ -
      refine ⟨τ', a, d', c + c', z + z', c + w', ?_, g2.trans i2, by omega, by omega, by omega, by omega⟩
      rw [i1]; rfl
    | ok u =>
      rintro ⟨q', τ', b', c', z', w', i1, i2, i3, i4, i5, i6, i7⟩ hbw
      obtain ⟨x, k2⟩ := u
      have hbw : wd T e (sk T e k) ≤ k2 ∧ k2 ≤ e := hbw
      have i6 : w' ≤ 60 * (k2 - (wd T e (sk T e k))) + 2 * (wd T e k2 - k2) + 10 := i6
      have i7 : z' ≤ 3000 * (k2 - (wd T e (sk T e k))) + 10 * (wd T e k2 - k2) + 50 := i7
      have i3 : Lg (mN τ) (mN τ') q' x τ' := i3
      have i3' : Lg (mN σ) (mN τ') q' x τ' := by
        obtain ⟨b1, co⟩ := x
        obtain ⟨y1, y2, y3, y4⟩ := i3
        refine ⟨y1, by have := g2.1; omega, y3, ?_⟩
        cases co with
        | none => exact y4
        | some cc =>
          obtain ⟨p, lo', hi', z1, z2, z3, z4⟩ := y4
          exact ⟨p, lo', hi', z1, z2, by have := g2.1; omega, z4⟩
      refine ⟨q', τ', b', c + c', z + z', c + w', ?_, g2.trans i2, i3', by omega, by omega, ?_, ?_⟩
      · rw [i1]; rfl
      · show c + w' + 0 ≤ 60 * (k2 - k) + 2 * (wd T e k2 - k2); omega
      · show z + z' + 0 ≤ 3000 * (k2 - k) + 10 * (wd T e k2 - k2); omega
  by_cases wh0 : isW T e (sk T e k) wHand = true
  · have hlen := isW_len wh0
    have hl4 : wHand.length = 4 := rfl
    have g := C_when (k := wd T e (sk T e k)) (b := N (sk T e k)) hT hRτ hKτ (by omega) (by omega) w2 true (x28 := bN true) rfl
    rw [if_pos wh0, wh0]
    unfold jn at g ⊢
    dsimp only at g ⊢
    rw [if_neg (show ¬ (bN true : Int32) = 0 by decide)]
    exact fin true (by omega) _ _ rfl g
  · have hF : isW T e (sk T e k) wHand = false := by
      cases hh : isW T e (sk T e k) wHand
      · rfl
      · exact absurd hh wh0
    rw [if_neg wh0, hF]
    by_cases wf0 : isW T e (sk T e k) wFetch = true
    · have hlen := isW_len wf0
      have hl5 : wFetch.length = 5 := rfl
      have g := C_when (k := wd T e (sk T e k)) (b := N (sk T e k)) hT hRτ hKτ (by omega) (by omega) w2 false (x28 := bN false) rfl
      rw [if_pos wf0]
      unfold jn at g ⊢
      dsimp only at g ⊢
      rw [if_pos (show (bN false : Int32) = 0 from rfl), rv_s hS.1.1, Option.bind_some, e2, Option.bind_some, wf0]
      dsimp only
      rw [if_neg (show ¬ (bN true : Int32) = 0 by decide)]
      exact fin false (by omega) _ _ rfl g
    · have fF : isW T e (sk T e k) wFetch = false := by
        cases hh : isW T e (sk T e k) wFetch
        · rfl
        · exact absurd hh wf0
      rw [if_neg wf0]
      unfold jn
      dsimp only
      rw [if_pos (show (bN false : Int32) = 0 from rfl), rv_s hS.1.1, Option.bind_some, e2, Option.bind_some, fF]
      dsimp only
      rw [if_pos (show (bN false : Int32) = 0 from rfl), fc_gR0_4 (FC_rs hCτ), Option.bind_some, fc_rv37 (FC_rs hCτ), Option.bind_some]
      obtain ⟨τ3, -, u2, -, u4, u5⟩ := C_wrongI (a := N (wd T e (sk T e k))) (b := N (sk T e k)) (d := N 0) (σ := τ) (by omega) (by omega) hCτ
      refine ⟨τ3, N (wd T e (sk T e k)), N 0, c + 1, z + 6, c + 1, ?_, g2.trans u4, by omega, by omega, by omega, by omega⟩
      refine (congrArg (fun m => pay c z m) u2).trans ?_
      rfl
end
