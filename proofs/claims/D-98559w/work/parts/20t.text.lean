/-! THE PLAIN LAW, 69: HungFaces reads the text of the law -/
set_option maxRecDepth 100000
section
variable {T : Nat → Nat} {e : Nat} {σ : Mm} {a b d x : Int32} {k dd : Nat}
theorem lawL_bd (hT : TX T e) : ∀ (n : Nat) (l : List (Bool × Option Cn)) (k : Nat), k ≤ e → match lawL T e n l k with
    | .error p => p ≤ e
    | .ok u => u.2 = e
  | 0, l, k, hk => sk_le hk
  | n+1, l, k, hk => by
    rw [lawL]
    have hb := lineP_bd hT hk
    revert hb
    cases lineP T e k with
    | error p => exact id
    | ok u =>
      intro hb
      rw [pb_ok]
      have hb : k < u.2 ∧ u.2 ≤ e := hb
      have h1 := sk_le (T := T) hb.2
      by_cases c1 : sk T e u.2 = e
      · rw [if_pos c1]
      · rw [if_neg c1]
        by_cases c2 : T (sk T e u.2) = 59
        · rw [if_pos c2]
          exact lawL_bd hT n _ _ (hT.lt (by omega))
        · rw [if_neg c2]; exact h1
theorem C_lawT {σ0 : Mm} {q0 l : Nat} (hT : TX T e) (h : RT T e σ0) (hK : KS σ0) (h0 : 76 ≤ mN σ0) (kx : Mm → DX (Option Nat × Mm)) : ∀ (n : Nat) (ls : List (Bool × Option Cn)) (k : Nat) (e' : Nat) (τ : Mm) (b : Int32) (m : Nat), k ≤ e → ls.length + n = 12 → n < m → LI σ0 τ q0 l ls.length e' (fun i lo hi q τ => Lg lo hi q (ls.getD i lnD) τ) → mS τ q0 = 10 → mR τ q0 0 = some l → mN τ + 400 * (e + 1 - k) + 5000 ≤ BIG → match lawL T e n ls k with
    | .ok u => ∃ τ' a' b' c z w, FX1_lawText_20 0 (some q0) m (rs τ (N k) b (N 0)) kx = pay c z (kx (rs τ' a' b' (N 0))) ∧ FA σ0 τ' ∧ LawG (mN σ0) (mN τ') q0 u.1 τ' ∧ c ≤ w ∧ mN τ' ≤ mN τ + w ∧ w ≤ 62 * (e + 1 - k) ∧ z ≤ 3050 * (e + 1 - k)
    | .error p => ∃ τ' a d' c z w, FX1_lawText_20 0 (some q0) m (rs τ (N k) b (N 0)) kx = some (.inr (1, rs τ' a (N p) d'), c, z) ∧ FA σ0 τ' ∧ c ≤ w ∧ mN τ' ≤ mN τ + w ∧ w ≤ 62 * (e + 1 - k) ∧ z ≤ 3050 * (e + 1 - k) := by
  have hB : BIG = 1000000 := rfl
  have he := hT.1
  intro n
  induction n with
  | zero =>
    intro ls k e' τ b m hk hn hm hL hs hr hN
    obtain ⟨m, rfl⟩ : ∃ m', m = m' + 1 := ⟨m - 1, by omega⟩
    have hF := hL.2.2.1
    have hCτ := hF.fc h0 h.1
    have hRτ := hF.rt h0 h
    have hNτ := hF.1
    have h1 := sk_le (T := T) hk
    have h1' := sk_ge (T := T) (e := e) (k := k)
    have w1 := wd_ge (T := T) (e := e) (k := sk T e k)
    have w2 := wd_le (T := T) h1
    have hrl : RL l ls.length e' (rs τ (N k) b (N 0)) := (AL_at (σ := τ) (τ := rs τ (N k) b (N 0)) ⟨rfl, rs_q (by have := hL.2.1; omega : l ≠ 37), rfl⟩ (fun _ => ⟨rfl, rfl, rfl⟩) (Nat.le_refl _) (fun _ _ => rfl) hL.1).rl
    obtain ⟨q, v, τ1, c, z, g1, g2, g3, ⟨g5, g6, g7, g8, g9⟩, g10, g11, g12⟩ := C_word (σ := τ) (k := k) (b := b) (d := N 0) hT hRτ (by omega) (by omega) hk
    have hC1 := g2.fc (by omega) hCτ
    obtain ⟨τ3, -, -, u3, u4, u5⟩ := C_wrongI (a := N (wd T e (sk T e k))) (b := N (sk T e k)) (d := N 0) (σ := τ1) (by omega) (by omega) hC1
    have run : FX1_noMore 0 (N ls.length) (N 12) (rs τ (N k) b (N 0)) = some (.inr (1, rs τ3 (N (wd T e (sk T e k))) (N (sk T e k)) (N 0)), c + 1, z + 6) := by
      unfold FX1_noMore
      rw [if_pos (by rw [N_le (by omega) (by omega)]; omega), fc_gR0_4 (FC_rs hCτ), Option.bind_some, fc_rv37 (FC_rs hCτ), Option.bind_some, g1, db_in]
      dsimp only
      rw [fc_gR0_4 (FC_rs hC1), Option.bind_some, fc_rv37 (FC_rs hC1), Option.bind_some]
      refine (congrArg (fun m => pay c z m) u3).trans ?_
      rfl
    rw [lawL, FX1_lawText_20, gR_s (show mS (rs τ (N k) b (N 0)) q0 = 10 from hs) (show mR (rs τ (N k) b (N 0)) q0 0 = some l from hr), Option.bind_some, rv_s hrl.1, Option.bind_some, J_size hrl, Option.bind_some]
    dsimp only
    rw [fc_ck0 (FC_rs hCτ), l12_, run]
    exact ⟨τ3, N (wd T e (sk T e k)), N 0, c + 1, z + 6, c + 1, rfl, (hF.trans g2).trans u4, by omega, by omega, by omega, by omega⟩
  | succ n ih =>
    intro ls k e' τ b m hk hn hm hL hs hr hN
    obtain ⟨m, rfl⟩ : ∃ m', m = m' + 1 := ⟨m - 1, by omega⟩
    have hF := hL.2.2.1
    have hCτ := hF.fc h0 h.1
    have hRτ := hF.rt h0 h
    have hKτ := hF.ks hK
    have hNτ := hF.1
    have hrl : RL l ls.length e' (rs τ (N k) b (N 0)) := (AL_at (σ := τ) (τ := rs τ (N k) b (N 0)) ⟨rfl, rs_q (by have := hL.2.1; omega : l ≠ 37), rfl⟩ (fun _ => ⟨rfl, rfl, rfl⟩) (Nat.le_refl _) (fun _ _ => rfl) hL.1).rl
    have hl : mS τ l = 17 := hL.1.1
    have run : FX1_noMore 0 (N ls.length) (N 12) (rs τ (N k) b (N 0)) = rt (rs τ (N k) b (N 0)) := by
      unfold FX1_noMore
      rw [if_neg (by rw [N_le (by omega) (by omega)]; omega)]
    have g10 : gR 10 0 (some q0) (rs τ (N k) b (N 0)) = some (some l) := gR_s (show mS (rs τ (N k) b (N 0)) q0 = 10 from hs) (show mR (rs τ (N k) b (N 0)) q0 0 = some l from hr)
    rw [lawL, FX1_lawText_20, g10, Option.bind_some, rv_s hrl.1, Option.bind_some, J_size hrl, Option.bind_some]
    dsimp only
    rw [fc_ck0 (FC_rs hCτ), l12_, run, db_rt, g10, Option.bind_some, fc_ck0 (FC_rs hCτ)]
    have hp := C_line (σ := τ) (k := k) (b := b) hT hRτ hKτ (by omega) (by omega) hk
    have hb := lineP_bd hT hk
    revert hp hb
    cases lineP T e k with
    | error p =>
      rintro ⟨τ', a, d', c, z, w, p1, p2, p3, p4, p5, p6⟩ -
      refine ⟨τ', a, d', c, z, w, ?_, hF.trans p2, p3, p4, by omega, by omega⟩
      rw [p1]; rfl
    | ok u =>
      rintro ⟨q, τ1, b1, c, z, w, p1, p2, p3, p4, p5, p6, p7⟩ hb
      obtain ⟨x, k2⟩ := u
      have hb : k < k2 ∧ k2 ≤ e := hb
      have p1 : FX1_lawLine 0 (rs τ (N k) b (N 0)) = some (.inl (some q, rs τ1 (N k2) b1 (N 0)), c, z) := p1
      have p6 : w + 0 ≤ 60 * (k2 - k) + 2 * (wd T e k2 - k2) := p6
      have p7 : z + 0 ≤ 3000 * (k2 - k) + 10 * (wd T e k2 - k2) := p7
      have p3 : Lg (mN τ) (mN τ1) q x τ1 := p3
      have hK1 := p2.ks hKτ
      have h1 := sk_le (T := T) hb.2
      have h1' := sk_ge (T := T) (e := e) (k := k2)
      have hs4 := sk_at hT hb.2
      have hww := wd_sk (T := T) (e := e) (k := k2)
      have hwe := wd_le (T := T) hb.2
      have hwe2 := wd_le (T := T) h1
      have hlen : (ls ++ [x]).length = ls.length + 1 := by simp
      have gi : ∀ i, i < ls.length → (ls ++ [x]).getD i lnD = ls.getD i lnD := fun i hi => by
        simp [List.getD, List.getElem?_append_left hi]
      have gn : (ls ++ [x]).getD ls.length lnD = x := by simp [List.getD]
      have hL' : LI σ0 τ q0 l ls.length e' (fun i lo hi q τ => Lg lo hi q ((ls ++ [x]).getD i lnD) τ) := LI_P hL fun i lo hi q hi' hP => by rw [gi i hi']; exact hP
      have ob : obj τ1 q = true := by unfold obj; rw [p3.1]; decide
      obtain ⟨τ2, e2, c2, z2, a1, a2, a3, a4, a5, a6, a7, a8, a9⟩ := LI_add (a := N k2) (b := b1) (d := N 0) (P := fun i lo hi q τ => Lg lo hi q ((ls ++ [x]).getD i lnD) τ) (fun i lo hi q σ τ ag hP => hP.ag ag) h0 hL' p2 (lo := mN τ) (hi := mN τ1) (q := q) (by show Lg _ _ _ ((ls ++ [x]).getD ls.length lnD) _; rw [gn]; exact p3) ⟨Nat.le_refl _, Nat.le_refl _, p3.2.1.2⟩ ob (by omega) (by omega) hK1
      rw [← hlen] at a2
      have hF2 := a2.2.2.1
      have hC2 := hF2.fc h0 h.1
      have hR2 := hF2.rt h0 h
      have hq0τ := hL.2.1.2.1
      have hq01 : q0 < mN τ1 := by have := p2.1; omega
      have hlτ : l < mN τ := hL.1.2.2.2.2.2.1.2
      have s1 : mS τ1 l = 17 := by rw [(p2.2.2.1 l (by omega)).1]; exact hl
      have s2 : mS τ2 q0 = 10 := by rw [a7 q0 hq01, (p2.2.2.1 q0 (by omega)).1]; exact hs
      have r2 : mR τ2 q0 0 = some l := by rw [(a8 q0 a2.2.1.2.2.2.2 a2.2.1.2.2.2.1).2, (p2.2.2.1 q0 (by omega)).2.2.2]; exact hr
      rw [p1, db_in]
      dsimp only
      rw [rv_s (show mS (rs τ1 (N k2) b1 (N 0)) l = 17 from s1), Option.bind_some, a1, db_in]
      dsimp only
      rw [fc_ck0 (FC_rs hC2), pb_ok]
      dsimp only
      unfold FX1_goesOn
      rw [fc_gR0_4 (FC_rs hC2), Option.bind_some, fc_rv37 (FC_rs hC2), Option.bind_some, C_isOver hT hR2 hb.2, Option.bind_some]
      dsimp only
      by_cases c1 : sk T e k2 = e
      · rw [if_pos c1, if_pos c1, if_neg (show ¬ (N 1 : Int32) = 0 by decide), l0_, rZd_0, db_rt]
        dsimp only
        rw [if_pos rfl]
        refine ⟨τ2, N (sk T e k2), N (sk T e k2), c + c2, z + z2, w + 1, ?_, hF2, T_val a2 s2 r2, by omega, by omega, by omega, by omega⟩
        rw [pay_pay]
      · rw [if_neg c1, if_neg c1, if_pos (show (N 0 : Int32) = 0 from rfl), fc_gR0_4 (FC_rs hC2), Option.bind_some, fc_rv37 (FC_rs hC2), Option.bind_some, l59_, C_sign hT hR2 h1 (by omega), Option.bind_some, sk_eq hs4]
        dsimp only
        by_cases c2' : T (sk T e k2) = 59
        · have h5 := hT.lt (k := sk T e k2) (by omega)
          have hw0 : wd T e (sk T e k2) = sk T e k2 := wd_dig (by omega)
          rw [if_pos c2', if_pos c2', if_pos c2', if_neg (show ¬ (N 1 : Int32) = 0 by decide), l1_, rZd_1, db_rt]
          dsimp only
          rw [if_neg (show ¬ (N 1 : Int32) = 0 by decide)]
          have hi := ih (ls ++ [x]) (sk T e k2 + 1) e2 τ2 (N (sk T e k2)) m h5 (by omega) (by omega) a2 s2 r2 (by omega)
          revert hi
          cases lawL T e n (ls ++ [x]) (sk T e k2 + 1) with
          | error p =>
            rintro ⟨τ', a, d', c', z', w', i1, i2, i3, i4, i5, i6⟩
            refine ⟨τ', a, d', c + (c2 + c'), z + (z2 + z'), w + (1 + w'), ?_, i2, by omega, by omega, by omega, by omega⟩
            rw [i1]; rfl
          | ok u =>
            rintro ⟨τ', a', b', c', z', w', i1, i2, i3, i4, i5, i6, i7⟩
            refine ⟨τ', a', b', c + (c2 + c'), z + (z2 + z'), w + (1 + w'), ?_, i2, i3, by omega, by omega, by omega, by omega⟩
            rw [i1, pay_pay, pay_pay, Nat.add_assoc, Nat.add_assoc]
        · rw [if_neg c2', if_neg c2', if_neg c2', if_pos (show (N 0 : Int32) = 0 from rfl), fc_gR0_4 (FC_rs hC2), Option.bind_some, fc_rv37 (FC_rs hC2), Option.bind_some]
          obtain ⟨τ3, u1, -, -, u4, u5⟩ := C_wrongI (a := N (sk T e k2)) (b := N (sk T e k2)) (d := N 0) (σ := τ2) (by have := hF2.1; omega) (by omega) hC2
          refine ⟨τ3, N (sk T e k2), N 0, c + (c2 + 1), z + (z2 + 6), w + 2, ?_, hF2.trans u4, by omega, by omega, by omega, by omega⟩
          refine (congrArg (fun m => pay c z (pay c2 z2 (db m _))) u1).trans ?_
          rfl
theorem C_lawText (hT : TX T e) (h : RT T e σ) (hK : KS σ) (h0 : 76 ≤ mN σ) (hN : mN σ + 400 * (e + 1) + 5010 ≤ BIG) : match lawP T e with
    | .ok u => ∃ q τ a' b' c z w, FX1_lawText 0 (rs σ (N 0) b (N 0)) = some (.inl (some q, rs τ a' b' (N 0)), c, z) ∧ FA σ τ ∧ LawG (mN σ) (mN τ) q u.1 τ ∧ c ≤ w ∧ mN τ ≤ mN σ + w ∧ w ≤ 62 * (e + 1) + 2 ∧ z ≤ 3050 * (e + 1) + 4
    | .error p => ∃ τ a d' c z w, FX1_lawText 0 (rs σ (N 0) b (N 0)) = some (.inr (1, rs τ a (N p) d'), c, z) ∧ FA σ τ ∧ c ≤ w ∧ mN τ ≤ mN σ + w ∧ w ≤ 62 * (e + 1) + 2 ∧ z ≤ 3050 * (e + 1) + 4 := by
  have hB : BIG = 1000000 := rfl
  have he := hT.1
  have h1 := sk_le (T := T) (Nat.zero_le e)
  have hs0 := sk_at hT (Nat.zero_le e)
  obtain ⟨μ, τ, g1, g2, g3, g4, g5, g6, g7, g8, g9, g10, g11⟩ := J_head (c := 10) (kf := 0) (a := N 0) (b := b) (d := N 0) (P := fun i lo hi q τ => Lg lo hi q (([] : List (Bool × Option Cn)).getD i lnD) τ) (by decide) h0 (by omega : mN σ + 2 ≤ BIG)
  have hF := g7.2.2.1
  have hC1 := hF.fc h0 h.1
  have hR1 := hF.rt h0 h
  have run : FX1_lawText 0 (rs σ (N 0) b (N 0)) = pay 1 1 (pay 1 3 (if sk T e 0 = e then rt (some (mN σ), rs τ (N (sk T e 0)) (N (sk T e 0)) (N 0)) else FX1_lawText_20 0 (some (mN σ)) fu (rs τ (N (sk T e 0)) (N (sk T e 0)) (N 0)) fun σ' => rt (some (mN σ), σ'))) := by
    unfold FX1_lawText FX10_init
    rw [g1, Option.bind_some]
    dsimp only
    rw [g2, Option.bind_some, g3, Option.bind_some]
    dsimp only
    rw [g4, Option.bind_some, g5, Option.bind_some, g6, Option.bind_some, Option.bind_some, fc_gR0_4 (FC_rs hC1), Option.bind_some, fc_rv37 (FC_rs hC1), Option.bind_some, C_isOver hT hR1 (Nat.zero_le e), Option.bind_some]
    dsimp only
    by_cases c1 : sk T e 0 = e
    · rw [if_pos c1, if_pos c1, if_neg (show ¬ (N 1 : Int32) = 0 by decide)]
    · rw [if_neg c1, if_neg c1, if_pos (show (N 0 : Int32) = 0 from rfl)]
  rw [run]
  unfold lawP
  by_cases c1 : sk T e 0 = e
  · rw [if_pos c1, if_pos c1]
    exact ⟨mN σ, τ, _, _, 2, 4, 2, rfl, hF, T_val g7 g8 g9, Nat.le_refl _, by omega, by omega, by omega⟩
  · rw [if_neg c1, if_neg c1]
    have lp := C_lawT hT h hK h0 (fun (σ' : Mm) => rt (some (mN σ), σ')) 12 [] (sk T e 0) (BIG + 122) τ (N (sk T e 0)) fu h1 rfl (by unfold fu; omega) g7 g8 g9 (by omega)
    revert lp
    cases lawL T e 12 [] (sk T e 0) with
    | error p =>
      rintro ⟨τ', a, d', c', z', w', i1, i2, i3, i4, i5, i6⟩
      refine ⟨τ', a, d', 1 + (1 + c'), 1 + (3 + z'), w' + 2, ?_, i2, by omega, by omega, by omega, by omega⟩
      rw [i1]; rfl
    | ok u =>
      rintro ⟨τ', a', b', c', z', w', i1, i2, i3, i4, i5, i6, i7⟩
      refine ⟨mN σ, τ', a', b', 1 + (1 + c'), 1 + (3 + z'), w' + 2, ?_, i2, i3, by omega, by omega, by omega, by omega⟩
      rw [i1]; rfl
end
