/-! THE PLAIN LAW, 63: HungFaces reads sums -/
set_option maxRecDepth 100000
theorem pb_err {α β : Type} {p : Nat} {f : α → Nat → PR β} : pb (Except.error p) f = Except.error p := rfl
theorem pb_ok {α β : Type} {u : α × Nat} {f : α → Nat → PR β} : pb (Except.ok u) f = f u.1 u.2 := rfl
/-- the head of a list, and the list -/
theorem J_head {c kf : Nat} {σ : Mm} {a b d : Int32} {P : Nat → Nat → Nat → Nat → Mm → Prop} (hc : c ≠ 2 ∧ c ≠ 100) (h0 : 76 ≤ mN σ) (hN : mN σ + 2 ≤ BIG) : ∃ μ τ, nO c (rs σ a b d) = some (some (mN σ), rs (wN σ c 0) a b d) ∧ rv c (some (mN σ)) (rs (wN σ c 0) a b d) = some (mN σ) ∧ nO 17 (rs (wN σ c 0) a b d) = some (some (mN σ + 1), wN (rs (wN σ c 0) a b d) 17 0) ∧ rv 17 (some (mN σ + 1)) (wN (rs (wN σ c 0) a b d) 17 0) = some (mN σ + 1) ∧ FJ3_init (mN σ + 1) (wN (rs (wN σ c 0) a b d) 17 0) = some (rs μ a b d) ∧ pR c kf (some (mN σ)) (some (mN σ + 1)) (rs μ a b d) = some (rs τ a b d) ∧ LI σ τ (mN σ) (mN σ + 1) 0 (BIG + 122) P ∧ mS τ (mN σ) = c ∧ mR τ (mN σ) kf = some (mN σ + 1) ∧ mN τ = mN σ + 2 ∧ mI τ (mN σ) = fun _ => 0 := by
  have hB : BIG = 1000000 := rfl
  have n1 : mN (wN σ c 0) = mN σ + 1 := rfl
  have s1 : mS (wN σ c 0) (mN σ) = c := by rw [mS_wN, if_pos rfl]
  obtain ⟨ν, g1, g2, g3, g4, g5, g6, g7⟩ := J_new17 (σ := rs (wN σ c 0) a b d) (by rw [rs_mN]; omega)
  rw [rs_mN, n1] at g1 g2 g3 g4 g6 g7
  obtain ⟨μ, t1, t2, t3, t4, t5, t6, t7⟩ := FA_rs (by omega) g5
  have q1 := g7 (mN σ) (by omega)
  have sμ : mS μ (mN σ) = c := by rw [t4, q1.1]; exact s1
  have iμ : mI μ (mN σ) = fun _ => 0 := by rw [t7 (mN σ) (by omega), q1.2.2.1, rs_q (by omega), mI_wN, if_pos rfl]
  have fa : FA σ μ := (FA_wN (by omega) hc).trans t2
  have alμ : AL (mN σ + 1) 0 (BIG + 122) μ := AL_at (σ := ν) ⟨by rw [t4], t7 _ (by omega), by rw [t6]⟩ (fun _ => ⟨by rw [t4], by rw [t5], by rw [t6]⟩) (by omega) (fun p _ => by rw [t4]) g4
  refine ⟨μ, wR μ (mN σ) kf (some (mN σ + 1)), ?_, rv_s s1, g1, g2, by rw [g3, t1], ?_, ⟨?_, ⟨Nat.le_refl _, ?_, by omega, by omega, by omega⟩, FA_wR fa (Nat.le_refl _) (by omega), Or.inl rfl, fun i hi => by omega⟩, sμ, ?_, ?_, iμ⟩
  · rw [nO_s (by rw [rs_mN]; omega), rs_mN, rs_wN h0]
  · rw [pR_s (show mS (rs μ a b d) (mN σ) = c from sμ), rs_wR]
  · refine AL_at (σ := μ) ⟨rfl, rfl, ?_⟩ (fun he => ?_) (Nat.le_refl _) (fun _ _ => rfl) alμ
    · funext j; exact mR_wR_n (Or.inl (by omega))
    · omega
  · show mN σ < mN μ; omega
  · rw [mR_wR, if_pos rfl, if_pos rfl]
  · show mN μ = _; omega
def fsV (fs : Nat → Sm) (E : Nat → Int32) (n : Nat) : Int32 := fd (fun i a => a + fs i E) 0 n (N 0)
theorem fd_end {α : Type} (f : Nat → α → α) : ∀ (k i : Nat) (a : α), fd f i (k + 1) a = f (i + k) (fd f i k a)
  | 0, i, a => rfl
  | k+1, i, a => by
    rw [fd, fd_end f k (i + 1) (f i a), fd, show i + 1 + k = i + (k + 1) by omega]
theorem fsV_s {fs : Nat → Sm} {E : Nat → Int32} {n : Nat} : fsV fs E (n + 1) = fsV fs E n + fs n E := by
  unfold fsV; rw [fd_end, Nat.zero_add]
theorem fsV_congr {fs gs : Nat → Sm} {E : Nat → Int32} {n : Nat} (h : ∀ i, i < n → fs i = gs i) : fsV fs E n = fsV gs E n := by
  unfold fsV
  exact fd_congr n 0 _ fun j _ hj a => by rw [h j (by omega)]
/-- what a sum means -/
theorem S_val {σ0 τ : Mm} {q0 l n e : Nat} {fs : Nat → Sm} (h : LI σ0 τ q0 l n e fun i lo hi q τ => Pm lo hi q (fs i) τ) (hs : mS τ q0 = 15) (hr : mR τ q0 0 = some l) : Sg (mN σ0) (mN τ) q0 (fun E => fsV fs E n) τ := by
  have hB : BIG = 1000000 := rfl
  obtain ⟨h1, ⟨h2, h3, h4, h5, h6⟩, h7, h8, h9⟩ := h
  refine ⟨hs, ⟨h2, h3⟩, fun μ ag ev => ?_⟩
  have hl : l < mN τ := h1.2.2.2.2.2.1.2
  have hrl := h1.rl
  have he : 0 < n → mN σ0 ≤ e ∧ e < mN τ := fun hn => by
    have h10 := h1.2.2.2.2.1
    rcases h10 with ⟨_, h10⟩ | h10
    · omega
    · refine ⟨?_, h10.1⟩
      rcases h8 with h8 | h8
      · have := h10.1; have := h7.2.1; omega
      · exact h8
  have hrμ : RL l n e μ := by
    obtain ⟨a1, a2, a3, a4⟩ := ag l h4 hl
    refine ⟨by rw [a1]; exact hrl.1, by rw [a3]; exact hrl.2.1, by rw [a4]; exact hrl.2.2.1, hrl.2.2.2.1, fun hn => ?_⟩
    obtain ⟨b1, b2, b3, b4⟩ := ag e (he hn).1 (he hn).2
    rw [b1, b2]; exact hrl.2.2.2.2 hn
  have s15 : mS μ q0 = 15 := by rw [(ag q0 h2 h3).1]; exact hs
  have r15 : mR μ q0 0 = some l := by rw [(ag q0 h2 h3).2.2.2]; exact hr
  have lp : ∀ (kx : Int32 → Mm → Option (Int32 × Mm)) (j i m : Nat) (a : Int32), i + j = n → j < m → FX15_in_4 q0 (some 39) m a (N i) μ kx = kx (fd (fun i a => a + fs i (CE μ)) i j a) μ := fun kx j => by
    induction j with
    | zero =>
      intro i m a hi hm
      obtain ⟨m, rfl⟩ : ∃ m', m = m' + 1 := ⟨m - 1, by omega⟩
      have := hrl.2.2.2.1
      rw [FX15_in_4, gR_s s15 r15, Option.bind_some, rv_s hrμ.1, Option.bind_some, J_size hrμ, Option.bind_some]
      dsimp only
      rw [if_pos (by rw [N_le (by omega) (by omega)]; omega), fd]
    | succ j ih =>
      intro i m a hi hm
      obtain ⟨m, rfl⟩ : ∃ m', m = m' + 1 := ⟨m - 1, by omega⟩
      have := hrl.2.2.2.1
      obtain ⟨q, lo, hi', c1, c2, c3, c4, c5, c6⟩ := h9 i (by omega)
      have aq := he (by omega)
      have rq : mR μ e i = some q := by rw [(ag e aq.1 aq.2).2.2.2]; exact c1
      have g2 := c6.2.2 μ (ag.sub (by omega) c4) ev
      have sq : mS μ q = 16 := by rw [(ag q (by have := c6.2.1; omega) (by have := c6.2.1; omega)).1]; exact c6.1
      rw [FX15_in_4, gR_s s15 r15, Option.bind_some, rv_s hrμ.1, Option.bind_some, J_size hrμ, Option.bind_some]
      dsimp only
      rw [if_neg (by rw [N_le (by omega) (by omega)]; omega), gR_s s15 r15, Option.bind_some, rv_s hrμ.1, Option.bind_some, J_get hrμ (by omega), Option.bind_some]
      dsimp only
      rw [rq, rv_s sq, Option.bind_some, ck_s sq, g2, Option.bind_some]
      dsimp only
      rw [l1_, N_add, fd]
      exact ih (i + 1) m _ (by omega) (by omega)
  unfold FX15_in
  rw [l0_, lp _ n 0 fu _ (by omega) (by have := hrl.2.2.2.1; unfold fu; omega)]
  rfl
section
variable {T : Nat → Nat} {e : Nat} {σ : Mm} {a b d x : Int32} {k dd : Nat}
theorem C_sum_8 {σ0 : Mm} {q0 l : Nat} (hT : TX T e) (h : RT T e σ0) (hK : KS σ0) (h0 : 76 ≤ mN σ0) (kx : Mm → DX (Option Nat × Mm)) : ∀ (j k n : Nat) (acc : Sm) (fs : Nat → Sm) (e' : Nat) (τ : Mm) (b : Int32) (m : Nat), k ≤ e → e < k + j → j ≤ m → n ≤ k → LI σ0 τ q0 l n e' (fun i lo hi q τ => Pm lo hi q (fs i) τ) → (∀ E, fsV fs E n = acc E) → mS τ q0 = 15 → mR τ q0 0 = some l → mN τ + 11 * (e + 1 - k) + 1000 ≤ BIG → match pb (partP T e k) (fun g k2 => sumL T e j (fun E => acc E + g E) k2) with
    | .ok u => ∃ τ' b' c z w, FX1_sum_8 0 (some q0) m (rs τ (N k) b (N dd)) kx = pay c z (kx (rs τ' (N u.2) b' (N dd))) ∧ FA σ0 τ' ∧ Sg (mN σ0) (mN τ') q0 u.1 τ' ∧ c ≤ w ∧ mN τ' ≤ mN τ + w ∧ w ≤ 11 * (u.2 - k) ∧ z ≤ 860 * (u.2 - k)
    | .error p => ∃ τ' a d' c z w, FX1_sum_8 0 (some q0) m (rs τ (N k) b (N dd)) kx = some (.inr (1, rs τ' a (N p) d'), c, z) ∧ FA σ0 τ' ∧ c ≤ w ∧ mN τ' ≤ mN τ + w ∧ w ≤ 11 * (e + 1 - k) ∧ z ≤ 860 * (e + 1 - k) := by
  have hB : BIG = 1000000 := rfl
  have he := hT.1
  intro j
  induction j with
  | zero => intro k n acc fs e' τ b m hk hj; omega
  | succ j ih =>
    intro k n acc fs e' τ b m hk hj hm hnk hL hacc hs hr hN
    obtain ⟨m, rfl⟩ : ∃ m', m = m' + 1 := ⟨m - 1, by omega⟩
    have hF := hL.2.2.1
    have hCτ := hF.fc h0 h.1
    have hRτ := hF.rt h0 h
    have hKτ := hF.ks hK
    have hNτ := hF.1
    have hl : mS τ l = 17 := hL.1.1
    have hq0 : q0 ≠ 37 := by have := hL.2.1.1; omega
    have hp := C_part (b := b) (dd := dd) hT hRτ hKτ (by omega) (by omega) hk
    have hb := partP_bd (T := T) hk
    rw [FX1_sum_8, gR_s (show mS (rs τ (N k) b (N dd)) q0 = 15 from hs) (show mR (rs τ (N k) b (N dd)) q0 0 = some l from hr), Option.bind_some, fc_ck0 (FC_rs hCτ)]
    revert hp hb
    cases partP T e k with
    | error p =>
      intro hp hb
      obtain ⟨τ', a, d', c, z, w, p1, p2, p3, p4, p5, p6⟩ := hp
      refine ⟨τ', a, d', c, z, w, ?_, hF.trans p2, p3, p4, by omega, by omega⟩
      rw [p1]; rfl
    | ok u =>
      intro hp hb
      obtain ⟨g, k2⟩ := u
      have hb : k < k2 ∧ k2 ≤ e := hb
      obtain ⟨q, τ1, b1, c, z, w, p1, p2, p3, p4, p5, p6, p7⟩ := hp
      have p6 : w + 0 ≤ 10 * (k2 - k) + 0 * (wd T e k2 - k2) := p6
      have p7 : z + 0 ≤ 50 * (k2 - k) + 0 * (wd T e k2 - k2) := p7
      have p1 : FX1_onePart 0 (rs τ (N k) b (N dd)) = some (.inl (some q, rs τ1 (N k2) b1 (N dd)), c, z) := p1
      have p3 : Pm (mN τ) (mN τ1) q g τ1 := p3
      have hK1 := p2.ks hKτ
      let gs : Nat → Sm := fun i => if i = n then g else fs i
      have gsn : gs n = g := if_pos rfl
      have gsi : ∀ i, i < n → gs i = fs i := fun i hi => if_neg (by omega)
      have hL' : LI σ0 τ q0 l n e' (fun i lo hi q τ => Pm lo hi q (gs i) τ) := LI_P hL fun i lo hi q hi' hP => by rw [gsi i hi']; exact hP
      have ob : obj τ1 q = true := by unfold obj; rw [p3.1]; decide
      obtain ⟨τ2, e2, c2, z2, a1, a2, a3, a4, a5, a6, a7, a8, a9⟩ := LI_add (a := N k2) (b := b1) (d := N dd) (P := fun i lo hi q τ => Pm lo hi q (gs i) τ) (fun i lo hi q σ τ ag hP => hP.ag ag) h0 hL' p2 (lo := mN τ) (hi := mN τ1) (q := q) (by show Pm _ _ _ (gs n) _; rw [gsn]; exact p3) ⟨Nat.le_refl _, Nat.le_refl _, p3.2.1.2⟩ ob (by omega) (by omega) hK1
      have hF2 := a2.2.2.1
      have hC2 := hF2.fc h0 h.1
      have hR2 := hF2.rt h0 h
      have hq0τ := hL.2.1.2.1
      have hq01 : q0 < mN τ1 := by have := p2.1; omega
      have hlτ : l < mN τ := hL.1.2.2.2.2.2.1.2
      have s1 : mS τ1 l = 17 := by rw [(p2.2.2.1 l (by omega)).1]; exact hl
      have s2 : mS τ2 q0 = 15 := by rw [a7 q0 hq01, (p2.2.2.1 q0 (by omega)).1]; exact hs
      have r2 : mR τ2 q0 0 = some l := by rw [(a8 q0 a2.2.1.2.2.2.2 a2.2.1.2.2.2.1).2, (p2.2.2.1 q0 (by omega)).2.2.2]; exact hr
      have hacc2 : ∀ E, fsV gs E (n + 1) = acc E + g E := fun E => by
        rw [fsV_s, gsn, fsV_congr gsi, hacc]
      have h1 := sk_le (T := T) hb.2
      have h1' := sk_ge (T := T) (e := e) (k := k2)
      rw [p1, db_in]
      dsimp only
      rw [rv_s (show mS (rs τ1 (N k2) b1 (N dd)) l = 17 from s1), Option.bind_some, a1, db_in]
      dsimp only
      rw [fc_gR0_4 (FC_rs hC2), Option.bind_some, fc_rv37 (FC_rs hC2), Option.bind_some, l43_, C_sign hT hR2 hb.2 (by omega), Option.bind_some]
      dsimp only
      show match (if T (sk T e k2) = 43 then pb (partP T e (sk T e k2 + 1)) fun g' k3 => sumL T e j (fun E => (acc E + g E) + g' E) k3 else Except.ok ((fun E => acc E + g E), sk T e k2)) with
        | .ok u => _
        | .error p => _
      by_cases c43 : T (sk T e k2) = 43
      · have h3 := hT.lt (k := sk T e k2) (by omega)
        rw [if_pos c43, if_pos c43, if_pos c43, if_neg (show ¬ (N 1 : Int32) = 0 by decide)]
        have hi := ih (sk T e k2 + 1) (n + 1) (fun E => acc E + g E) gs e2 τ2 (N (sk T e k2)) m h3 (by omega) (by omega) (by omega) a2 hacc2 s2 r2 (by omega)
        have hbd := Bd_pb (j := sk T e k2 + 1) (Nat.le_refl _) (partP_bd (T := T) h3) (f := fun g' k3 => sumL T e j (fun E => (acc E + g E) + g' E) k3) fun v k' _ b => sumL_bd hT j _ k' b
        revert hi hbd
        cases pb (partP T e (sk T e k2 + 1)) (fun g' k3 => sumL T e j (fun E => (acc E + g E) + g' E) k3) with
        | error p =>
          rintro ⟨τ', a, d', c', z', w', i1, i2, i3, i4, i5, i6⟩ -
          refine ⟨τ', a, d', c + (c2 + c'), z + (z2 + z'), w + (1 + w'), ?_, i2, by omega, by omega, by omega, by omega⟩
          rw [i1]; rfl
        | ok u =>
          rintro ⟨τ', b', c', z', w', i1, i2, i3, i4, i5, i6, i7⟩ hbd
          obtain ⟨g3, k3⟩ := u
          have i6 : w' ≤ 11 * (k3 - (sk T e k2 + 1)) := i6
          have i7 : z' ≤ 860 * (k3 - (sk T e k2 + 1)) := i7
          have hbd : sk T e k2 + 1 < k3 ∧ k3 ≤ e := hbd
          refine ⟨τ', b', c + (c2 + c'), z + (z2 + z'), w + (1 + w'), ?_, i2, i3, by omega, by omega, ?_, ?_⟩
          · rw [i1, pay_pay, pay_pay, Nat.add_assoc, Nat.add_assoc]
          · show w + (1 + w') ≤ 11 * (k3 - k); omega
          · show z + (z2 + z') ≤ 860 * (k3 - k); omega
      · rw [if_neg c43, if_neg c43, if_neg c43, if_pos (show (N 0 : Int32) = 0 from rfl)]
        have sv := S_val a2 s2 r2
        have e1 : (fun E => fsV gs E (n + 1)) = fun E => acc E + g E := funext hacc2
        rw [e1] at sv
        refine ⟨τ2, N (sk T e k2), c + c2, z + z2, w + 1, ?_, hF2, sv, by omega, by omega, ?_, ?_⟩
        · rw [pay_pay]
        · show w + 1 ≤ 11 * (sk T e k2 - k); omega
        · show z + z2 ≤ 860 * (sk T e k2 - k); omega
/-- a sum -/
theorem C_sum (hT : TX T e) (h : RT T e σ) (hK : KS σ) (h0 : 76 ≤ mN σ) (hN : mN σ + 11 * (e + 1 - k) + 2000 ≤ BIG) (hk : k ≤ e) : CP T e 13 870 0 0 0 0 σ k dd Sg (sumP T e k) (FX1_sum 0 (rs σ (N k) b (N dd))) := by
  have hB : BIG = 1000000 := rfl
  have he := hT.1
  obtain ⟨μ, τ, g1, g2, g3, g4, g5, g6, g7, g8, g9, g10, g11⟩ := J_head (c := 15) (kf := 0) (a := N k) (b := b) (d := N dd) (P := fun i lo hi q τ => Pm lo hi q ((fun _ _ => N 0 : Nat → Sm) i) τ) (by decide) h0 (by omega : mN σ + 2 ≤ BIG)
  have lp := C_sum_8 (dd := dd) hT h hK h0 (fun (σ' : Mm) => rt (some (mN σ), σ')) 401 k 0 (fun _ => N 0) (fun _ _ => N 0) (BIG + 122) τ b fu hk (by omega) (by unfold fu; omega) (by omega) g7 (fun _ => rfl) g8 g9 (by omega)
  have e1 : pb (partP T e k) (fun g k2 => sumL T e 401 (fun E => (fun _ => N 0 : Sm) E + g E) k2) = sumP T e k := by
    unfold sumP
    cases partP T e k with
    | error p => rw [pb_err, pb_err]
    | ok u =>
      rw [pb_ok, pb_ok]
      exact congrArg (fun f => sumL T e 401 f u.2) (funext fun E => Int32.zero_add (u.1 E))
  rw [e1] at lp
  have hbd := sumP_bd hT hk
  have run : FX1_sum 0 (rs σ (N k) b (N dd)) = pay 1 1 (pay 1 3 (FX1_sum_8 0 (some (mN σ)) fu (rs τ (N k) b (N dd)) fun σ' => rt (some (mN σ), σ'))) := by
    unfold FX1_sum FX15_init
    rw [g1, Option.bind_some]
    dsimp only
    rw [g2, Option.bind_some, g3, Option.bind_some]
    dsimp only
    rw [g4, Option.bind_some, g5, Option.bind_some, g6, Option.bind_some, Option.bind_some]
  rw [run]
  revert lp hbd
  cases sumP T e k with
  | error p =>
    rintro ⟨τ', a, d', c', z', w', i1, i2, i3, i4, i5, i6⟩ hbd
    refine ⟨τ', a, d', 1 + (1 + c'), 1 + (3 + z'), w' + 2, ?_, i2, by omega, by omega, by omega, by omega⟩
    rw [i1]; rfl
  | ok u =>
    rintro ⟨τ', b', c', z', w', i1, i2, i3, i4, i5, i6, i7⟩ hbd
    obtain ⟨f, k2⟩ := u
    have i6 : w' ≤ 11 * (k2 - k) := i6
    have i7 : z' ≤ 860 * (k2 - k) := i7
    have hbd : k < k2 ∧ k2 ≤ e := hbd
    refine ⟨mN σ, τ', b', 1 + (1 + c'), 1 + (3 + z'), w' + 2, ?_, i2, i3, by omega, by omega, ?_, ?_⟩
    · rw [i1]; rfl
    · show w' + 2 + 0 ≤ 13 * (k2 - k) + 0 * _; omega
    · show 1 + (3 + z') + 0 ≤ 870 * (k2 - k) + 0 * _; omega
end
