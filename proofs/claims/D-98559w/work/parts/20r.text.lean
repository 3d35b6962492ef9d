/-! THE PLAIN LAW, 67: HungFaces reads lines of the law -/
set_option maxRecDepth 100000
def Lg (lo hi q : Nat) (x : Bool × Option Cn) (σ : Mm) : Prop := mS σ q = 11 ∧ (lo ≤ q ∧ q < hi) ∧ mI σ q 0 = bN x.1 ∧ match x.2 with
  | none => mR σ q 1 = none
  | some c => ∃ p lo' hi', mR σ q 1 = some p ∧ Cg 18 lo' hi' p c σ ∧ lo ≤ lo' ∧ hi' ≤ hi
theorem Lg.ag {lo hi q : Nat} {σ τ : Mm} {x : Bool × Option Cn} (h : Lg lo hi q x σ) (g : Ag lo hi σ τ) : Lg lo hi q x τ := by
  obtain ⟨b, co⟩ := x
  obtain ⟨h1, h2, h3, h4⟩ := h
  obtain ⟨a1, a2, a3, a4⟩ := g q h2.1 h2.2
  refine ⟨by rw [a1]; exact h1, h2, by rw [a3]; exact h3, ?_⟩
  cases co with
  | none =>
    show mR τ q 1 = none
    rw [a4]; exact h4
  | some c =>
    obtain ⟨p, lo', hi', b1, b2, b3, b4⟩ := h4
    exact ⟨p, lo', hi', by rw [a4]; exact b1, b2.ag (g.sub b3 b4), b3, b4⟩
section
variable {T : Nat → Nat} {e : Nat} {σ : Mm} {a b d x : Int32} {k dd : Nat}
theorem C_isW {cq q v k1 : Nat} {w : List Nat} (hT : TX T e) (hS : STR q v (wd T e k1 - k1) (fun i => T (k1 + i)) σ) (hK : KS σ) (hq : q < BIG) (hcq : BIG ≤ cq) (hkc : kS cq = 520) (hW : KW cq w σ) (hk1 : k1 ≤ e) : FJ6_equalsk01 q (some cq) σ = some (bN (isW T e k1 w), σ) := by
  have he := hT.1
  have hw := wd_le (T := T) hk1
  have := E_k01 hS hW hq hcq hkc (by omega)
  rw [isW_dec] at this
  exact this
theorem STR_rs {q v n : Nat} {f : Nat → Nat} {τ : Mm} {a b d : Int32} (hq : q ≠ 37) (hv : v ≠ 37) (h : STR q v n f τ) : STR q v n f (rs τ a b d) := by
  obtain ⟨⟨x1, x2, x3, x4, x5⟩, x6, x7, x8⟩ := h
  refine ⟨⟨x1, x2, ?_, ?_, ?_⟩, x6, x7, ?_⟩
  · rw [rs_q hq]; exact x3
  · rw [rs_q hq]; exact x4
  · rw [rs_q hq]; exact x5
  · rw [rs_q hv]; exact x8
theorem C_when (hT : TX T e) {σ0 : Mm} (h : RT T e σ0) (hK : KS σ0) (h0 : 76 ≤ mN σ0) (hN : mN σ0 + 400 * (e + 1 - k) + 4400 ≤ BIG) (hk : k ≤ e) (bh : Bool) {x28 : Int32} (hx : x28 = bN bh) : match whenP T e bh k with
    | .ok u => ∃ q τ b' c z w, (pay 1 2 <| (nO 11 (rs σ0 (N k) b (N 0))).bind fun (x30, σ31) => (gR 1 4 (some 0) σ31).bind fun x32 => (rv 3 x32 σ31).bind fun q33 => db (FX3_passesk01 q33 (some (BIG + 2 * 9)) σ31) fun (x35, σ36) => jn (fun (z37 : Option Nat) (σ : Mm) => (rv 11 x30 σ).bind fun q38 => (FX11_init q38 x28 z37 σ).bind fun σ40 => (rt (x30, σ40) : DX (Option Nat × Mm))) fun J64 => if x35 = 0 then J64 none σ36 else ck 1 0 σ36 <| db (FX1_cond 0 σ36) fun (x42, σ43) => J64 x42 σ43) = some (.inl (some q, rs τ (N u.2) b' (N 0)), c, z) ∧ FA σ0 τ ∧ Lg (mN σ0) (mN τ) q u.1 τ ∧ c ≤ w ∧ mN τ ≤ mN σ0 + w ∧ w ≤ 60 * (u.2 - k) + 2 * (wd T e u.2 - u.2) + 10 ∧ z ≤ 3000 * (u.2 - k) + 10 * (wd T e u.2 - u.2) + 50
    | .error p => ∃ τ a d' c z w, (pay 1 2 <| (nO 11 (rs σ0 (N k) b (N 0))).bind fun (x30, σ31) => (gR 1 4 (some 0) σ31).bind fun x32 => (rv 3 x32 σ31).bind fun q33 => db (FX3_passesk01 q33 (some (BIG + 2 * 9)) σ31) fun (x35, σ36) => jn (fun (z37 : Option Nat) (σ : Mm) => (rv 11 x30 σ).bind fun q38 => (FX11_init q38 x28 z37 σ).bind fun σ40 => (rt (x30, σ40) : DX (Option Nat × Mm))) fun J64 => if x35 = 0 then J64 none σ36 else ck 1 0 σ36 <| db (FX1_cond 0 σ36) fun (x42, σ43) => J64 x42 σ43) = some (.inr (1, rs τ a (N p) d'), c, z) ∧ FA σ0 τ ∧ c ≤ w ∧ mN τ ≤ mN σ0 + w ∧ w ≤ 60 * (e + 1 - k) + 10 ∧ z ≤ 3000 * (e + 1 - k) + 50 := by
  have hB : BIG = 1000000 := rfl
  have he := hT.1
  have h1 := sk_le (T := T) hk
  have h1' := sk_ge (T := T) (e := e) (k := k)
  have w1 := wd_ge (T := T) (e := e) (k := sk T e k)
  have w2 := wd_le (T := T) h1
  have hF : FA σ0 (wN σ0 11 0) := FA_wN (by omega)
  have n1 : mN (wN σ0 11 0) = mN σ0 + 1 := rfl
  have hC1 := hF.fc h0 h.1
  have hR1 := hF.rt h0 h
  have hK1 := hF.ks hK
  have s11 : mS (wN σ0 11 0) (mN σ0) = 11 := by rw [mS_wN, if_pos rfl]
  obtain ⟨τa, ca, za, a1, a2, a3, a4, a5⟩ := C_passes (σ := wN σ0 11 0) (k := k) (b := b) (d := N 0) (cq := BIG + 2 * 9) (w := wIf) hT hR1 (by omega) (by omega) hk (by omega) (by decide) (fun τ h => kIf h) hK1
  have hFa := hF.trans a2
  have hCa := hFa.fc h0 h.1
  have hRa := hFa.rt h0 h
  have hKa := hFa.ks hK
  have sa : mS τa (mN σ0) = 11 := by rw [(a2.2.2.1 (mN σ0) (by omega)).1]; exact s11
  have ra : mR τa (mN σ0) 1 = none := by rw [(a2.2.2.1 (mN σ0) (by omega)).2.2.2, mR_wN, if_pos rfl]
  have xx : x28 = 0 ∨ x28 = 1 := by rw [hx]; cases bh; exact Or.inl rfl; exact Or.inr rfl
  rw [nO_s (show mN (rs σ0 (N k) b (N 0)) < BIG by rw [rs_mN]; omega), Option.bind_some, rs_mN, rs_wN h0]
  dsimp only
  rw [fc_gR0_4 (FC_rs hC1), Option.bind_some, fc_rv37 (FC_rs hC1), Option.bind_some, a1, db_in]
  unfold jn whenP
  dsimp only
  by_cases hw : isW T e (sk T e k) wIf = true
  · have hlen := isW_len hw
    have hl2 : wIf.length = 2 := rfl
    rw [if_pos hw, if_pos hw, hw, if_neg (show ¬ (bN true : Int32) = 0 by decide), fc_ck0 (FC_rs hCa)]
    have hc := C_cond (D := 16) (k := wd T e (sk T e k)) (b := N (sk T e k)) (dd := 0) (Rf := FX1_atom 8) (Rs := atomP T e 8 0) hT hRa hKa (by omega) (by omega) (fun k hk => atomP_bd hT 8 0 k hk) (fun k τ b a1 a2 a3 a4 a5 => C_atom hT 8 0 k τ b (by omega) (by omega) a1 a2 a3 a4 a5) w2
    have hcb := someP_bd (T := T) (fun k hk => atomP_bd hT 8 0 k hk) w2
    revert hc hcb
    cases someP T e (atomP T e 8 0) (wd T e (sk T e k)) with
    | error p =>
      rintro ⟨τ, a, d', c, z, w, p1, p2, p3, p4, p5, p6⟩ hcb
      refine ⟨τ, a, d', 1 + (ca + c), 2 + (za + z), 1 + (ca + w), ?_, hFa.trans p2, by omega, by omega, by omega, by omega⟩
      refine (congrArg (fun m => pay 1 2 (pay ca za (db m _))) p1).trans ?_
      rfl
    | ok u =>
      rintro ⟨q, τ, b1, c, z, w, p1, p2, p3, p4, p5, p6, p7⟩ hcb
      obtain ⟨g, k2⟩ := u
      have p1 : FX1_cond 0 (rs τa (N (wd T e (sk T e k))) (N (sk T e k)) (N 0)) = some (.inl (some q, rs τ (N k2) b1 (N 0)), c, z) := p1
      have p6 : w + 5 ≤ 60 * (k2 - wd T e (sk T e k)) + 2 * (wd T e k2 - k2) := p6
      have p7 : z + 100 ≤ 3000 * (k2 - wd T e (sk T e k)) + 10 * (wd T e k2 - k2) := p7
      have hcb : wd T e (sk T e k) < k2 ∧ k2 ≤ e := hcb
      have p3 : Cg 18 (mN τa) (mN τ) q g τ := p3
      have hNa := p2.1
      have hF2 := hFa.trans p2
      have st : mS τ (mN σ0) = 11 := by rw [(p2.2.2.1 (mN σ0) (by omega)).1]; exact sa
      rw [p1, db_in]
      dsimp only
      rw [rv_s (show mS (rs τ (N k2) b1 (N 0)) (mN σ0) = 11 from st), Option.bind_some]
      unfold FX11_init
      rw [pZ_s (show mS (rs τ (N k2) b1 (N 0)) (mN σ0) = 11 from st) xx, Option.bind_some, rs_wA (by omega), pR_s (show mS (rs (wA τ (mN σ0) _) (N k2) b1 (N 0)) (mN σ0) = 11 from st), Option.bind_some, Option.bind_some, rs_wR]
      refine ⟨mN σ0, wR (wA τ (mN σ0) (up1 (mI (rs τ (N k2) b1 (N 0)) (mN σ0)) 0 x28)) (mN σ0) 1 (some q), b1, 1 + (ca + (c + 0)), 2 + (za + (z + 0)), 1 + (ca + w), rfl, FA_wR (FA_wA hF2 (Nat.le_refl _) (by omega)) (Nat.le_refl _) (by show mN σ0 < mN τ; omega), ⟨st, ⟨Nat.le_refl _, by show mN σ0 < mN τ; omega⟩, ?_, q, mN τa, mN τ, ?_, p3.ag ?_, by omega, Nat.le_refl _⟩, by omega, by show mN τ ≤ _; omega, ?_, ?_⟩
      · rw [mI_wR, mI_wA, if_pos rfl, up1_app, if_pos rfl, hx]
      · rw [mR_wR, if_pos rfl, if_pos rfl]
      · intro p h1 h2
        refine ⟨rfl, rfl, ?_, ?_⟩
        · rw [mI_wR, mI_wA, if_neg (by omega)]
        · funext j; exact mR_wR_n (Or.inl (by omega))
      · show 1 + (ca + w) ≤ 60 * (k2 - k) + 2 * (wd T e k2 - k2) + 10; omega
      · show 2 + (za + (z + 0)) ≤ 3000 * (k2 - k) + 10 * (wd T e k2 - k2) + 50; omega
  · have wF : isW T e (sk T e k) wIf = false := by
      cases hh : isW T e (sk T e k) wIf
      · rfl
      · exact absurd hh hw
    rw [if_neg hw, if_neg hw, wF, if_pos (show (bN false : Int32) = 0 from rfl), rv_s (show mS (rs τa (N (sk T e k)) (N (sk T e k)) (N 0)) (mN σ0) = 11 from sa), Option.bind_some]
    unfold FX11_init
    rw [pZ_s (show mS (rs τa (N (sk T e k)) (N (sk T e k)) (N 0)) (mN σ0) = 11 from sa) xx, Option.bind_some, rs_wA (by omega), pR_s (show mS (rs (wA τa (mN σ0) _) (N (sk T e k)) (N (sk T e k)) (N 0)) (mN σ0) = 11 from sa), Option.bind_some, Option.bind_some, rs_wR]
    refine ⟨mN σ0, wR (wA τa (mN σ0) (up1 (mI (rs τa (N (sk T e k)) (N (sk T e k)) (N 0)) (mN σ0)) 0 x28)) (mN σ0) 1 none, N (sk T e k), 1 + (ca + 0), 2 + (za + 0), 1 + ca, rfl, FA_wR (FA_wA hFa (Nat.le_refl _) (by omega)) (Nat.le_refl _) (by show mN σ0 < mN τa; omega), ⟨sa, ⟨Nat.le_refl _, by show mN σ0 < mN τa; omega⟩, ?_, ?_⟩, by omega, by show mN τa ≤ _; omega, ?_, ?_⟩
    · rw [mI_wR, mI_wA, if_pos rfl, up1_app, if_pos rfl, hx]
    · show mR (wR _ (mN σ0) 1 none) (mN σ0) 1 = none
      rw [mR_wR, if_pos rfl, if_pos rfl]
    · show 1 + ca ≤ 60 * (sk T e k - k) + 2 * (wd T e (sk T e k) - sk T e k) + 10; omega
    · show 2 + (za + 0) ≤ 3000 * (sk T e k - k) + 10 * (wd T e (sk T e k) - sk T e k) + 50; omega
end
