/-! THE PLAIN LAW, 71: the model takes a law -/
set_option maxRecDepth 100000
theorem hs_self {σ : Mm} {h f : Bool} (h1 : mI σ 62 17 = bN h) (h2 : mI σ 62 18 = bN f) : hs σ h f = σ := by
  have e : up1 (up1 (mI σ 62) 17 (bN h)) 18 (bN f) = mI σ 62 := by
    funext j; unfold up1
    by_cases e1 : j = 18
    · rw [if_pos e1, e1, h2]
    · rw [if_neg e1]; by_cases e2 : j = 17
      · rw [if_pos e2, e2, h1]
      · rw [if_neg e2]
  unfold hs; rw [e, wA_self]
/-- the text is read from the tape now -/
def bg (σ : Mm) (L : Nat) : Mm := wA σ 62 (up1 (up1 (up1 (up1 (up1 (up1 (up1 (mI σ 62) 12 M1) 9 M1) 10 (N L)) 8 (N 0)) 11 (N 0)) 13 (N 0)) 0 (mI σ 62 0))
theorem M_begins {σ : Mm} {L : Nat} (h : FM σ) (hl : mI σ 62 8 = N L) : ∃ g, FX8_begins 62 σ = some (wA σ 62 g) ∧ g 12 = M1 ∧ g 9 = M1 ∧ g 10 = N L ∧ g 8 = N 0 ∧ g 11 = N 0 ∧ g 13 = N 0 ∧ ∀ k, k ≠ 12 → k ≠ 9 → k ≠ 10 → k ≠ 8 → k ≠ 11 → k ≠ 13 → g k = mI σ 62 k := by
  refine ⟨up1 (up1 (up1 (up1 (up1 (up1 (mI σ 62) 12 M1) 9 M1) 10 (N L)) 8 (N 0)) 11 (N 0)) 13 (N 0), ?_, rfl, rfl, rfl, rfl, rfl, rfl, fun k h1 h2 h3 h4 h5 h6 => ?_⟩
  · unfold FX8_begins
    have e8 : ∀ x y : Int32, up1 (up1 (mI σ 62) 12 x) 9 y 8 = N L := fun x y => hl
    rw [m1_, fm_pI h, Option.bind_some, fm_pI (FM_w h), Option.bind_some, fm_gI (FM_w (FM_w h)), Option.bind_some, fm_pI (FM_w (FM_w h)), Option.bind_some, l0_, fm_pI (FM_w (FM_w (FM_w h))), Option.bind_some, fm_pI (FM_w (FM_w (FM_w (FM_w h)))), Option.bind_some, fm_pI (FM_w (FM_w (FM_w (FM_w (FM_w h))))), Option.bind_some]
    simp only [wA_wA]
    show some (wA σ 62 (up1 (up1 (up1 (up1 (up1 (up1 (mI σ 62) 12 M1) 9 M1) 10 (up1 (up1 (mI σ 62) 12 M1) 9 M1 8)) 8 (N 0)) 11 (N 0)) 13 (N 0))) = _
    rw [e8]
  · rw [up1_app, if_neg h6, up1_app, if_neg h5, up1_app, if_neg h4, up1_app, if_neg h3, up1_app, if_neg h2, up1_app, if_neg h1]
theorem M_law_55 {σ : Mm} {L : Nat} {T : Nat → Nat} (hL : L ≤ 400) (y : Int32) (kx : Mm → Option (Int32 × Mm)) : ∀ (j i m : Nat) (μ : Mm), FM μ → mI μ 62 10 = N L → (∀ k, k < L → mI μ 67 k = N (T k)) → i + j = L → j < m → FX8_law_55 62 y m (N i) μ kx = kx (wA μ 63 (fl (mI μ 63) (fun j => N (T (j - 584))) (584 + i) (584 + L))) := by
  intro j
  induction j with
  | zero =>
    intro i m μ h h10 ht hi hm
    obtain ⟨m, rfl⟩ : ∃ m', m = m' + 1 := ⟨m - 1, by omega⟩
    have e : i = L := by omega
    rw [FX8_law_55, fm_gI h, Option.bind_some, h10, if_pos (by rw [N_le (by omega) (by omega)]; omega), e, fl_0, wA_self]
  | succ j ih =>
    intro i m μ h h10 ht hi hm
    obtain ⟨m, rfl⟩ : ∃ m', m = m' + 1 := ⟨m - 1, by omega⟩
    have ih' := ih (i + 1) m (wA μ 63 (up1 (mI μ 63) (584 + i) (N (T i)))) (FM_w h) h10 ht (by omega) (by omega)
    rw [FX8_law_55, fm_gI h, Option.bind_some, h10, if_neg (by rw [N_le (by omega) (by omega)]; omega), fm_gR1 h, Option.bind_some, fm_gR7 h, Option.bind_some, fm_rd67 h (by omega), Option.bind_some, ht i (by omega), l584_, N_add, fm_wr63 h (by omega), Option.bind_some, l1_, N_add, ih', wA_wA]
    congr 2
    have e : mI (wA μ 63 (up1 (mI μ 63) (584 + i) (N (T i)))) 63 = up1 (mI μ 63) (584 + i) (N (T i)) := rfl
    rw [e]
    have := fl_s (f := mI μ 63) (g := fun j => N (T (j - 584))) (a := 584 + i) (b := 584 + L) (by omega)
    rw [show 584 + i - 584 = i by omega] at this
    rw [← this, show 584 + (i + 1) = 584 + i + 1 by omega]
/-- what the model's flags are behind a text -/
def gOk (σ : Mm) (g : Nat → Int32) : Prop := g 3 = mI σ 62 3 ∧ g 8 = N 0 ∧ (∃ b, g 15 = bN b) ∧ (∃ b, g 16 = bN b) ∧ (∃ b, g 17 = bN b) ∧ ∃ b, g 18 = bN b
theorem M_law {σ : Mm} {L : Nat} {T : Nat → Nat} (hM : FM σ) (hK : KS σ) (hB : B62 σ) (hT : TX T L) (hl : mI σ 62 8 = N L) (ht : ∀ k, k < L → mI σ 67 k = N (T k)) : match lawP T L with
    | .ok u => ∃ g, FX8_law 62 σ = some (N u.1.length, wA (wA σ 62 g) 63 (fl (up1 (up1 (mI σ 63) 1 (N u.1.length)) 2 (N L)) (fun j => N (T (j - 584))) 584 (584 + L))) ∧ gOk σ g ∧ g 0 = N 0 ∧ g 6 = N 0 ∧ g 12 = M1
    | .error p => ∃ x g, FX8_law 62 σ = some (x, wA σ 62 g) ∧ gOk σ g ∧ g 0 = N 1 ∧ g 6 = mI σ 62 6 ∧ g 12 = N p := by
  have he := hT.1
  obtain ⟨g, b1, b2, b3, b4, b5, b6, b7, b8⟩ := M_begins hM hl
  obtain ⟨⟨x15, e15⟩, ⟨x16, e16⟩, ⟨h0, e17⟩, f0, e18⟩ := hB
  obtain ⟨β, hβ⟩ : ∃ β, β = wA σ 62 g := ⟨_, rfl⟩
  have iβ : mI β 62 = g := by rw [hβ]; rfl
  have hMβ : FM β := by rw [hβ]; exact FM_w hM
  have hKβ : KS β := by rw [hβ]; exact KS_wA (by have hB : BIG = 1000000 := rfl; omega) hK
  have t17 : mI β 62 17 = bN h0 := by rw [iβ, b8 17 (by omega) (by omega) (by omega) (by omega) (by omega) (by omega)]; exact e17
  have t18 : mI β 62 18 = bN f0 := by rw [iβ, b8 18 (by omega) (by omega) (by omega) (by omega) (by omega) (by omega)]; exact e18
  have hBβ : MB β := ⟨⟨x15, by rw [iβ, b8 15 (by omega) (by omega) (by omega) (by omega) (by omega) (by omega)]; exact e15⟩, x16, by rw [iβ, b8 16 (by omega) (by omega) (by omega) (by omega) (by omega) (by omega)]; exact e16⟩
  have hTβ : MT T L β := ⟨hMβ, by rw [iβ]; exact b4, Or.inl ⟨by rw [iβ]; exact b3, fun k hk => by rw [hβ, mI_wA, if_neg (by omega)]; exact ht k hk⟩⟩
  have eβ : ms (hs β h0 f0) (N 0) M1 (N 0) = β := by
    rw [hs_self t17 t18]
    have := ms_self β
    rw [iβ, b6, b2, b7] at this
    exact this
  have hr := M_read (h0 := h0) (f0 := f0) hT hTβ hKβ hBβ
  rw [eβ] at hr
  have cl : ∀ (h' f' : Bool) (a p d' : Int32), ms (hs β h' f') a p d' = wA σ 62 (up1 (up1 (up1 (up1 (up1 g 17 (bN h')) 18 (bN f')) 11 a) 12 p) 13 d') := fun h' f' a p d' => by
    show wA (wA β 62 _) 62 (up1 (up1 (up1 (up1 (up1 (mI β 62) 17 (bN h')) 18 (bN f')) 11 a) 12 p) 13 d') = _
    rw [wA_wA, hβ, wA_wA]
    rfl
  have gk : ∀ (h' f' : Bool) (a p d' : Int32) (s : Int32), gOk σ (up1 (up1 (up1 (up1 (up1 (up1 g 17 (bN h')) 18 (bN f')) 11 a) 12 p) 13 d') 0 s) := fun h' f' a p d' s => ⟨b8 3 (by omega) (by omega) (by omega) (by omega) (by omega) (by omega), b5, ⟨x15, (b8 15 (by omega) (by omega) (by omega) (by omega) (by omega) (by omega)).trans e15⟩, ⟨x16, (b8 16 (by omega) (by omega) (by omega) (by omega) (by omega) (by omega)).trans e16⟩, ⟨h', rfl⟩, f', rfl⟩
  have run : ∀ o, FX8_read 62 1 β = some o → FX8_law 62 σ = (if mI o.2 62 12 = M1 then FX8_law 62 σ else FX8_law 62 σ) := fun o _ => by split <;> rfl
  revert hr
  cases hlp : lawP T L with
  | error p =>
    rintro ⟨x, a, d', h', f', hr⟩
    have hpe : p ≤ L := by
      unfold lawP at hlp
      by_cases c1 : sk T L 0 = L
      · rw [if_pos c1] at hlp; cases hlp
      · rw [if_neg c1] at hlp
        have := lawL_bd hT 12 [] (sk T L 0) (sk_le (Nat.zero_le _))
        rw [hlp] at this; exact this
    rw [cl] at hr
    refine ⟨N 0, up1 (up1 (up1 (up1 (up1 (up1 g 17 (bN h')) 18 (bN f')) 11 (N a)) 12 (N p)) 13 d') 0 (N 1), ?_, gk h' f' (N a) (N p) d' (N 1), rfl, b8 6 (by omega) (by omega) (by omega) (by omega) (by omega) (by omega), rfl⟩
    unfold FX8_law jn
    dsimp only
    rw [fm_ck hM, b1, Option.bind_some, ← hβ, fm_ck hMβ, hr, Option.bind_some]
    dsimp only
    rw [fm_gI (FM_w hM), Option.bind_some]
    have e12 : mI (wA σ 62 (up1 (up1 (up1 (up1 (up1 g 17 (bN h')) 18 (bN f')) 11 (N a)) 12 (N p)) 13 d')) 62 12 = N p := rfl
    rw [e12, m1_, if_neg (by rw [N_m1 (by omega)]; exact id), l1_, fm_pI (FM_w hM), Option.bind_some, fm_gI (FM_w (FM_w hM)), Option.bind_some]
    have e0 : mI (wA (wA σ 62 (up1 (up1 (up1 (up1 (up1 g 17 (bN h')) 18 (bN f')) 11 (N a)) 12 (N p)) 13 d')) 62 (up1 (mI (wA σ 62 (up1 (up1 (up1 (up1 (up1 g 17 (bN h')) 18 (bN f')) 11 (N a)) 12 (N p)) 13 d')) 62) 0 (N 1))) 62 0 = N 1 := rfl
    rw [e0, l0_, if_neg (by decide), wA_wA]
    rfl
  | ok u =>
    intro hr
    obtain ⟨ls, k⟩ := u
    have hr : FX8_read 62 1 β = some (N ls.length, ms (hs β (h0 || lnE (ME β) true ls) (f0 || lnE (ME β) false ls)) (N L) M1 (N 0)) := hr
    rw [cl] at hr
    generalize (h0 || lnE (ME β) true ls) = h' at hr
    generalize (f0 || lnE (ME β) false ls) = f' at hr
    obtain ⟨g3, hg3⟩ : ∃ g3, g3 = up1 (up1 (up1 (up1 (up1 (up1 g 17 (bN h')) 18 (bN f')) 11 (N L)) 12 M1) 13 (N 0)) 0 (N 0) := ⟨_, rfl⟩
    have q3 := gk h' f' (N L) M1 (N 0) (N 0)
    refine ⟨up1 g3 6 (N 0), ?_, ?_, ?_, rfl, ?_⟩
    · have e12 : mI (wA σ 62 (up1 (up1 (up1 (up1 (up1 g 17 (bN h')) 18 (bN f')) 11 (N L)) 12 M1) 13 (N 0))) 62 12 = M1 := rfl
      unfold FX8_law jn
      dsimp only
      rw [fm_ck hM, b1, Option.bind_some, ← hβ, fm_ck hMβ, hr, Option.bind_some]
      dsimp only
      rw [fm_gI (FM_w hM), Option.bind_some, e12, m1_, if_pos rfl, l0_, fm_pI (FM_w hM), Option.bind_some, wA_wA]
      have eg : up1 (mI (wA σ 62 (up1 (up1 (up1 (up1 (up1 g 17 (bN h')) 18 (bN f')) 11 (N L)) 12 M1) 13 (N 0))) 62) 0 (N 0) = g3 := by rw [hg3]; rfl
      rw [eg, fm_gI (FM_w hM), Option.bind_some]
      have e0 : mI (wA σ 62 g3) 62 0 = N 0 := by rw [hg3]; rfl
      have e10 : g3 10 = N L := by rw [hg3]; exact b4
      rw [e0, if_pos (by decide), fm_gR1 (FM_w hM), Option.bind_some, l1_, fm_wr63 (FM_w hM) (by omega), Option.bind_some, fm_gR1 (FM_w (FM_w hM)), Option.bind_some, fm_gI (FM_w (FM_w hM)), Option.bind_some]
      have e10b : mI (wA (wA σ 62 g3) 63 (up1 (mI (wA σ 62 g3) 63) 1 (N ls.length))) 62 10 = N L := e10
      rw [e10b, l2_, fm_wr63 (FM_w (FM_w hM)) (by omega), Option.bind_some]
      have lp := M_law_55 (σ := σ) (L := L) (T := T) he (N ls.length) (fun (σ : Mm) => (pI 8 6 (some 62) (N 0) σ).bind fun σ41 => some (N ls.length, σ41)) L 0 fu (wA (wA (wA σ 62 g3) 63 (up1 (mI (wA σ 62 g3) 63) 1 (N ls.length))) 63 (up1 (mI (wA (wA σ 62 g3) 63 (up1 (mI (wA σ 62 g3) 63) 1 (N ls.length))) 63) 2 (N L))) (FM_w (FM_w (FM_w hM))) e10 ht (by omega) (by unfold fu; omega)
      rw [lp, fm_pI (FM_w (FM_w (FM_w (FM_w hM)))), Option.bind_some, wA_wA, wA_wA]
      have f63 : mI (wA (wA (wA σ 62 g3) 63 (up1 (mI (wA σ 62 g3) 63) 1 (N ls.length))) 63 (up1 (mI (wA (wA σ 62 g3) 63 (up1 (mI (wA σ 62 g3) 63) 1 (N ls.length))) 63) 2 (N L))) 63 = up1 (up1 (mI σ 63) 1 (N ls.length)) 2 (N L) := rfl
      rw [f63, wA_cm (by omega : (63 : Nat) ≠ 62), wA_wA]
      rfl
    · rw [hg3]; exact q3
    · rw [hg3]; rfl
    · rw [hg3]; rfl
