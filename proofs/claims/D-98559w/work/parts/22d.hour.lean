/-! THE PLAIN LAW, 83: the model's persons in an hour -/
set_option maxRecDepth 100000
/-- the model's side of an hour -/
def HS (np nh : Nat) (v : Option Nat) (ls : List (Bool × Option Cn)) (A : Nat → Int32) (σ : Mm) : Prop := FM σ ∧ KS σ ∧ mI σ 63 = A ∧ WF A np nh ∧ LWs v A ls σ ∧ B62 σ
def OM (σ τ : Mm) : Prop := mS τ = mS σ ∧ mL τ = mL σ ∧ mR τ = mR σ ∧ mN τ = mN σ ∧ (∀ q, q ≠ 62 → q ≠ 63 → q ≠ 68 → mI τ q = mI σ q) ∧ ∀ k, k = 0 ∨ k = 3 ∨ k = 6 ∨ k = 8 ∨ k = 12 → mI τ 62 k = mI σ 62 k
section
variable {np nh p : Nat} {A B : Nat → Int32} {σ τ : Mm} {v : Option Nat} {ls : List (Bool × Option Cn)}
theorem OM.rf : OM σ σ := ⟨rfl, rfl, rfl, rfl, fun _ _ _ _ => rfl, fun _ _ => rfl⟩
theorem OM.tr {υ : Mm} (h : OM σ τ) (g : OM τ υ) : OM σ υ := ⟨g.1.trans h.1, g.2.1.trans h.2.1, g.2.2.1.trans h.2.2.1, g.2.2.2.1.trans h.2.2.2.1, fun q h1 h2 h3 => (g.2.2.2.2.1 q h1 h2 h3).trans (h.2.2.2.2.1 q h1 h2 h3), fun k hk => (g.2.2.2.2.2 k hk).trans (h.2.2.2.2.2 k hk)⟩
theorem OM.w63 {f : Nat → Int32} : OM σ (wA σ 63 f) := ⟨rfl, rfl, rfl, rfl, fun q _ h2 _ => if_neg h2, fun _ _ => rfl⟩
theorem HS.go (h : HS np nh v ls A σ) (hB : WF B np nh) (h0 : R0 A B) : HS np nh v ls B (wA σ 63 B) := by
  have hBG : BIG = 1000000 := rfl
  obtain ⟨hM, hK, -, -, hl, hb⟩ := h
  exact ⟨hM, KS_wA (by omega) hK, rfl, hB, LWs.at (σ := σ) (τ := wA σ 63 B) h0 (fun q hq => ⟨rfl, rfl, if_neg (show ¬ q = 63 by omega), rfl⟩) hl, hb⟩
theorem H_asks (h : HS np nh v ls A σ) (hp : p < np) : ∃ τ, FX8_asks 62 (N p) σ = some τ ∧ HS np nh v ls A τ ∧ OM σ τ ∧ mI τ 62 17 = bN (lnE (aE A nh p) true ls) ∧ mI τ 62 18 = bN (lnE (aE A nh p) false ls) := by
  have hBG : BIG = 1000000 := rfl
  obtain ⟨hM, hK, e, hA, hl, hb⟩ := h
  subst e
  obtain ⟨F, g, h1, h2, h3, h4, h5, h6⟩ := M_asks hM hK hA hp hl hb
  refine ⟨_, h1, ⟨FM_am hM, KS_wA (by omega) (KS_wA (by omega) hK), am_q (by omega) (by omega), hA, LWs.at (σ := σ) (τ := am σ F g) (fun _ _ => rfl) (fun q hq => ⟨rfl, rfl, am_q (by omega) (by omega), rfl⟩) hl, h5, h6, ⟨_, h2⟩, ⟨_, h3⟩⟩, ⟨rfl, rfl, rfl, rfl, fun q h1 _ h3 => am_q h1 h3, h4⟩, h2, h3⟩
theorem M_hour_4 : ∀ (k i n c : Nat) (A : Nat → Int32) (σ : Mm) (K : Int32 → Mm → Option (Int32 × Mm)), i + k = np → k < n → c + k < 1000000 → HS np nh v ls A σ → ∃ τ, FX8_hour_4 62 n (N c) (N i) σ K = K (N (c + aNum nh ls k i A)) τ ∧ HS np nh v ls (aAll nh ls k i A) τ ∧ OM σ τ := by
  intro k
  induction k with
  | zero =>
    intro i n c A σ K hi hn hc h
    obtain ⟨n, rfl⟩ : ∃ m, n = m + 1 := ⟨n - 1, by omega⟩
    obtain ⟨hM, hK, e, hA, hl, hb⟩ := id h
    have hn0 := hA.1.2.1
    refine ⟨σ, ?_, h, OM.rf⟩
    rw [FX8_hour_4, fm_gR1 hM, Option.bind_some, l3_, fm_rd63 hM (by omega), Option.bind_some, e, hA.1.1, if_pos (by rw [N_le (by omega) (by omega)]; omega)]
    rfl
  | succ k ih =>
    intro i n c A σ K hi hn hc h
    obtain ⟨n, rfl⟩ : ∃ m, n = m + 1 := ⟨n - 1, by omega⟩
    obtain ⟨hM, hK, e, hA, hl, hb⟩ := id h
    have hn0 := hA.1.2.1
    have hk := hA.1.2.2.1
    have hk0 := hA.1.2.2.2.2.1
    have hp : i < np := by omega
    obtain ⟨h2, h3, -⟩ := hA.2.1 i hp
    obtain ⟨hS, hS0⟩ := aStep_ok (ls := ls) hA hp
    have e0 : aNum nh ls (k + 1) i A = (if aDid A nh ls i then 1 else 0) + aNum nh ls k (i + 1) (aStep A nh ls i) := rfl
    have ck8 : ∀ {τ : Mm} {β : Type} {o : Option β}, FM τ → ck 8 62 τ o = o := fun h => fm_ck h
    -- nothing is done
    have no : ∀ {τ : Mm}, HS np nh v ls A τ → OM σ τ → aDid A nh ls i = false → ∃ υ, FX8_hour_4 62 n (N c) (N i + N 1) τ K = K (N (c + aNum nh ls (k + 1) i A)) υ ∧ HS np nh v ls (aAll nh ls (k + 1) i A) υ ∧ OM σ υ := fun {τ} hs ho hd => by
      have z : aStep A nh ls i = A := by unfold aStep; rw [hd]; rfl
      obtain ⟨υ, u1, u2, u3⟩ := ih (i + 1) n c A τ K (by omega) (by omega) (by omega) hs
      refine ⟨υ, ?_, ?_, ho.tr u3⟩
      · rw [N_add, u1, e0, hd, z]
        congr 2
        exact (Nat.zero_add _).symm ▸ rfl
      · show HS np nh v ls (aAll nh ls k (i + 1) (aStep A nh ls i)) υ
        rw [z]; exact u2
    -- something is done
    have yes : ∀ {τ : Mm}, HS np nh v ls A τ → OM σ τ → aDid A nh ls i = true → ∃ υ, FX8_hour_4 62 n (N c + N 1) (N i + N 1) (wA τ 63 (aStep A nh ls i)) K = K (N (c + aNum nh ls (k + 1) i A)) υ ∧ HS np nh v ls (aAll nh ls (k + 1) i A) υ ∧ OM σ υ := fun {τ} hs ho hd => by
      obtain ⟨υ, u1, u2, u3⟩ := ih (i + 1) n (c + 1) _ _ K (by omega) (by omega) (by omega) (hs.go hS hS0)
      refine ⟨υ, ?_, u2, (ho.tr OM.w63).tr u3⟩
      rw [N_add, N_add, u1, e0, hd, ← Nat.add_assoc]
      rfl
    rw [FX8_hour_4, fm_gR1 hM, Option.bind_some, l3_, fm_rd63 hM (by omega), Option.bind_some, e, hA.1.1, if_neg (by rw [N_le (by omega) (by omega)]; omega), ck8 hM, l2_, M_of hM (by omega) (by omega), Option.bind_some, e, m1_]
    unfold jn
    dsimp only
    by_cases c2 : PA A i 2 = M1
    · rw [if_pos c2, ck8 hM, M_of hM (by omega) (by omega), Option.bind_some, e]
      rcases h3 with c3 | ⟨t, ht, c3⟩
      · rw [if_pos c3, if_pos rfl, l1_]
        exact no h OM.rf (by unfold aDid; rw [if_pos c2, if_pos c3])
      · have c3' : ¬ PA A i 3 = M1 := by rw [c3, N_m1 (by omega)]; exact id
        have hd : aDid A nh ls i = lnE (aE A nh i) false ls := by unfold aDid; rw [if_pos c2, if_neg c3']
        obtain ⟨τ, t1, t2, t3, t4, t5⟩ := H_asks h hp
        have hM' := t2.1
        rw [if_neg c3', if_neg (show ¬ (0 : Int32) = 1 by decide), ck8 hM, t1, Option.bind_some, if_pos (show (0 : Int32) = 0 from rfl), if_pos (show (0 : Int32) = 0 from rfl), fm_gI hM', Option.bind_some, t5, ← hd, l1_]
        have hS' : aDid A nh ls i = true → aStep A nh ls i = aGets A i t := fun hdd => by
          unfold aStep
          rw [hdd, if_pos rfl, if_pos c2, c3, ix_N (by omega)]
        cases hdd : aDid A nh ls i with
        | false =>
          rw [if_pos (show bN false = (0 : Int32) from rfl)]
          exact no t2 t3 hdd
        | true =>
          rw [if_neg (show ¬ bN true = (0 : Int32) by decide), ck8 hM', M_gets (t := t) hM' (by omega) (by omega) (by rw [t2.2.2.1]; exact c3), Option.bind_some, t2.2.2.1]
          dsimp only
          rw [← hS' hdd]
          exact yes t2 t3 hdd
    · rw [if_neg c2, ck8 hM, M_of hM (by omega) (by omega), Option.bind_some, e]
      by_cases c3 : PA A i 3 = M1
      · obtain ⟨τ, t1, t2, t3, t4, t5⟩ := H_asks h hp
        have hM' := t2.1
        rw [if_pos c3, if_neg (show ¬ (1 : Int32) = 0 by decide), ck8 hM, t1, Option.bind_some, if_neg (show ¬ (1 : Int32) = 0 by decide), if_neg (show ¬ (1 : Int32) = 0 by decide), fm_gI hM', Option.bind_some, t4, l1_]
        have sk : bN (lnE (aE A nh i) true ls) = bN false ∨ aHookOf A nh M1 = none → aDid A nh ls i = false := fun hx => by
          unfold aDid
          rw [if_neg c2, if_pos c3]
          rcases hx with hx | hx
          · have : lnE (aE A nh i) true ls = false := by
              cases e2 : lnE (aE A nh i) true ls with
              | false => rfl
              | true => rw [e2] at hx; exact absurd hx (by decide)
            rw [this]; split <;> rfl
          · rw [if_pos hx]
        cases hl2 : lnE (aE A nh i) true ls with
        | false =>
          rw [if_pos (show bN false = (0 : Int32) from rfl)]
          exact no t2 t3 (sk (Or.inl (by rw [hl2])))
        | true =>
          rw [if_neg (show ¬ bN true = (0 : Int32) by decide), ck8 hM', M_free hM' (by rw [t2.2.2.1]; exact hk) hk0, Option.bind_some, t2.2.2.1]
          dsimp only
          cases ef : aHookOf A nh M1 with
          | none =>
            rw [if_pos (show oN none = M1 from rfl)]
            exact no t2 t3 (sk (Or.inr ef))
          | some t =>
            obtain ⟨ht, e2⟩ := hookOf_ok ef
            have hdd : aDid A nh ls i = true := by
              unfold aDid
              rw [if_neg c2, if_pos c3, ef, if_neg (by intro z; cases z)]
              exact hl2
            have hS' : aStep A nh ls i = aHands A i t := by
              unfold aStep
              rw [hdd, if_pos rfl, if_neg c2, ef]
              rfl
            rw [if_neg (show ¬ oN (some t) = M1 from by show ¬ N t = M1; rw [N_m1 (by omega)]; exact id), ck8 hM', M_free hM' (by rw [t2.2.2.1]; exact hk) hk0, Option.bind_some, t2.2.2.1]
            dsimp only
            rw [ef, ck8 hM']
            show ∃ υ, ((FX8_handsIn 62 (N i) (N t) τ).bind _) = _ ∧ _
            rw [M_hands hM' (by omega) (by omega), Option.bind_some, t2.2.2.1]
            dsimp only
            rw [← hS']
            exact yes t2 t3 hdd
      · rw [if_neg c3, if_pos rfl, l1_]
        exact no h OM.rf (by unfold aDid; rw [if_neg c2, if_neg c3])
end
