/-! THE PLAIN LAW, 87: the thieving of an hour, both sides -/
set_option maxRecDepth 100000
section
variable {b np nh : Nat} {A B : Nat → Int32} {σ τ : Mm} {v : Option Nat} {ls : List (Bool × Option Cn)}
theorem M_rob_done : ∀ (k i n d : Nat) (σ : Mm) (K : Mm → Option Mm), HS np nh v ls A σ → i + k = nh → k < n → 1 ≤ d → d + k < 1000000 → FX8_robs_11 62 n (-(N d)) (N i) σ K = K σ := by
  intro k
  induction k with
  | zero =>
    intro i n d σ K h hi hn hd hd2
    obtain ⟨n, rfl⟩ : ∃ m, n = m + 1 := ⟨n - 1, by omega⟩
    obtain ⟨hM, hK, e, hA, hl, hb⟩ := id h
    have hk0 := hA.1.2.2.2.2.1
    rw [FX8_robs_11, fm_gR1 hM, Option.bind_some, l4_, fm_rd63 hM (by omega), Option.bind_some, e, hA.1.2.2.1, if_pos (by rw [N_le (by omega) (by omega)]; omega)]
  | succ k ih =>
    intro i n d σ K h hi hn hd hd2
    obtain ⟨n, rfl⟩ : ∃ m, n = m + 1 := ⟨n - 1, by omega⟩
    obtain ⟨hM, hK, e, hA, hl, hb⟩ := id h
    have hk0 := hA.1.2.2.2.2.1
    rw [FX8_robs_11, fm_gR1 hM, Option.bind_some, l4_, fm_rd63 hM (by omega), Option.bind_some, e, hA.1.2.2.1, if_neg (by rw [N_le (by omega) (by omega)]; omega), Option.bind_some, l272_, N_add, fm_rd63 hM (by omega), Option.bind_some, e, m1_, l1_, N_add]
    have c' : A (272 + i) = HA A i := rfl
    rw [c']
    by_cases c : HA A i = M1
    · rw [if_pos c]; exact ih _ _ _ _ _ h (by omega) (by omega) hd (by omega)
    · rw [if_neg c, if_neg (ng_0 hd (by omega)), ng_M1]; exact ih _ _ _ _ _ h (by omega) (by omega) (by omega) (by omega)
theorem M_rob : ∀ (k i n w : Nat) (σ : Mm) (K : Mm → Option Mm), HS np nh v ls A σ → i + k = nh → k < n → w < 1000 → ∃ τ, FX8_robs_11 62 n (N w) (N i) σ K = K τ ∧ HS np nh v ls (aRob A (kth (hq A) k i w)) τ ∧ OM σ τ := by
  intro k
  induction k with
  | zero =>
    intro i n w σ K h hi hn hw
    obtain ⟨n, rfl⟩ : ∃ m, n = m + 1 := ⟨n - 1, by omega⟩
    obtain ⟨hM, hK, e, hA, hl, hb⟩ := id h
    have hk0 := hA.1.2.2.2.2.1
    refine ⟨σ, ?_, h, OM.rf⟩
    rw [FX8_robs_11, fm_gR1 hM, Option.bind_some, l4_, fm_rd63 hM (by omega), Option.bind_some, e, hA.1.2.2.1, if_pos (by rw [N_le (by omega) (by omega)]; omega)]
  | succ k ih =>
    intro i n w σ K h hi hn hw
    obtain ⟨n, rfl⟩ : ∃ m, n = m + 1 := ⟨n - 1, by omega⟩
    obtain ⟨hM, hK, e0, hA, hl, hb⟩ := id h
    have hk0 := hA.1.2.2.2.2.1
    have hn0 := hA.1.2.1
    rw [FX8_robs_11, fm_gR1 hM, Option.bind_some, l4_, fm_rd63 hM (by omega), Option.bind_some, e0, hA.1.2.2.1, if_neg (by rw [N_le (by omega) (by omega)]; omega), Option.bind_some, l272_, N_add, fm_rd63 hM (by omega), Option.bind_some, e0, m1_, l1_, N_add, kth]
    have c' : A (272 + i) = HA A i := rfl
    rw [c']
    by_cases c : HA A i = M1
    · have hqi : hq A i = false := by unfold hq; rw [decide_eq_true c]; rfl
      rw [if_pos c, hqi]
      exact ih _ _ _ _ _ h (by omega) (by omega) hw
    · have hqi : hq A i = true := by unfold hq; rw [decide_eq_false c]; rfl
      obtain ⟨f, m, hf, hm, e, em⟩ := face_N hA (show i < nh by omega) c
      rw [if_neg c, hqi, if_pos rfl]
      by_cases cw : w = 0
      · subst cw
        obtain ⟨hB, hB0⟩ := aRob_ok hA (show i < nh by omega) hqi
        rw [if_pos (show N 0 = 0 from rfl), if_pos rfl]
        have hE : aRob A (some i) = uP A f 0 (N m &&& (N m - N 1)) := by
          show uP A (ix (HA A i)) 0 (PA A (ix (HA A i)) 0 &&& (PA A (ix (HA A i)) 0 - N 1)) = _
          rw [e, ix_N (by omega), em]
        have h' := h.go hB hB0
        refine ⟨_, ?_, h', OM.w63⟩
        rw [hE] at h' ⊢
        rw [e, fm_ck hM, l0_, M_of hM (by omega) (by omega), Option.bind_some, e0, em]
        dsimp only
        rw [fm_ck hM, M_of hM (by omega) (by omega), Option.bind_some, e0, em]
        dsimp only
        rw [fm_ck hM, M_has2 hM (by omega) (by omega), Option.bind_some, e0]
        rw [show N 0 + M1 = -(N 1) by decide]
        exact M_rob_done k (i + 1) n 1 _ K h' (by omega) (by omega) (by omega) (by omega)
      · obtain ⟨w, rfl⟩ : ∃ z, w = z + 1 := ⟨w - 1, by omega⟩
        have ev : ¬ N (w + 1) = 0 := fun z => by have : w + 1 = 0 := (N_inj (a := w + 1) (b := 0) (by omega) (by omega)).mp z; omega
        rw [if_neg ev, N_dec, if_neg cw]
        exact ih _ _ _ _ _ h (by omega) (by omega) (by omega)
def robM (J : Mm → Option (Int32 × Mm)) (σ : Mm) : Option (Int32 × Mm) :=
  ck 8 62 σ <|
  (FX8_draw 62 100 σ).bind fun (x69, σ70) =>
  (gR 8 1 (some 62) σ70).bind fun x71 =>
  (aI 100 x71 7 σ70).bind fun x72 =>
  jn J fun J221 =>
  (if x72 ≤ x69 then (
  J221 σ70) else (
  ck 8 62 σ70 <|
  (FX8_hung 62 σ70).bind fun (x77, σ78) =>
  (if x77 ≤ 0 then (
  J221 σ78) else (
  ck 8 62 σ78 <|
  (FX8_robs 62 σ78).bind fun σ80 =>
  J221 σ80))))
theorem thieving_ok (hA : WF A np nh) : ∃ B, WF B np nh ∧ R0 A B ∧ (∀ b v ls σ, CS b np nh v ls A σ → ∃ τ, FX1_thieving (some b) σ = some τ ∧ CS b np nh v ls B τ ∧ OH b σ τ) ∧ ∀ v ls σ J, HS np nh v ls A σ → ∃ τ, robM J σ = J τ ∧ HS np nh v ls B τ ∧ OM σ τ := by
  have hn0 := hA.1.2.1
  have hk := hA.1.2.2.1
  have hk0 := hA.1.2.2.2.2.1
  obtain ⟨v1, h1, e1⟩ := dr_rm (sd (A 9)) (m := 100) (by omega) (by omega)
  have hA1 := aD_WF hA
  have hk1 := hA1.1.2.2.1
  obtain ⟨s, hs, es⟩ := aHung_N (aD A) nh
  by_cases c : A 7 ≤ N v1 ∨ s = 0
  · refine ⟨aD A, hA1, aD_R0, fun b v ls σ h => ?_, fun v ls σ J h => ?_⟩
    · obtain ⟨hb, hC, hK, hW, hr, -, hv, hl⟩ := id h
      obtain ⟨τ, t1, t2, t3⟩ := CS_draw h e1
      obtain ⟨-, hC', hK', hW', hr', -, hv', hl'⟩ := id t2
      refine ⟨τ, ?_, t2, t3⟩
      unfold FX1_thieving jn
      rw [fw_rv hW, Option.bind_some, l100_, t1, Option.bind_some]
      dsimp only
      rw [fw_gI hW', Option.bind_some, rw5 hr', aD_n (by omega)]
      by_cases c1 : A 7 ≤ N v1
      · rw [if_pos c1, fw_rv hW', Option.bind_some, W_hung hW' hr' hk1 hk0, Option.bind_some, es]
        dsimp only
        rw [if_pos (show (0 : Int32) = 0 from rfl)]
      · have c2 : s = 0 := c.resolve_left c1
        rw [if_neg c1, fw_rv hW', Option.bind_some, W_hung hW' hr' hk1 hk0, Option.bind_some, es]
        dsimp only
        rw [if_neg (show ¬ (1 : Int32) = 0 by decide), c2, if_pos (show N 0 = 0 from rfl)]
    · obtain ⟨hM, hK, e, -, hl, hb⟩ := id h
      obtain ⟨τ, t1, t2, t3⟩ := HS_draw h e1
      obtain ⟨hM', hK', e', -, hl', hb'⟩ := id t2
      refine ⟨τ, ?_, t2, t3⟩
      unfold robM jn
      rw [fm_ck hM, l100_, t1, Option.bind_some]
      dsimp only
      rw [fm_gR1 hM', Option.bind_some, l7_, fm_rd63 hM' (by omega), Option.bind_some, e', aD_n (by omega)]
      by_cases c1 : A 7 ≤ N v1
      · rw [if_pos c1]
      · have c2 : s = 0 := c.resolve_left c1
        rw [if_neg c1, fm_ck hM', M_hung hM' (by rw [e']; exact hk1) hk0, Option.bind_some, e', es, c2]
        dsimp only
        rw [if_pos (show N 0 ≤ 0 by decide)]
  · have c1 : ¬ A 7 ≤ N v1 := fun z => c (Or.inl z)
    have c2 : ¬ s = 0 := fun z => c (Or.inr z)
    obtain ⟨v2, h2, e2⟩ := dr_rm (sd (aD A 9)) (m := s) (by omega) (by omega)
    have hA2 := aD_WF hA1
    have hR : WF (aRob (aD (aD A)) (kth (hq (aD (aD A))) nh 0 v2)) np nh ∧ R0 (aD (aD A)) (aRob (aD (aD A)) (kth (hq (aD (aD A))) nh 0 v2)) := by
      cases e : kth (hq (aD (aD A))) nh 0 v2 with
      | none => exact ⟨hA2, fun _ _ => rfl⟩
      | some h =>
        obtain ⟨k1, k2, k3⟩ := kt_some _ _ _ _ e
        exact aRob_ok hA2 (by omega) k1
    refine ⟨_, hR.1, (aD_R0.tr aD_R0).tr hR.2, fun b v ls σ h => ?_, fun v ls σ J h => ?_⟩
    · obtain ⟨hb, hC, hK, hW, hr, -, hv, hl⟩ := id h
      obtain ⟨τ, t1, t2, t3⟩ := CS_draw h e1
      obtain ⟨-, hC', hK', hW', hr', -, hv', hl'⟩ := id t2
      obtain ⟨υ, u1, u2, u3⟩ := CS_draw t2 e2
      obtain ⟨φ, f1, f2, f3⟩ := C_rob nh 0 fu v2 υ (fun σ => some σ) u2 (by omega) (by unfold fu; omega) (by omega)
      refine ⟨φ, ?_, f2, (t3.tr u3).tr f3⟩
      unfold FX1_thieving jn
      rw [fw_rv hW, Option.bind_some, l100_, t1, Option.bind_some]
      dsimp only
      rw [fw_gI hW', Option.bind_some, rw5 hr', aD_n (by omega), if_neg c1, fw_rv hW', Option.bind_some, W_hung hW' hr' hk1 hk0, Option.bind_some, es]
      dsimp only
      have es0 : ¬ N s = 0 := fun z => c2 ((N_inj (a := s) (b := 0) (by omega) (by omega)).mp z)
      rw [if_neg (show ¬ (1 : Int32) = 0 by decide), if_neg es0, fw_rv hW', Option.bind_some, u1, Option.bind_some]
      exact f1
    · obtain ⟨hM, hK, e, -, hl, hb⟩ := id h
      obtain ⟨τ, t1, t2, t3⟩ := HS_draw h e1
      obtain ⟨hM', hK', e', -, hl', hb'⟩ := id t2
      obtain ⟨υ, u1, u2, u3⟩ := HS_draw t2 e2
      obtain ⟨φ, f1, f2, f3⟩ := M_rob nh 0 fu v2 υ (fun σ => some σ) u2 (by omega) (by unfold fu; omega) (by omega)
      refine ⟨φ, ?_, f2, (t3.tr u3).tr f3⟩
      unfold robM jn
      rw [fm_ck hM, l100_, t1, Option.bind_some]
      dsimp only
      rw [fm_gR1 hM', Option.bind_some, l7_, fm_rd63 hM' (by omega), Option.bind_some, e', aD_n (by omega)]
      rw [if_neg c1, fm_ck hM', M_hung hM' (by rw [e']; exact hk1) hk0, Option.bind_some, e', es]
      dsimp only
      rw [if_neg (by rw [l0_, N_le (by omega) (by omega)]; omega), fm_ck hM']
      unfold FX8_robs
      rw [fm_ck hM', M_hung hM' (by rw [e']; exact hk1) hk0, Option.bind_some, e', es]
      dsimp only
      rw [fm_ck hM', u1, Option.bind_some]
      dsimp only
      rw [l0_, f1, Option.bind_some]
end
