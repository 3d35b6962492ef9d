/-! THE PLAIN LAW, 85: the mixing of an hour -/
set_option maxRecDepth 100000
def aD (A : Nat → Int32) : Nat → Int32 := up1 A 9 (sd (A 9))
theorem aD_n {A : Nat → Int32} {j : Nat} (h : j ≠ 9) : aD A j = A j := if_neg h
theorem aD_PA {A : Nat → Int32} {p w : Nat} : PA (aD A) p w = PA A p w := aD_n (by omega)
theorem aD_R0 {A : Nat → Int32} : R0 A (aD A) := fun j hj => aD_n (by omega)
theorem aD_WF {A : Nat → Int32} {np nh : Nat} (h : WF A np nh) : WF (aD A) np nh := WF_oth h (by omega)
section
variable {b np nh : Nat} {A B : Nat → Int32} {σ τ : Mm} {v : Option Nat} {ls : List (Bool × Option Cn)}
theorem CS_draw {x y : Int32} (h : CS b np nh v ls A σ) (hy : rm_ (dr (sd (A 9))) y = some x) : ∃ τ, FX2_draw b y σ = some (x, τ) ∧ CS b np nh v ls (aD A) τ ∧ OH b σ τ := by
  obtain ⟨hb, hC, hK, hW, hr, hA, hv, hl⟩ := id h
  have ow : OW b σ (wA σ b (up1 (mI σ b) 7 (sd (A 9)))) := OW.rf.w (by omega)
  exact ⟨_, W_draw hW hr hy, h.go ow.oh (RW_fld (Or.inr ⟨rfl, rfl⟩) hA.1.2.1 hr) (aD_WF hA) aD_R0, ow.oh⟩
theorem HS_draw {x y : Int32} (h : HS np nh v ls A σ) (hy : rm_ (dr (sd (A 9))) y = some x) : ∃ τ, FX8_draw 62 y σ = some (x, τ) ∧ HS np nh v ls (aD A) τ ∧ OM σ τ := by
  obtain ⟨hM, hK, e, hA, hl, hb⟩ := id h
  subst e
  exact ⟨_, M_draw hM hy, h.go (aD_WF hA) aD_R0, OM.w63⟩
def mixM (J : Mm → Option (Int32 × Mm)) (σ : Mm) : Option (Int32 × Mm) :=
  ck 8 62 σ <|
  (FX8_draw 62 100 σ).bind fun (x58, σ59) =>
  (gR 8 1 (some 62) σ59).bind fun x60 =>
  (aI 100 x60 6 σ59).bind fun x61 =>
  jn (fun (z62 : Int32) (σ : Mm) => (
  ck 8 62 σ <|
  (FX8_holders 62 σ).bind fun (x64, σ65) =>
  (FX8_bits x64 σ65).bind fun (x66, σ67) =>
  jn J fun J194 =>
  (if z62 = 0 then (
  J194 σ67) else (
  (if x66 ≤ 1 then (
  J194 σ67) else (
  ck 8 62 σ67 <|
  (FX8_draw 62 x66 σ67).bind fun (x84, σ85) =>
  ck 8 62 σ85 <|
  (FX8_holder 62 x84 (-1) σ85).bind fun (x87, σ88) =>
  ck 8 62 σ88 <|
  (FX8_draw 62 (x66 - 1) σ88).bind fun (x90, σ91) =>
  ck 8 62 σ91 <|
  (FX8_holder 62 x90 x87 σ91).bind fun (x93, σ94) =>
  ck 8 62 σ94 <|
  (FX8_mixes 62 x87 x93 σ94).bind fun σ96 =>
  J194 σ96)))))) fun J145 =>
  (if x61 ≤ x58 then (
  J145 0 σ59) else (
  J145 1 σ59))
theorem M_holder {s i v' : Nat} {y : Int32} (h : HS np nh v ls A σ) (hv : v' < 1000) (hs : ∀ p, p < 10 → (decide (p < np) && !decide (PA A p 3 = M1) && !decide (N p = y)) = s.testBit p) (hi : kth s.testBit 10 0 v' = some i) : FX8_holder 62 (N v') y σ = some (N i, σ) := by
  obtain ⟨hM, hK, e, hA, hl, hb⟩ := id h
  have hn0 := hA.1.2.1
  unfold FX8_holder
  rw [l0_, M_holder_5 hM (by rw [e]; exact hA.1.1) hn0 np 0 v' fu _ _ (by omega) (by unfold fu; omega) (by omega), e]
  have e1 : kth (fun p => !decide (PA A p 3 = M1) && !decide (N p = y)) np 0 v' = some i := by
    rw [← hi, ← kt_congr (P := fun p => decide (p < np) && (!decide (PA A p 3 = M1) && !decide (N p = y))) np 0 v' (fun j _ hj => by rw [decide_eq_true (show j < np by omega), Bool.true_and])]
    have := kt_add (P := fun p => decide (p < np) && (!decide (PA A p 3 = M1) && !decide (N p = y))) (m := 10 - np) np 0 v' (fun j hj _ => by rw [decide_eq_false (show ¬ j < np by omega), Bool.false_and])
    rw [← this, show np + (10 - np) = 10 by omega]
    exact kt_congr 10 0 v' fun j _ hj => by rw [← hs j (by omega), Bool.and_assoc]
  rw [e1]
theorem mixing_ok (hA : WF A np nh) : ∃ B, WF B np nh ∧ R0 A B ∧ (∀ b v ls σ, CS b np nh v ls A σ → ∃ τ, FX1_mixing (some b) σ = some τ ∧ CS b np nh v ls B τ ∧ OH b σ τ) ∧ ∀ v ls σ J, HS np nh v ls A σ → ∃ τ, mixM J σ = J τ ∧ HS np nh v ls B τ ∧ OM σ τ := by
  have hn0 := hA.1.2.1
  obtain ⟨v1, h1, e1⟩ := dr_rm (sd (A 9)) (m := 100) (by omega) (by omega)
  have hA1 := aD_WF hA
  obtain ⟨s, hs0, es, tb⟩ := aHolders_bits (aD A) hn0
  have hs : s < 1024 := Nat.lt_of_lt_of_le hs0 (Nat.pow_le_pow_right (n := 2) (by omega) hn0)
  have hpc := pc_10 s hs
  -- the common head of both
  have headC : ∀ b v ls σ, CS b np nh v ls A σ → ∃ τ, CS b np nh v ls (aD A) τ ∧ OH b σ τ ∧ FX1_mixing (some b) σ = if A 6 ≤ N v1 then some τ else if 2 ≤ pc s then (FX2_draw b (N (pc s)) τ).bind fun x => (FX1_kth (N s) x.1 x.2).bind fun y => (rv 2 (some b) y.2).bind fun q39 => (FX2_draw q39 (N (pc s) - 1) y.2).bind fun z => (FX1_kth (N s &&& ((1 <<< (y.1 &&& 31)) ^^^ (-1))) z.1 z.2).bind fun w => (rv 2 (some b) w.2).bind fun q45 => (FX2_mixes q45 y.1 w.1 w.2).bind fun σ47 => some σ47 else some τ := by
    intro b v ls σ h
    obtain ⟨hb, hC, hK, hW, hr, -, hv, hl⟩ := id h
    obtain ⟨τ, t1, t2, t3⟩ := CS_draw h e1
    obtain ⟨-, hC', hK', hW', hr', -, hv', hl'⟩ := id t2
    refine ⟨τ, t2, t3, ?_⟩
    unfold FX1_mixing jn
    rw [fw_rv hW, Option.bind_some, l100_, t1, Option.bind_some]
    dsimp only
    rw [fw_gI hW', Option.bind_some, rw4 hr', aD_n (by omega)]
    by_cases c : A 6 ≤ N v1
    · rw [if_pos c, if_pos c, fw_rv hW', Option.bind_some, W_with hW' hr' hA1.1.1 hn0, Option.bind_some, es]
      dsimp only
      rw [J_bitCount (by omega), Option.bind_some, if_pos rfl]
    · rw [if_neg c, if_neg c, fw_rv hW', Option.bind_some, W_with hW' hr' hA1.1.1 hn0, Option.bind_some, es]
      dsimp only
      rw [J_bitCount (by omega), Option.bind_some, if_neg (by decide)]
      dsimp only
      by_cases c2 : 2 ≤ pc s
      · rw [if_pos c2, l2_, if_pos (by rw [N_le (by omega) (by omega)]; exact c2)]
        rw [fw_rv hW', Option.bind_some]
      · rw [if_neg c2, l2_, if_neg (by rw [N_le (by omega) (by omega)]; exact c2)]
  have headM : ∀ v ls σ J, HS np nh v ls A σ → ∃ τ, HS np nh v ls (aD A) τ ∧ OM σ τ ∧ mixM J σ = if A 6 ≤ N v1 then J τ else if 2 ≤ pc s then ck 8 62 τ ((FX8_draw 62 (N (pc s)) τ).bind fun x => ck 8 62 x.2 ((FX8_holder 62 x.1 (-1) x.2).bind fun y => ck 8 62 y.2 ((FX8_draw 62 (N (pc s) - 1) y.2).bind fun z => ck 8 62 z.2 ((FX8_holder 62 z.1 y.1 z.2).bind fun w => ck 8 62 w.2 ((FX8_mixes 62 y.1 w.1 w.2).bind fun σ96 => J σ96))))) else J τ := by
    intro v ls σ J h
    obtain ⟨hM, hK, e, -, hl, hb⟩ := id h
    obtain ⟨τ, t1, t2, t3⟩ := HS_draw h e1
    obtain ⟨hM', hK', e', -, hl', hb'⟩ := id t2
    refine ⟨τ, t2, t3, ?_⟩
    unfold mixM jn
    rw [fm_ck hM, l100_, t1, Option.bind_some]
    dsimp only
    rw [fm_gR1 hM', Option.bind_some, l6_, fm_rd63 hM' (by omega), Option.bind_some, e', aD_n (by omega)]
    by_cases c : A 6 ≤ N v1
    · rw [if_pos c, if_pos c, fm_ck hM', M_holders hM' (by rw [e']; exact hA1.1.1) hn0, Option.bind_some, e', es]
      dsimp only
      rw [M_bits (by omega), Option.bind_some, if_pos rfl]
    · rw [if_neg c, if_neg c, fm_ck hM', M_holders hM' (by rw [e']; exact hA1.1.1) hn0, Option.bind_some, e', es]
      dsimp only
      rw [M_bits (by omega), Option.bind_some, if_neg (by decide)]
      dsimp only
      by_cases c2 : 2 ≤ pc s
      · rw [if_pos c2, if_neg (by rw [l1_, N_le (by omega) (by omega)]; omega)]
      · rw [if_neg c2, if_pos (by rw [l1_, N_le (by omega) (by omega)]; omega)]
  by_cases c : A 6 ≤ N v1
  · refine ⟨aD A, hA1, aD_R0, fun b v ls σ h => ?_, fun v ls σ J h => ?_⟩
    · obtain ⟨τ, t1, t2, t3⟩ := headC b v ls σ h
      exact ⟨τ, by rw [t3, if_pos c], t1, t2⟩
    · obtain ⟨τ, t1, t2, t3⟩ := headM v ls σ J h
      exact ⟨τ, by rw [t3, if_pos c], t1, t2⟩
  · by_cases c2 : 2 ≤ pc s
    · obtain ⟨v2, h2, e2⟩ := dr_rm (sd (aD A 9)) (m := pc s) (by omega) (by omega)
      obtain ⟨i, hi, ki, -⟩ := C_kth (σ := ((fun _ => 0), (fun _ => 0), (fun _ _ => 0), (fun _ _ => none), 0)) hs h2
      obtain ⟨ti, -, -⟩ := kt_some _ _ _ _ ki
      have ti' := tb i
      rw [ti] at ti'
      have hip : i < np := by
        apply Classical.byContradiction; intro z
        rw [decide_eq_false z] at ti'; cases ti'
      have hA2 := aD_WF hA1
      obtain ⟨v3, h3, e3⟩ := dr_rm (sd (aD (aD A) 9)) (m := pc s - 1) (by omega) (by omega)
      have hs' : s &&& (1023 - 2 ^ i) < 1024 := Nat.lt_of_le_of_lt Nat.and_le_left hs
      have hp' := pc_rm s hs i hi ti
      obtain ⟨j, hj, kj, -⟩ := C_kth (σ := ((fun _ => 0), (fun _ => 0), (fun _ _ => 0), (fun _ _ => none), 0)) hs' (show v3 < pc (s &&& (1023 - 2 ^ i)) by omega)
      obtain ⟨tj, -, -⟩ := kt_some _ _ _ _ kj
      rw [tb_rm hi hj, tb j] at tj
      have hjp : j < np := by
        apply Classical.byContradiction; intro z
        rw [decide_eq_false z] at tj; cases tj
      have hji : j ≠ i := by
        intro z
        rw [decide_eq_true z, Bool.not_true, Bool.and_false] at tj; cases tj
      have hA3 := aD_WF hA2
      refine ⟨aMix (aD (aD (aD A))) i j, WF_mix hA3 hip hjp, ((aD_R0.tr aD_R0).tr aD_R0).tr (aMix_o (by omega) (by omega)), fun b v ls σ h => ?_, fun v ls σ J h => ?_⟩
      · obtain ⟨τ, t1, t2, t3⟩ := headC b v ls σ h
        obtain ⟨υ, u1, u2, u3⟩ := CS_draw t1 e2
        obtain ⟨φ, f1, f2, f3⟩ := CS_draw u2 e3
        obtain ⟨hb, hC, hK, hW, hr, -, hv, hl⟩ := id u2
        obtain ⟨-, hC', hK', hW', hr', -, hv', hl'⟩ := id f2
        obtain ⟨χ, x1, x2, x3⟩ := W_mixes (p := i) (q := j) (by omega) hn0 (by omega) (by omega) (fun z => hji z.symm) hW' hK' hr'
        obtain ⟨i', -, ki', kC⟩ := C_kth (σ := υ) hs h2
        obtain ⟨j', -, kj', kC'⟩ := C_kth (σ := φ) hs' (show v3 < pc (s &&& (1023 - 2 ^ i)) by omega)
        rw [ki] at ki'; cases ki'
        rw [kj] at kj'; cases kj'
        have en : N s &&& ((1 <<< (N i &&& 31)) ^^^ (-1)) = N (s &&& (1023 - 2 ^ i)) := nb_and hs hi
        refine ⟨χ, ?_, f2.go x3.oh x2 (WF_mix hA3 hip hjp) (aMix_o (by omega) (by omega)), ((t2.tr u3).tr f3).tr x3.oh⟩
        rw [t3, if_neg c, if_pos c2, u1, Option.bind_some]
        dsimp only
        rw [kC, Option.bind_some]
        dsimp only
        rw [fw_rv hW, Option.bind_some, show N (pc s) - 1 = N (pc s - 1) from N_sub (show 1 ≤ pc s by omega), f1, Option.bind_some]
        dsimp only
        rw [en, kC', Option.bind_some]
        dsimp only
        rw [fw_rv hW', Option.bind_some, x1, Option.bind_some]
      · obtain ⟨τ, t1, t2, t3⟩ := headM v ls σ J h
        obtain ⟨υ, u1, u2, u3⟩ := HS_draw t1 e2
        obtain ⟨φ, f1, f2, f3⟩ := HS_draw u2 e3
        obtain ⟨hM, -⟩ := id t1
        obtain ⟨hM', -⟩ := id u2
        obtain ⟨hM'', -, e'', -⟩ := id f2
        refine ⟨_, ?_, f2.go (WF_mix hA3 hip hjp) (aMix_o (by omega) (by omega)), ((t2.tr u3).tr f3).tr OM.w63⟩
        rw [t3, if_neg c, if_pos c2, fm_ck hM, u1, Option.bind_some]
        dsimp only
        rw [fm_ck hM', m1_, M_holder (s := s) u2 (by omega) (fun p hp => ?_) ki, Option.bind_some]
        · dsimp only
          rw [fm_ck hM', l1_, N_sub (by omega), f1, Option.bind_some]
          dsimp only
          rw [fm_ck hM'', M_holder (s := s &&& (1023 - 2 ^ i)) f2 (by omega) (fun p hp => ?_) kj, Option.bind_some]
          · dsimp only
            rw [fm_ck hM'', M_mixes hM'' (by omega) (by omega) (fun z => hji z.symm), Option.bind_some, e'']
          · rw [tb_rm hi hp, tb p, aD_PA, aD_PA]
            have : decide (N p = N i) = decide (p = i) := decide_eq_decide.mpr (by rw [N_inj (by omega) (by omega)])
            rw [this]
        · rw [tb p, aD_PA, decide_eq_false (show ¬ N p = M1 by rw [N_m1 (by omega)]; exact id)]
          cases decide (p < np) && !decide (PA (aD A) p 3 = M1) <;> rfl
    · refine ⟨aD A, hA1, aD_R0, fun b v ls σ h => ?_, fun v ls σ J h => ?_⟩
      · obtain ⟨τ, t1, t2, t3⟩ := headC b v ls σ h
        exact ⟨τ, by rw [t3, if_neg c, if_neg c2], t1, t2⟩
      · obtain ⟨τ, t1, t2, t3⟩ := headM v ls σ J h
        exact ⟨τ, by rw [t3, if_neg c, if_neg c2], t1, t2⟩
end
