/-! THE PLAIN LAW, 80: what the law says of a person -/
set_option maxRecDepth 100000
def aF (A : Nat → Int32) (p : Nat) : Int32 := if PA A p 2 = M1 then (if PA A p 3 = M1 then M1 else HA A (ix (PA A p 3))) else PA A p 2
def aMk (A : Nat → Int32) (p : Nat) : Int32 := if aF A p = M1 then N 0 else N (pc (ix (PA A (ix (aF A p)) 0)))
def aE (A : Nat → Int32) (nh p : Nat) : Nat → Int32 := fun j => if j = 0 then N p else if j = 1 then A 5 else if j = 2 then (if PA A p 3 = M1 then N 99 else PA A p 3) else if j = 3 then aMk A p else if j = 4 then aHung A nh else if j = 5 then A 4 - aHung A nh else if j = 6 then (if aF A p = N p then N 1 else N 0) else if j = 7 then (if PA A p 4 = M1 then N 0 else N 1) else N 0
/-- the law's lines at v are ls -/
def LWs (v : Option Nat) (A : Nat → Int32) (ls : List (Bool × Option Cn)) (σ : Mm) : Prop := (v = none ∧ A 1 = M1 ∧ ls = []) ∨ ∃ q lo hi T e k, v = some q ∧ TX T e ∧ lawP T e = .ok (ls, k) ∧ A 1 = N ls.length ∧ ls.length < 100000 ∧ A 2 = N e ∧ (∀ k, k < e → A (584 + k) = N (T k)) ∧ LawG lo hi q ls σ ∧ 76 ≤ lo
theorem LW.lws {v : Option Nat} {A : Nat → Int32} {σ : Mm} (h : LW v A σ) : ∃ ls, LWs v A ls σ := by
  rcases h with ⟨h1, h2⟩ | ⟨q, lo, hi, T, e, ls, k, h1, h2, h3, h4, h5, h6, h7, h8, h9, _⟩
  · exact ⟨[], Or.inl ⟨h1, h2, rfl⟩⟩
  · exact ⟨ls, Or.inr ⟨q, lo, hi, T, e, k, h1, h2, h3, h4, h5, h6, h7, h8, h9⟩⟩
theorem LWs.at {v : Option Nat} {A B : Nat → Int32} {ls : List (Bool × Option Cn)} {σ τ : Mm} (hr : ∀ j, j = 1 ∨ j = 2 ∨ 584 ≤ j → B j = A j) (h : ∀ p, 76 ≤ p → mS τ p = mS σ p ∧ mL τ p = mL σ p ∧ mI τ p = mI σ p ∧ mR τ p = mR σ p) (hl : LWs v A ls σ) : LWs v B ls τ := by
  rcases hl with ⟨h1, h2, h3⟩ | ⟨q, lo, hi, T, e, k, h1, h2, h3, h4, h5, h6, h7, h8, h9⟩
  · exact Or.inl ⟨h1, by rw [hr 1 (by omega)]; exact h2, h3⟩
  · exact Or.inr ⟨q, lo, hi, T, e, k, h1, h2, h3, by rw [hr 1 (by omega)]; exact h4, h5, by rw [hr 2 (by omega)]; exact h6, fun k hk => by rw [hr (584 + k) (by omega)]; exact h7 k hk, h8.ag fun p h1 _ => h p (by omega), h9⟩
section
variable {b np nh nq p : Nat} {A : Nat → Int32} {σ : Mm} {v : Option Nat} {ls : List (Bool × Option Cn)}
theorem W_faceOf (hW : FW b σ) (hr : RW b A nq σ) (hA : WF A np nh) (hp : p < np) : FX2_faceOf b (N p) σ = some (aF A p, σ) := by
  have hn0 := hA.1.2.1
  have hk0 := hA.1.2.2.2.2.1
  obtain ⟨h2, h3, -⟩ := hA.2.1 p hp
  unfold FX2_faceOf aF
  rw [fw_gR10 hW, Option.bind_some, fw_rd3 hW (by omega), Option.bind_some, rwW hr (by omega), m1_]
  by_cases c2 : PA A p 2 = M1
  · rw [if_pos c2, if_pos c2, fw_gR11 hW, Option.bind_some, fw_rd4 hW (by omega), Option.bind_some, rwT hr (by omega)]
    rcases h3 with c3 | ⟨t, ht, c3⟩
    · rw [if_pos c3, if_pos c3]
    · have c3' : ¬ PA A p 3 = M1 := by rw [c3, N_m1 (by omega)]; exact id
      rw [if_neg c3', if_neg c3', fw_gR17 hW, Option.bind_some, Option.bind_some, fw_rd4 hW (by omega), Option.bind_some, rwT hr (by omega), c3, fw_rd10 hW (by omega), Option.bind_some, rwH hr (by omega), ix_N (by omega)]
  · rw [if_neg c2, if_neg c2, Option.bind_some, fw_rd3 hW (by omega), Option.bind_some, rwW hr (by omega)]
/-- a face: none, or of a person -/
theorem aF_ok (hA : WF A np nh) (hp : p < np) : okF np (aF A p) := by
  obtain ⟨h2, h3, -⟩ := hA.2.1 p hp
  unfold aF
  by_cases c2 : PA A p 2 = M1
  · rw [if_pos c2]
    rcases h3 with c3 | ⟨t, ht, c3⟩
    · rw [if_pos c3]; exact Or.inl rfl
    · have hk0 := hA.1.2.2.2.2.1
      rw [if_neg (by rw [c3, N_m1 (by omega)]; exact id), c3, ix_N (by omega)]
      exact hA.2.2.1 t ht
  · rw [if_neg c2]; exact h2
theorem C_says {hand : Bool} {x3 : Int32} (hx : x3 = bN hand) (hb : b + 12 ≤ 39 ∨ 40 ≤ b) (hC : FC σ) (hK : KS σ) (hW : FW b σ) (hr : RW b A nq σ) (hA : WF A np nh) (hp : p < np) (hv : mR σ b 19 = v) (hl : LWs v A ls σ) : ∃ f, FX1_says 0 (some b) (N p) x3 σ = some (bN (lnE (aE A nh p) hand ls), wA σ 39 f) := by
  have hB : BIG = 1000000 := rfl
  have hn0 := hA.1.2.1
  have hk0 := hA.1.2.2.2.2.1
  obtain ⟨h2, h3, h4, ⟨m0, hm0, e0⟩, -⟩ := hA.2.1 p hp
  rcases hl with ⟨l1, l2, l3⟩ | ⟨q, lo, hi, T, e, k, l1, l2, l3, l4, l5, l6, l7, l8, l9⟩
  · refine ⟨mI σ 39, ?_⟩
    rw [wA_self]
    unfold FX1_says
    rw [fw_gL hW, Option.bind_some, hv, l1, l3]
    dsimp only
    rw [l0_, rZ_0]
    rfl
  · have rb : ∀ f, RW b A nq (wA σ 39 f) := fun f => RW_eq (fun k hk => if_neg (by omega)) hr
    have wb : ∀ f, FW b (wA σ 39 f) := fun f => FW_w hW
    have cb' : ∀ f, FC (wA σ 39 f) := fun f => FC_w hC
    have g5 : ∀ f, gR 1 5 (some 0) (wA σ 39 f) = some (some 39) := fun f => fc_gR0_5 (cb' f)
    have pI4 : ∀ f k x, pI 4 k (some 39) x (wA σ 39 f) = some (wA σ 39 (up1 f k x)) := fun f k x => by
      rw [fc_pI39 (cb' f), wA_wA]; rfl
    have s39 : mS σ 39 = 4 := hC.2.2.2.2.2.2.1
    have pZ4 : ∀ f k x, x = 0 ∨ x = 1 → pZ 4 k (some 39) x (wA σ 39 f) = some (wA σ 39 (up1 f k x)) := fun f k x hx => by
      rw [pZ_s (show mS (wA σ 39 f) 39 = 4 from s39) hx, wA_wA]; rfl
    have e4 : ∀ f', mI (wA σ 39 (up1 f' 4 (aHung A nh))) 39 4 = aHung A nh := fun _ => rfl
    -- the last step
    have fin : ∀ f, (∀ j, j < 8 → f j = aE A nh p j) → (gR 2 19 (some b) (wA σ 39 f)).bind (fun x60 => (gR 1 5 (some 0) (wA σ 39 f)).bind fun x61 => (rv 10 x60 (wA σ 39 f)).bind fun q62 => (FX10_tells q62 x3 x61 (wA σ 39 f)).bind fun x => rZ x.1 x.2) = some (bN (lnE (aE A nh p) hand ls), wA σ 39 f) := fun f hf => by
      have hce : CE (wA σ 39 f) = aE A nh p := by
        funext j
        unfold CE
        by_cases hj : j < 8
        · rw [if_pos hj]; exact hf j hj
        · rw [if_neg hj]; unfold aE; rw [if_neg (by omega), if_neg (by omega), if_neg (by omega), if_neg (by omega), if_neg (by omega), if_neg (by omega), if_neg (by omega), if_neg (by omega)]
      have b6 : ∃ x, aE A nh p 6 = bN x := by
        show ∃ x, (if aF A p = N p then N 1 else N 0) = bN x
        by_cases h : aF A p = N p
        · exact ⟨true, by rw [if_pos h]; rfl⟩
        · exact ⟨false, by rw [if_neg h]; rfl⟩
      have b7 : ∃ x, aE A nh p 7 = bN x := by
        show ∃ x, (if PA A p 4 = M1 then N 0 else N 1) = bN x
        by_cases h : PA A p 4 = M1
        · exact ⟨false, by rw [if_pos h]; rfl⟩
        · exact ⟨true, by rw [if_neg h]; rfl⟩
      have ev : EV (wA σ 39 f) := ⟨cb' f, KS_wA (by omega) hK, by obtain ⟨x, hx⟩ := b6; exact ⟨x, (hf 6 (by omega)).trans hx⟩, by obtain ⟨x, hx⟩ := b7; exact ⟨x, (hf 7 (by omega)).trans hx⟩⟩
      have tl := (l8.2.2 (wA σ 39 f) fun p h1 _ => ⟨rfl, rfl, if_neg (by omega), rfl⟩).2 ev hand
      rw [fw_gL (wb f), Option.bind_some, g5, Option.bind_some]
      show ((rv 10 (mR σ b 19) (wA σ 39 f)).bind _) = _
      rw [hv, l1, rv_s (show mS (wA σ 39 f) q = 10 from l8.1), Option.bind_some, hx, tl, Option.bind_some, hce]
      exact rZ_b _ _
    obtain ⟨f0, hf0⟩ : ∃ f0, f0 = up1 (up1 (mI σ 39) 0 (N p)) 1 (A 5) := ⟨_, rfl⟩
    have z2 : (if PA A p 3 = M1 then N 99 else PA A p 3) = aE A nh p 2 := rfl
    have z3 : aMk A p = aE A nh p 3 := rfl
    have z6 : (if aF A p = N p then N 1 else N 0) = aE A nh p 6 := rfl
    have z7 : (if PA A p 4 = M1 then N 0 else N 1) = aE A nh p 7 := rfl
    obtain ⟨F, hF⟩ : ∃ F, F = up1 (up1 (up1 (up1 (up1 (up1 f0 2 (aE A nh p 2)) 3 (aE A nh p 3)) 4 (aHung A nh)) 5 (A 4 - aHung A nh)) 6 (aE A nh p 6)) 7 (aE A nh p 7) := ⟨_, rfl⟩
    refine ⟨F, ?_⟩
    rw [← fin F (fun j hj => by
      have h8 : j = 0 ∨ j = 1 ∨ j = 2 ∨ j = 3 ∨ j = 4 ∨ j = 5 ∨ j = 6 ∨ j = 7 := by omega
      rw [hF, hf0]
      rcases h8 with rfl | rfl | rfl | rfl | rfl | rfl | rfl | rfl <;> rfl)]
    unfold FX1_says
    rw [fw_gL hW, Option.bind_some, hv, l1]
    dsimp only
    rw [fw_rv hW, Option.bind_some, W_faceOf hW hr hA hp, Option.bind_some]
    dsimp only
    rw [fc_gR0_5 hC, Option.bind_some, fc_pI39 hC, Option.bind_some, g5, Option.bind_some, fw_gI (wb _), Option.bind_some, rw3 (rb _), pI4, Option.bind_some, ← hf0, g5, Option.bind_some, fw_gR11 (wb _), Option.bind_some, fw_rd4 (wb _) (by omega), Option.bind_some, rwT (rb _) (by omega), m1_]
    -- the hook
    have q2 : ∀ J : Int32 → Mm → Option (Int32 × Mm), (jn J fun J => if PA A p 3 = M1 then J 99 (wA σ 39 f0) else (some (some (b + 4))).bind fun x73 => (aI 100 x73 (N p) (wA σ 39 f0)).bind fun x74 => J x74 (wA σ 39 f0)) = J (aE A nh p 2) (wA σ 39 f0) := fun J => by
      rw [← z2]
      unfold jn
      dsimp only
      by_cases c3 : PA A p 3 = M1
      · rw [if_pos c3, if_pos c3]; rfl
      · rw [if_neg c3, if_neg c3, Option.bind_some, fw_rd4 (wb _) (by omega), Option.bind_some, rwT (rb _) (by omega)]
    refine (q2 _).trans ?_
    try dsimp only
    rw [pI4, Option.bind_some, g5, Option.bind_some]
    -- the marks
    have q3 : ∀ (f : Nat → Int32) (J : Int32 → Mm → Option (Int32 × Mm)), (jn J fun J => if aF A p = M1 then J 0 (wA σ 39 f) else (gR 2 8 (some b) (wA σ 39 f)).bind fun x68 => (aI 100 x68 (aF A p) (wA σ 39 f)).bind fun x69 => (FJ16_bitCount x69 (wA σ 39 f)).bind fun x => J x.1 x.2) = J (aE A nh p 3) (wA σ 39 f) := fun f J => by
      rw [← z3]
      unfold jn aMk
      dsimp only
      rcases aF_ok hA hp with c | ⟨a, ha, c⟩
      · rw [if_pos c, if_pos c]; rfl
      · have c' : ¬ aF A p = M1 := by rw [c, N_m1 (by omega)]; exact id
        obtain ⟨-, -, -, ⟨m, hm, em⟩, -⟩ := hA.2.1 a ha
        rw [if_neg c', if_neg c', fw_gR8 (wb _), Option.bind_some, c, fw_rd1 (wb _) (by omega), Option.bind_some, rwF (rb _) (by omega), ix_N (by omega), em, J_bitCount (by omega), Option.bind_some, ix_N (by omega)]
    refine (q3 _ _).trans ?_
    try dsimp only
    rw [pI4, Option.bind_some, g5, Option.bind_some, fw_rv (wb _), Option.bind_some, W_hung (wb _) (rb _) hA.1.2.2.1 (by omega), Option.bind_some]
    dsimp only
    rw [pI4, Option.bind_some, g5, Option.bind_some, fw_gI (wb _), Option.bind_some, rw2 (rb _), g5, Option.bind_some, fc_gI39 (cb' _), Option.bind_some, e4, pI4, Option.bind_some, g5, Option.bind_some]
    have q6 : ∀ (f : Nat → Int32) (J : Int32 → Mm → Option (Int32 × Mm)), (jn J fun J => if aF A p = N p then J 1 (wA σ 39 f) else J 0 (wA σ 39 f)) = J (aE A nh p 6) (wA σ 39 f) := fun f J => by
      rw [← z6]
      unfold jn
      dsimp only
      by_cases c : aF A p = N p
      · rw [if_pos c, if_pos c]; rfl
      · rw [if_neg c, if_neg c]; rfl
    refine (q6 _ _).trans ?_
    try dsimp only
    have v6 : aE A nh p 6 = 0 ∨ aE A nh p 6 = 1 := by
      rw [← z6]
      by_cases c : aF A p = N p
      · rw [if_pos c]; exact Or.inr rfl
      · rw [if_neg c]; exact Or.inl rfl
    have v7 : aE A nh p 7 = 0 ∨ aE A nh p 7 = 1 := by
      rw [← z7]
      by_cases c : PA A p 4 = M1
      · rw [if_pos c]; exact Or.inl rfl
      · rw [if_neg c]; exact Or.inr rfl
    rw [pZ4 _ _ _ v6, Option.bind_some, g5, Option.bind_some, fw_gR12 (wb _), Option.bind_some, fw_rd5 (wb _) (by omega), Option.bind_some, rwS (rb _) (by omega)]
    have q7 : ∀ (f : Nat → Int32) (J : Int32 → Mm → Option (Int32 × Mm)), (jn J fun J => if PA A p 4 = M1 then J 0 (wA σ 39 f) else J 1 (wA σ 39 f)) = J (aE A nh p 7) (wA σ 39 f) := fun f J => by
      rw [← z7]
      unfold jn
      dsimp only
      by_cases c : PA A p 4 = M1
      · rw [if_pos c, if_pos c]; rfl
      · rw [if_neg c, if_neg c]; rfl
    refine (q7 _ _).trans ?_
    try dsimp only
    rw [pZ4 _ _ _ v7, Option.bind_some, hF, g5]
    try rfl
end
