/-! THE PLAIN LAW, 81: what the model asks the law -/
set_option maxRecDepth 100000
def am (σ : Mm) (F g : Nat → Int32) : Mm := wA (wA σ 68 F) 62 g
section
variable {np nh p k : Nat} {σ : Mm} {v : Option Nat} {ls : List (Bool × Option Cn)} {F g : Nat → Int32} {x : Int32}
theorem am_self : am σ (mI σ 68) (mI σ 62) = σ := by
  unfold am
  rw [wA_self]
  exact wA_self σ 62
theorem FM_am (h : FM σ) : FM (am σ F g) := h
theorem am_q {q : Nat} (h1 : q ≠ 62) (h2 : q ≠ 68) : mI (am σ F g) q = mI σ q := (if_neg h1).trans (if_neg h2)
theorem a_ck {β : Type} {o : Option β} (h : FM σ) : ck 8 62 (am σ F g) o = o := fm_ck (FM_am h)
theorem a_gI (h : FM σ) : gI 8 k (some 62) (am σ F g) = some (g k) := fm_gI (FM_am h)
theorem a_pI (h : FM σ) : pI 8 k (some 62) x (am σ F g) = some (am σ F (up1 g k x)) := by
  rw [fm_pI (FM_am h)]
  unfold am
  rw [wA_wA]
  rfl
theorem a_pZ (h : FM σ) (hx : x = 0 ∨ x = 1) : pZ 8 k (some 62) x (am σ F g) = some (am σ F (up1 g k x)) := by
  rw [fm_pZ (FM_am h) hx]
  unfold am
  rw [wA_wA]
  rfl
theorem a_of {w : Nat} (h : FM σ) (hp : p < 10) (hw : w < 6) : FX8_of 62 (N p) (N w) (am σ F g) = some (PA (mI σ 63) p w, am σ F g) := M_of (FM_am h) hp hw
theorem a_sI {j : Nat} (h : FM σ) (hj : j < 6) : sI (some 68) (N j) x (am σ F g) = some (am σ (up1 F j x) g) := by
  rw [fm_wr68 (FM_am h) hj]
  have e : mI (am σ F g) 68 = F := rfl
  rw [e]
  unfold am
  rw [wA_cm (by omega : (62 : Nat) ≠ 68), wA_wA]
theorem a_gR14 (h : FM σ) : gR 8 14 (some 62) (am σ F g) = some (some 68) := fm_gR14 (FM_am h)
theorem a_gR1 (h : FM σ) : gR 8 1 (some 62) (am σ F g) = some (some 63) := fm_gR1 (FM_am h)
theorem a_rd {j : Nat} (h : FM σ) (hj : j < 984) : aI 100 (some 63) (N j) (am σ F g) = some (mI σ 63 j) := fm_rd63 (FM_am h) hj
theorem a_hung (h : FM σ) (hn : mI σ 63 4 = N nh) (hn0 : nh ≤ 12) : FX8_hung 62 (am σ F g) = some (aHung (mI σ 63) nh, am σ F g) := M_hung (FM_am h) hn hn0
theorem M_asks (hM : FM σ) (hK : KS σ) (hA : WF (mI σ 63) np nh) (hp : p < np) (hl : LWs v (mI σ 63) ls σ) (hB : B62 σ) : ∃ F g, FX8_asks 62 (N p) σ = some (am σ F g) ∧ g 17 = bN (lnE (aE (mI σ 63) nh p) true ls) ∧ g 18 = bN (lnE (aE (mI σ 63) nh p) false ls) ∧ (∀ k, k = 0 ∨ k = 3 ∨ k = 6 ∨ k = 8 ∨ k = 12 → g k = mI σ 62 k) ∧ (∃ b, g 15 = bN b) ∧ ∃ b, g 16 = bN b := by
  have hBG : BIG = 1000000 := rfl
  have hn0 := hA.1.2.1
  have hk := hA.1.2.2.1
  have hk0 := hA.1.2.2.2.2.1
  obtain ⟨h2, h3, h4, ⟨m0, hm0, e0⟩, -⟩ := hA.2.1 p hp
  obtain ⟨hb15, hb16, -, -⟩ := hB
  -- the flags go down
  obtain ⟨g0, hg0⟩ : ∃ g0, g0 = up1 (up1 (mI σ 62) 17 0) 18 0 := ⟨_, rfl⟩
  have start : ∀ K : Mm → Option Mm, (pZ 8 17 (some 62) 0 σ).bind (fun σ21 => (pZ 8 18 (some 62) 0 σ21).bind fun σ22 => K σ22) = K (am σ (mI σ 68) g0) := fun K => by
    have e : pZ 8 17 (some 62) 0 σ = some (am σ (mI σ 68) (up1 (mI σ 62) 17 0)) := by
      have := a_pZ (F := mI σ 68) (g := mI σ 62) (k := 17) (x := 0) hM (Or.inl rfl)
      rw [am_self] at this
      exact this
    rw [e, Option.bind_some, a_pZ hM (Or.inl rfl), Option.bind_some, hg0]
  unfold FX8_asks
  rw [start]
  have g0k : ∀ k, k ≠ 17 → k ≠ 18 → g0 k = mI σ 62 k := fun k h1 h2 => by rw [hg0, up1_app, if_neg h2, up1_app, if_neg h1]
  have empty : ls = [] → ∃ F g, some (am σ (mI σ 68) g0) = some (am σ F g) ∧ g 17 = bN (lnE (aE (mI σ 63) nh p) true ls) ∧ g 18 = bN (lnE (aE (mI σ 63) nh p) false ls) ∧ (∀ k, k = 0 ∨ k = 3 ∨ k = 6 ∨ k = 8 ∨ k = 12 → g k = mI σ 62 k) ∧ (∃ b, g 15 = bN b) ∧ ∃ b, g 16 = bN b := fun h => by
    refine ⟨_, _, rfl, by rw [h, hg0]; rfl, by rw [h, hg0]; rfl, fun k hk => g0k k (by omega) (by omega), ?_, ?_⟩
    · rw [g0k 15 (by omega) (by omega)]; exact hb15
    · rw [g0k 16 (by omega) (by omega)]; exact hb16
  rw [m1_, a_gR1 hM, Option.bind_some, l1_, a_rd hM (by omega), Option.bind_some]
  rcases hl with ⟨l1, l2, l3⟩ | ⟨q, lo, hi, T, e, kk, l1, l2, l3, l4, l5, l6, l7, l8, l9⟩
  · rw [l2, if_neg (by decide)]
    exact empty l3
  · rw [l4]
    have he := l2.1
    by_cases hlen : 1 ≤ ls.length
    · rw [if_pos (by rw [N_le (by omega) (by omega)]; exact hlen), a_ck hM, l3_, a_of hM (by omega) (by omega), Option.bind_some]
      dsimp only
      rw [a_ck hM, l2_, a_of hM (by omega) (by omega), Option.bind_some]
      dsimp only
      have hHA : ∀ t, t < nh → aI 100 (some 63) (N 272 + N t) (am σ (mI σ 68) g0) = some (HA (mI σ 63) t) := fun t ht => by rw [N_add, a_rd hM (by omega)]; rfl
      have qf : ∀ J : Int32 → Mm → Option Mm, (jn J fun J => if PA (mI σ 63) p 2 = M1 then (if PA (mI σ 63) p 3 = M1 then J M1 (am σ (mI σ 68) g0) else (gR 8 1 (some 62) (am σ (mI σ 68) g0)).bind fun x84 => (aI 100 x84 (272 + PA (mI σ 63) p 3) (am σ (mI σ 68) g0)).bind fun x85 => J x85 (am σ (mI σ 68) g0)) else ck 8 62 (am σ (mI σ 68) g0) ((FX8_of 62 (N p) (N 2) (am σ (mI σ 68) g0)).bind fun x => J x.1 x.2)) = J (aF (mI σ 63) p) (am σ (mI σ 68) g0) := fun J => by
        unfold jn aF
        dsimp only
        by_cases c2 : PA (mI σ 63) p 2 = M1
        · rw [if_pos c2, if_pos c2]
          rcases h3 with c3 | ⟨t, ht, c3⟩
          · rw [if_pos c3, if_pos c3]
          · have c3' : ¬ PA (mI σ 63) p 3 = M1 := by rw [c3, N_m1 (by omega)]; exact id
            rw [if_neg c3', if_neg c3', a_gR1 hM, Option.bind_some, c3, l272_, hHA t ht, Option.bind_some, ix_N (by omega)]
        · rw [if_neg c2, if_neg c2, a_ck hM, a_of hM (by omega) (by omega), Option.bind_some]
      rw [qf]
      have q2 : ∀ (F : Nat → Int32) (J : Int32 → Mm → Option Mm), (jn J fun J => if PA (mI σ 63) p 3 = M1 then J 99 (am σ F g0) else J (PA (mI σ 63) p 3) (am σ F g0)) = J (aE (mI σ 63) nh p 2) (am σ F g0) := fun F J => by
        show _ = J (if PA (mI σ 63) p 3 = M1 then N 99 else PA (mI σ 63) p 3) (am σ F g0)
        unfold jn
        dsimp only
        by_cases c : PA (mI σ 63) p 3 = M1
        · rw [if_pos c, if_pos c]; rfl
        · rw [if_neg c, if_neg c]
      have q3 : ∀ (F : Nat → Int32) (J : Int32 → Mm → Option Mm), (jn J fun J => if aF (mI σ 63) p = M1 then J (N 0) (am σ F g0) else ck 8 62 (am σ F g0) ((FX8_of 62 (aF (mI σ 63) p) (N 0) (am σ F g0)).bind fun x => (FX8_bits x.1 x.2).bind fun y => J y.1 y.2)) = J (aE (mI σ 63) nh p 3) (am σ F g0) := fun F J => by
        show _ = J (aMk (mI σ 63) p) (am σ F g0)
        unfold jn aMk
        dsimp only
        rcases aF_ok hA hp with c | ⟨a, ha, c⟩
        · rw [if_pos c, if_pos c]
        · have c' : ¬ aF (mI σ 63) p = M1 := by rw [c, N_m1 (by omega)]; exact id
          obtain ⟨-, -, -, ⟨m, hm, em⟩, -⟩ := hA.2.1 a ha
          rw [if_neg c', if_neg c', a_ck hM, c, a_of hM (by omega) (by omega), Option.bind_some, em, M_bits (by omega), Option.bind_some, ix_N (by omega), em, ix_N (by omega)]
      have q6 : ∀ (F : Nat → Int32) (J : Int32 → Mm → Option Mm), (jn J fun J => if aF (mI σ 63) p = N p then J (N 1) (am σ F g0) else J (N 0) (am σ F g0)) = J (aE (mI σ 63) nh p 6) (am σ F g0) := fun F J => by
        show _ = J (if aF (mI σ 63) p = N p then N 1 else N 0) (am σ F g0)
        unfold jn
        dsimp only
        by_cases c : aF (mI σ 63) p = N p
        · rw [if_pos c, if_pos c]
        · rw [if_neg c, if_neg c]
      have q7 : ∀ (F g : Nat → Int32) (J : Int32 → Mm → Option Mm), (jn J fun J => if PA (mI σ 63) p 4 = M1 then J (N 0) (am σ F g) else J (N 1) (am σ F g)) = J (aE (mI σ 63) nh p 7) (am σ F g) := fun F g J => by
        show _ = J (if PA (mI σ 63) p 4 = M1 then N 0 else N 1) (am σ F g)
        unfold jn
        dsimp only
        by_cases c : PA (mI σ 63) p 4 = M1
        · rw [if_pos c, if_pos c]
        · rw [if_neg c, if_neg c]
      have v6 : aE (mI σ 63) nh p 6 = 0 ∨ aE (mI σ 63) nh p 6 = 1 := by
        show (if aF (mI σ 63) p = N p then N 1 else N 0) = 0 ∨ (if aF (mI σ 63) p = N p then N 1 else N 0) = 1
        by_cases c : aF (mI σ 63) p = N p
        · rw [if_pos c]; exact Or.inr rfl
        · rw [if_neg c]; exact Or.inl rfl
      have v7 : aE (mI σ 63) nh p 7 = 0 ∨ aE (mI σ 63) nh p 7 = 1 := by
        show (if PA (mI σ 63) p 4 = M1 then N 0 else N 1) = 0 ∨ (if PA (mI σ 63) p 4 = M1 then N 0 else N 1) = 1
        by_cases c : PA (mI σ 63) p 4 = M1
        · rw [if_pos c]; exact Or.inl rfl
        · rw [if_neg c]; exact Or.inr rfl
      try dsimp only
      rw [l0_, a_gR14 hM, Option.bind_some, a_sI hM (by omega), Option.bind_some, a_gR14 hM, Option.bind_some, a_gR1 hM, Option.bind_some, l5_, a_rd hM (by omega), Option.bind_some, a_sI hM (by omega), Option.bind_some, a_gR14 hM, Option.bind_some, q2]
      try dsimp only
      rw [a_sI hM (by omega), Option.bind_some, a_gR14 hM, Option.bind_some, q3]
      try dsimp only
      rw [a_sI hM (by omega), Option.bind_some, a_gR14 hM, Option.bind_some, a_ck hM, a_hung hM hk hk0, Option.bind_some]
      try dsimp only
      rw [l4_, a_sI hM (by omega), Option.bind_some, a_gR14 hM, Option.bind_some, a_gR1 hM, Option.bind_some, a_rd hM (by omega), Option.bind_some, a_ck hM, a_hung hM hk hk0, Option.bind_some]
      try dsimp only
      rw [a_sI hM (by omega), Option.bind_some, q6]
      try dsimp only
      rw [a_pZ hM v6, Option.bind_some, a_ck hM, a_of hM (by omega) (by omega), Option.bind_some]
      try dsimp only
      rw [q7]
      try dsimp only
      rw [a_pZ hM v7, Option.bind_some, a_gI hM, Option.bind_some, a_pI hM, Option.bind_some, a_pI hM, Option.bind_some, a_gR1 hM, Option.bind_some, a_rd hM (by omega), Option.bind_some, a_pI hM, Option.bind_some, a_pI hM, Option.bind_some, a_pI hM, Option.bind_some, a_ck hM, l6, l584_]
      generalize hFF : up1 _ (5 : Nat) _ = FF
      generalize hgg : up1 _ 13 _ = gg
      have f0 : ∀ j, j < 6 → FF j = aE (mI σ 63) nh p j := fun j hj => by
        rw [← hFF]
        match j, hj with
        | 0, _ => rfl
        | 1, _ => rfl
        | 2, _ => rfl
        | 3, _ => rfl
        | 4, _ => rfl
        | 5, _ => rfl
      have y9 : gg 9 = N 584 := by rw [← hgg]; rfl
      have y10 : gg 10 = N e := by rw [← hgg]; rfl
      have y11 : gg 11 = N 0 := by rw [← hgg]; rfl
      have y12 : gg 12 = M1 := by rw [← hgg]; rfl
      have y13 : gg 13 = N 0 := by rw [← hgg]; rfl
      have y15 : gg 15 = aE (mI σ 63) nh p 6 := by rw [← hgg]; rfl
      have y16 : gg 16 = aE (mI σ 63) nh p 7 := by rw [← hgg]; rfl
      have y17 : gg 17 = bN false := by rw [← hgg, hg0]; rfl
      have y18 : gg 18 = bN false := by rw [← hgg, hg0]; rfl
      have yk : ∀ k, k = 0 ∨ k = 3 ∨ k = 6 ∨ k = 8 → gg k = mI σ 62 k := fun k hk => by
        rw [← hgg, hg0]
        rcases hk with rfl | rfl | rfl | rfl <;> rfl
      have mm : ms (hs (am σ FF gg) false false) (N 0) M1 (N 0) = am σ FF gg := by
        rw [hs_self (σ := am σ FF gg) y17 y18]
        have := ms_self (am σ FF gg)
        rw [show mI (am σ FF gg) 62 11 = N 0 from y11, show mI (am σ FF gg) 62 12 = M1 from y12, show mI (am σ FF gg) 62 13 = N 0 from y13] at this
        exact this
      have hT : MT T e (am σ FF gg) := ⟨FM_am hM, y10, Or.inr ⟨y9, fun k hk => by rw [am_q (by omega) (by omega)]; exact l7 k hk⟩⟩
      have hE : ME (am σ FF gg) = aE (mI σ 63) nh p := by
        funext j
        unfold ME
        by_cases c : j < 6
        · rw [if_pos c]; exact f0 j c
        · rw [if_neg c]
          by_cases c6 : j = 6
          · rw [if_pos c6, c6]; exact y15
          · rw [if_neg c6]
            by_cases c7 : j = 7
            · rw [if_pos c7, c7]; exact y16
            · rw [if_neg c7]
              unfold aE
              rw [if_neg (by omega), if_neg (by omega), if_neg (by omega), if_neg (by omega), if_neg (by omega), if_neg (by omega), if_neg c6, if_neg c7]
      have b6 : ∃ b, gg 15 = bN b := by
        rcases v6 with c | c
        · exact ⟨false, y15.trans c⟩
        · exact ⟨true, y15.trans c⟩
      have b7 : ∃ b, gg 16 = bN b := by
        rcases v7 with c | c
        · exact ⟨false, y16.trans c⟩
        · exact ⟨true, y16.trans c⟩
      have hR := M_read (h0 := false) (f0 := false) l2 hT (KS_wA (by omega) (KS_wA (by omega) hK)) ⟨b6, b7⟩
      rw [l3, mm] at hR
      have hR' := show FX8_read 62 1 (am σ FF gg) = some (N ls.length, ms (hs (am σ FF gg) (false || lnE (ME (am σ FF gg)) true ls) (false || lnE (ME (am σ FF gg)) false ls)) (N e) M1 (N 0)) from hR
      rw [Bool.false_or, Bool.false_or, hE] at hR'
      have e2 : ∀ h f, ms (hs (am σ FF gg) h f) (N e) M1 (N 0) = am σ FF (up1 (up1 (up1 (up1 (up1 gg 17 (bN h)) 18 (bN f)) 11 (N e)) 12 M1) 13 (N 0)) := fun h f => by
        unfold ms hs am
        rw [wA_wA, wA_wA]
        rfl
      rw [l1_, e2] at hR'
      rw [hR', Option.bind_some, a_pI hM, Option.bind_some]
      refine ⟨_, _, rfl, rfl, rfl, ?_, ?_, ?_⟩
      · intro k hk
        rcases hk with rfl | rfl | rfl | rfl | rfl
        · exact yk 0 (by omega)
        · exact yk 3 (by omega)
        · exact yk 6 (by omega)
        · exact yk 8 (by omega)
        · rw [hg0]; rfl
      · exact b6
      · exact b7
    · rw [if_neg (by rw [N_le (by omega) (by omega)]; exact hlen)]
      exact empty (List.eq_nil_of_length_eq_zero (by omega))
end
