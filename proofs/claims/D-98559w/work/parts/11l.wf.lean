/-! THE PLAIN LAW, 23: acts keep what is true of a row -/
set_option maxRecDepth 100000
section
variable {A B : Nat → Int32} {np nh : Nat}
theorem WF_of (hA : WF A np nh) (h3 : B 3 = A 3) (h4 : B 4 = A 4) (h8 : ∃ g, g ≤ 60 ∧ B 8 = N g) (hP : ∀ p, p < np → okF nh (PA B p 3) ∧ PA B p 4 = PA A p 4 ∧ (∃ m, m < 256 ∧ PA B p 0 = N m) ∧ PA B p 1 = PA A p 1 ∧ ∃ m, m < 2 ^ np ∧ PA B p 5 = N m) (hW : ∀ p, p < np → PA B p 2 = PA A p 2) (hH : ∀ h, h < 12 → HA B h = HA A h) : WF B np nh := by
  obtain ⟨⟨a1, a2, a3, a4, a5, a6⟩, b, c, d, e, f, g⟩ := hA
  refine ⟨⟨h3.trans a1, a2, h4.trans a3, a4, a5, h8⟩, fun p hp => ?_, fun h hh => ?_, fun h h1 h2 => ?_, fun p q hp hq h1 h2 => ?_, fun p h hp hh h1 => ?_, fun x y hx hy h1 h2 => ?_⟩
  · obtain ⟨b1, b2, b3, b4, b5, b6⟩ := b p hp
    obtain ⟨p1, p2, p3, p4, p5⟩ := hP p hp
    exact ⟨by rw [hW p hp]; exact b1, p1, by rw [p2]; exact b3, p3, by rw [p4]; exact b5, p5⟩
  · rw [hH h (by omega)]; exact c h hh
  · rw [hH h h2]; exact d h h1 h2
  · rw [hW p hp, hW q hq] at h1; rw [hW p hp] at h2; exact e p q hp hq h1 h2
  · rw [hW p hp, hH h (by omega)] at h1; rw [hW p hp]; exact f p h hp hh h1
  · rw [hH x (by omega), hH y (by omega)] at h1; rw [hH x (by omega)] at h2; exact g x y hx hy h1 h2
theorem WF_P (hA : WF A np nh) {p : Nat} (hp : p < np) : okF nh (PA A p 3) ∧ PA A p 4 = PA A p 4 ∧ (∃ m, m < 256 ∧ PA A p 0 = N m) ∧ PA A p 1 = PA A p 1 ∧ ∃ m, m < 2 ^ np ∧ PA A p 5 = N m := by
  obtain ⟨b1, b2, b3, b4, b5, b6⟩ := hA.2.1 p hp
  exact ⟨b2, rfl, b4, rfl, b6⟩
theorem WF_uP {p v : Nat} {x : Int32} (hA : WF A np nh) (hp : p < np) (hv : v = 0 ∧ (∃ m, m < 256 ∧ x = N m) ∨ v = 3 ∧ okF nh x ∨ v = 5 ∧ ∃ m, m < 2 ^ np ∧ x = N m) : WF (uP A p v x) np nh := by
  have hn := hA.1.2.1
  have hv6 : v < 6 := by omega
  refine WF_of hA (if_neg (by omega)) (if_neg (by omega)) ?_ (fun q hq => ?_) (fun q hq => ?_) fun h hh => uP_HA (by omega) hv6
  · obtain ⟨g, hg, e⟩ := hA.1.2.2.2.2.2
    exact ⟨g, hg, (if_neg (by omega)).trans e⟩
  · obtain ⟨b1, _, b3, _, b5⟩ := WF_P hA hq
    rcases hv with ⟨rfl, hx⟩ | ⟨rfl, hx⟩ | ⟨rfl, hx⟩ <;> by_cases e : q = p
    · subst e; rw [uP_PAn (by omega) (by omega) (by omega), uP_PAn (by omega) (by omega) (by omega), uP_PAs (by omega), uP_PAn (by omega) (by omega) (by omega), uP_PAn (by omega) (by omega) (by omega)]; exact ⟨b1, rfl, hx, rfl, b5⟩
    · rw [uP_PAn (by omega) (by omega) (by omega), uP_PAn (by omega) (by omega) (by omega), uP_PAn (by omega) (by omega) (by omega), uP_PAn (by omega) (by omega) (by omega), uP_PAn (by omega) (by omega) (by omega)]; exact ⟨b1, rfl, b3, rfl, b5⟩
    · subst e; rw [uP_PAs (by omega), uP_PAn (by omega) (by omega) (by omega), uP_PAn (by omega) (by omega) (by omega), uP_PAn (by omega) (by omega) (by omega), uP_PAn (by omega) (by omega) (by omega)]; exact ⟨hx, rfl, b3, rfl, b5⟩
    · rw [uP_PAn (by omega) (by omega) (by omega), uP_PAn (by omega) (by omega) (by omega), uP_PAn (by omega) (by omega) (by omega), uP_PAn (by omega) (by omega) (by omega), uP_PAn (by omega) (by omega) (by omega)]; exact ⟨b1, rfl, b3, rfl, b5⟩
    · subst e; rw [uP_PAn (by omega) (by omega) (by omega), uP_PAn (by omega) (by omega) (by omega), uP_PAn (by omega) (by omega) (by omega), uP_PAn (by omega) (by omega) (by omega), uP_PAs (by omega)]; exact ⟨b1, rfl, b3, rfl, hx⟩
    · rw [uP_PAn (by omega) (by omega) (by omega), uP_PAn (by omega) (by omega) (by omega), uP_PAn (by omega) (by omega) (by omega), uP_PAn (by omega) (by omega) (by omega), uP_PAn (by omega) (by omega) (by omega)]; exact ⟨b1, rfl, b3, rfl, b5⟩
  · rw [uP_PAn hv6 (by omega) (by omega)]
theorem WF_oth {j : Nat} {x : Int32} (hA : WF A np nh) (hj : j = 5 ∨ j = 9 ∨ (72 ≤ j ∧ j < 272) ∨ 284 ≤ j) : WF (up1 A j x) np nh := by
  have hn := hA.1.2.1
  have e : ∀ i, i ≠ j → up1 A j x i = A i := fun i hi => if_neg hi
  have ep : ∀ q w, q < 10 → w < 6 → PA (up1 A j x) q w = PA A q w := fun q w hq hw => e _ (by omega)
  refine WF_of hA (e 3 (by omega)) (e 4 (by omega)) ?_ (fun q hq => ?_) (fun q hq => ep q 2 (by omega) (by omega)) fun h hh => e _ (by omega)
  · rw [e 8 (by omega)]; exact hA.1.2.2.2.2.2
  · rw [ep q 3 (by omega) (by omega), ep q 4 (by omega) (by omega), ep q 0 (by omega) (by omega), ep q 1 (by omega) (by omega), ep q 5 (by omega) (by omega)]
    exact WF_P hA hq
theorem WF_log {p h f w : Int32} (hA : WF A np nh) : WF (sLog A p h f w) np nh := by
  have hn := hA.1.2.1
  refine WF_of hA (sL_o (by omega) (by omega)) (sL_o (by omega) (by omega)) ?_ (fun q hq => ?_) (fun q hq => PA_L (by omega) (by omega)) fun h hh => HA_L hh
  · obtain ⟨g, hg, e⟩ := hA.1.2.2.2.2.2
    have e8 : sLog A p h f w 8 = if A 8 + N 1 ≤ N 60 then A 8 + N 1 else N 60 := rfl
    rw [e8, e, N_add]
    by_cases h1 : g + 1 ≤ 60
    · exact ⟨g + 1, h1, if_pos (by rw [N_le (by omega) (by omega)]; exact h1)⟩
    · exact ⟨60, Nat.le_refl _, if_neg (by rw [N_le (by omega) (by omega)]; exact h1)⟩
  · rw [PA_L (by omega) (by omega), PA_L (by omega) (by omega), PA_L (by omega) (by omega), PA_L (by omega) (by omega), PA_L (by omega) (by omega)]
    exact WF_P hA hq
/-- a person's face and a hook's change places -/
theorem WF_swH {p h : Nat} (hA : WF A np nh) (hp : p < np) (hh : h < nh) : WF (uP (uH A h (PA A p 2)) p 2 (HA A h)) np nh := by
  obtain ⟨⟨a1, a2, a3, a4, a5, a6⟩, b, c, d, e, f, g⟩ := hA
  have eP : ∀ q w, q < np → w < 6 → w ≠ 2 → PA (uP (uH A h (PA A p 2)) p 2 (HA A h)) q w = PA A q w := fun q w hq hw h2 => by
    rw [uP_PAn (by omega) hw (Or.inr h2), uH_PA (by omega) hw]
  have eW : ∀ q, q < np → PA (uP (uH A h (PA A p 2)) p 2 (HA A h)) q 2 = if q = p then HA A h else PA A q 2 := fun q hq => by
    by_cases h1 : q = p
    · rw [if_pos h1, h1, uP_PAs (by omega)]
    · rw [if_neg h1, uP_PAn (by omega) (by omega) (Or.inl h1), uH_PA (by omega) (by omega)]
  have eH : ∀ k, HA (uP (uH A h (PA A p 2)) p 2 (HA A h)) k = if k = h then PA A p 2 else HA A k := fun k => by
    rw [uP_HA (by omega) (by omega)]; exact HA_H
  have o : ∀ j, j < 12 → uP (uH A h (PA A p 2)) p 2 (HA A h) j = A j := fun j hj => (if_neg (by omega)).trans (if_neg (by omega))
  refine ⟨⟨(o 3 (by omega)).trans a1, a2, (o 4 (by omega)).trans a3, a4, a5, ?_⟩, fun q hq => ?_, fun k hk => ?_, fun k h1 h2 => ?_, fun q r hq hr => ?_, fun q k hq hk => ?_, fun x y hx hy => ?_⟩
  · rw [o 8 (by omega)]; exact a6
  · obtain ⟨b1, b2, b3, b4, b5, b6⟩ := b q hq
    refine ⟨?_, by rw [eP q 3 hq (by omega) (by omega)]; exact b2, by rw [eP q 4 hq (by omega) (by omega)]; exact b3, by rw [eP q 0 hq (by omega) (by omega)]; exact b4, by rw [eP q 1 hq (by omega) (by omega)]; exact b5, by rw [eP q 5 hq (by omega) (by omega)]; exact b6⟩
    rw [eW q hq]
    split
    · exact c h hh
    · exact b1
  · rw [eH]
    split
    · exact (b p hp).1
    · exact c k hk
  · rw [eH, if_neg (by omega)]; exact d k h1 h2
  · rw [eW q hq, eW r hr]
    by_cases h1 : q = p
    · rw [if_pos h1]
      by_cases h2 : r = p
      · intro _ _; omega
      · rw [if_neg h2]; intro h3 h4; exact absurd (f r h hr hh h3.symm) (fun z => h4 (h3.trans z))
    · rw [if_neg h1]
      by_cases h2 : r = p
      · rw [if_pos h2]; intro h3 h4; exact absurd (f q h hq hh h3) h4
      · rw [if_neg h2]; exact e q r hq hr
  · rw [eW q hq, eH]
    by_cases h1 : q = p
    · rw [if_pos h1]
      by_cases h2 : k = h
      · rw [if_pos h2]; intro h3; exact h3.trans (f p h hp hh h3.symm)
      · rw [if_neg h2]; intro h3
        by_cases h4 : HA A h = M1
        · exact h4
        · exact absurd (g h k hh hk h3 h4).symm h2
    · rw [if_neg h1]
      by_cases h2 : k = h
      · rw [if_pos h2]; intro h3
        by_cases h4 : PA A q 2 = M1
        · exact h4
        · exact absurd (e q p hq hp h3 h4) h1
      · rw [if_neg h2]; exact f q k hq hk
  · rw [eH, eH]
    by_cases h1 : x = h
    · rw [if_pos h1]
      by_cases h2 : y = h
      · intro _ _; omega
      · rw [if_neg h2]; intro h3 h4; exact absurd (f p y hp hy h3) h4
    · rw [if_neg h1]
      by_cases h2 : y = h
      · rw [if_pos h2]; intro h3 h4; exact absurd (h3.trans (f p x hp hx h3.symm)) h4
      · rw [if_neg h2]; exact g x y hx hy
theorem WF_swP {p q : Nat} (hA : WF A np nh) (hp : p < np) (hq : q < np) : WF (aSwap A p q 2) np nh := by
  obtain ⟨⟨a1, a2, a3, a4, a5, a6⟩, b, c, d, e, f, g⟩ := hA
  have eP : ∀ r w, r < np → w < 6 → w ≠ 2 → PA (aSwap A p q 2) r w = PA A r w := fun r w hr hw h2 => by
    unfold aSwap; rw [uP_PAn (by omega) hw (Or.inr h2), uP_PAn (by omega) hw (Or.inr h2)]
  have eW : ∀ r, r < np → PA (aSwap A p q 2) r 2 = PA A (if r = q then p else if r = p then q else r) 2 := fun r hr => by
    unfold aSwap
    by_cases h1 : r = q
    · rw [if_pos h1, h1, uP_PAs (by omega)]
    · rw [if_neg h1, uP_PAn (by omega) (by omega) (Or.inl h1)]
      by_cases h2 : r = p
      · rw [if_pos h2, h2, uP_PAs (by omega)]
      · rw [if_neg h2, uP_PAn (by omega) (by omega) (Or.inl h2)]
  have eH : ∀ k, HA (aSwap A p q 2) k = HA A k := fun k => by
    unfold aSwap; rw [uP_HA (by omega) (by omega), uP_HA (by omega) (by omega)]
  have o : ∀ j, j < 12 → aSwap A p q 2 j = A j := fun j hj => (if_neg (by omega)).trans (if_neg (by omega))
  have hs : ∀ r, r < np → (if r = q then p else if r = p then q else r) < np := fun r hr => by
    split
    · exact hp
    · split
      · exact hq
      · exact hr
  refine ⟨⟨(o 3 (by omega)).trans a1, a2, (o 4 (by omega)).trans a3, a4, a5, ?_⟩, fun r hr => ?_, fun k hk => ?_, fun k h1 h2 => ?_, fun r s hr hs' => ?_, fun r k hr hk => ?_, fun x y hx hy => ?_⟩
  · rw [o 8 (by omega)]; exact a6
  · obtain ⟨b1, b2, b3, b4, b5, b6⟩ := b r hr
    exact ⟨by rw [eW r hr]; exact (b _ (hs r hr)).1, by rw [eP r 3 hr (by omega) (by omega)]; exact b2, by rw [eP r 4 hr (by omega) (by omega)]; exact b3, by rw [eP r 0 hr (by omega) (by omega)]; exact b4, by rw [eP r 1 hr (by omega) (by omega)]; exact b5, by rw [eP r 5 hr (by omega) (by omega)]; exact b6⟩
  · rw [eH]; exact c k hk
  · rw [eH]; exact d k h1 h2
  · rw [eW r hr, eW s hs']
    intro h1 h2
    have h3 := e _ _ (hs r hr) (hs s hs') h1 h2
    revert h3
    repeat' split
    all_goals (intro h3; omega)
  · rw [eW r hr, eH]; exact f _ k (hs r hr) hk
  · rw [eH, eH]; exact g x y hx hy
theorem WF_hands {p h : Nat} (hA : WF A np nh) (hp : p < np) (hh : h < nh) (h0 : HA A h = M1) : WF (aHands A p h) np nh := by
  have h1 := WF_swH hA hp hh
  rw [h0] at h1
  exact WF_log (WF_uP h1 hp (Or.inr (Or.inl ⟨rfl, Or.inr ⟨h, hh, rfl⟩⟩)))
theorem WF_takes {p h : Nat} {w : Int32} (hA : WF A np nh) (hp : p < np) (hh : h < nh) (h0 : PA A p 2 = M1) : WF (aTakes A p h w) np nh := by
  have h1 := WF_swH hA hp hh
  rw [h0] at h1
  exact WF_log h1
theorem WF_gets {p h : Nat} (hA : WF A np nh) (hp : p < np) (hh : h < nh) (h0 : PA A p 2 = M1) : WF (aGets A p h) np nh := by
  have h1 := WF_swH hA hp hh
  rw [h0] at h1
  exact WF_log (WF_uP h1 hp (Or.inr (Or.inl ⟨rfl, Or.inl rfl⟩)))
theorem WF_mix {p q : Nat} (hA : WF A np nh) (hp : p < np) (hq : q < np) : WF (aMix A p q) np nh := by
  have h1 : WF (uP A p 3 (PA A q 3)) np nh := WF_uP hA hp (Or.inr (Or.inl ⟨rfl, (WF_P hA hq).1⟩))
  exact WF_log (WF_log (WF_uP h1 hq (Or.inr (Or.inl ⟨rfl, (WF_P hA hp).1⟩))))
end
