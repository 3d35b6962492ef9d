/-! THE PLAIN LAW, 143: the door's rows, and the model's reading -/
set_option maxRecDepth 100000
section
variable {T : Nat → Nat} {e k np nh : Nat} {σ : Mm} {d : Int32} {A : Row}
theorem markP_k (hT : TX T e) (hk : k ≤ e) : match markP T e k with
    | .ok o => o.1 < 256 ∧ k < o.2 ∧ o.2 ≤ e
    | .error p => p = sk T e k ∧ p ≤ e := by
  have h1 := sk_le (T := T) hk
  have h0 := sk_ge (T := T) (e := e) (k := k)
  have h3 := dg_ge (T := T) (e := e) (k := sk T e k)
  have h4 := dg_le (T := T) (e := e) (k := sk T e k) h1
  unfold markP
  dsimp only
  by_cases c : (mo T (sk T e k) (dg T e (sk T e k) - sk T e k) && decide (dg T e (sk T e k) - sk T e k = 8)) = true
  · rw [if_pos c]
    rw [Bool.and_eq_true, decide_eq_true_iff] at c
    exact ⟨mv_lt _, by show k < dg T e (sk T e k); omega, h4⟩
  · rw [if_neg c]; exact ⟨rfl, h1⟩
/-- what a line leaves of a row -/
def RK (A B : Row) : Prop := (B 0 = A 0 ∧ B 1 = A 1 ∧ B 2 = A 2) ∧ ∀ j, 584 ≤ j → B j = A j
theorem WF_who {m0 m1 : Nat} (hw : WF A np nh) (hn : np < 10) (h0 : m0 < 256) (h1 : m1 < 256) : WF (rWho A np m0 m1) (np + 1) nh := by
  obtain ⟨⟨a1, a2, a3, a4, a5, a6⟩, b, c, d', e', f, g⟩ := hw
  have oP : ∀ q v, q < np → v < 6 → PA (rWho A np m0 m1) q v = PA A q v := fun q v hq hv => by
    unfold PA rWho
    rw [if_neg (by omega), if_neg (by omega), if_neg (by omega), if_neg (by omega), if_neg (by omega), if_neg (by omega), if_neg (by omega), if_neg (by omega), if_neg (by omega)]
  have oH : ∀ q, q < 12 → HA (rWho A np m0 m1) q = HA A q := fun q hq => by
    unfold HA rWho
    rw [if_neg (by omega), if_neg (by omega), if_neg (by omega), if_neg (by omega), if_neg (by omega), if_neg (by omega), if_neg (by omega), if_neg (by omega), if_neg (by omega)]
  have n0 : PA (rWho A np m0 m1) np 0 = N m0 := by unfold PA rWho; rw [if_neg (by omega), if_pos (by omega)]
  have n1 : PA (rWho A np m0 m1) np 1 = N m1 := by unfold PA rWho; rw [if_neg (by omega), if_neg (by omega), if_pos (by omega)]
  have n2 : PA (rWho A np m0 m1) np 2 = N np := by unfold PA rWho; rw [if_neg (by omega), if_neg (by omega), if_neg (by omega), if_pos (by omega)]
  have n3 : PA (rWho A np m0 m1) np 3 = M1 := by unfold PA rWho; rw [if_neg (by omega), if_neg (by omega), if_neg (by omega), if_neg (by omega), if_pos (by omega)]
  have n4 : PA (rWho A np m0 m1) np 4 = M1 := by unfold PA rWho; rw [if_neg (by omega), if_neg (by omega), if_neg (by omega), if_neg (by omega), if_neg (by omega), if_pos (by omega)]
  have n5 : PA (rWho A np m0 m1) np 5 = N 0 := by unfold PA rWho; rw [if_neg (by omega), if_neg (by omega), if_neg (by omega), if_neg (by omega), if_neg (by omega), if_neg (by omega), if_pos (by omega)]
  have up : ∀ x, okF np x → okF (np + 1) x := fun x hx => hx.imp id fun ⟨a, h1, h2⟩ => ⟨a, by omega, h2⟩
  have o4 : rWho A np m0 m1 4 = A 4 := by
    unfold rWho
    rw [if_neg (by omega), if_neg (by omega), if_neg (by omega), if_neg (by omega), if_neg (by omega), if_neg (by omega), if_neg (by omega), if_neg (by omega), if_neg (by omega)]
  have o8 : rWho A np m0 m1 8 = A 8 := by
    unfold rWho
    rw [if_neg (by omega), if_neg (by omega), if_neg (by omega), if_neg (by omega), if_neg (by omega), if_neg (by omega), if_neg (by omega), if_neg (by omega), if_neg (by omega)]
  have p2 : 2 ^ (np + 1) = 2 * 2 ^ np := by rw [Nat.pow_succ]; omega
  have p1 := Nat.two_pow_pos np
  have no : ∀ q, q < np → PA A q 2 ≠ N np := fun q hq z => by
    rcases (b q hq).1 with h | ⟨x, hx, h⟩
    · rw [z, N_m1 (by omega)] at h; exact h
    · rw [z, N_inj (by omega) (by omega)] at h; omega
  have noH : ∀ q, q < nh → HA A q ≠ N np := fun q hq z => by
    rcases c q hq with h | ⟨x, hx, h⟩
    · rw [z, N_m1 (by omega)] at h; exact h
    · rw [z, N_inj (by omega) (by omega)] at h; omega
  refine ⟨⟨if_pos rfl, by omega, o4.trans a3, a4, a5, by rw [o8]; exact a6⟩, fun q hq => ?_, fun q hq => ?_, fun q h1 h2 => ?_, fun q r hq hr => ?_, fun q r hq hr => ?_, fun q r hq hr => ?_⟩
  · by_cases c1 : q = np
    · rw [c1, n0, n1, n2, n3, n4, n5]
      exact ⟨Or.inr ⟨np, by omega, rfl⟩, Or.inl rfl, Or.inl rfl, ⟨m0, h0, rfl⟩, ⟨m1, h1, rfl⟩, 0, by omega, rfl⟩
    · obtain ⟨b1, b2, b3, b4, b5, m, b6, b7⟩ := b q (by omega)
      rw [oP q 0 (by omega) (by omega), oP q 1 (by omega) (by omega), oP q 2 (by omega) (by omega), oP q 3 (by omega) (by omega), oP q 4 (by omega) (by omega), oP q 5 (by omega) (by omega)]
      exact ⟨up _ b1, b2, up _ b3, b4, b5, m, by omega, b7⟩
  · rw [oH q (by omega)]; exact up _ (c q hq)
  · rw [oH q h2]; exact d' q h1 h2
  · by_cases c1 : q = np
    · by_cases c2 : r = np
      · intro _ _; omega
      · rw [c1, n2, oP r 2 (by omega) (by omega)]
        intro h; exact absurd h.symm (no r (by omega))
    · by_cases c2 : r = np
      · rw [c2, n2, oP q 2 (by omega) (by omega)]
        intro h; exact absurd h (no q (by omega))
      · rw [oP q 2 (by omega) (by omega), oP r 2 (by omega) (by omega)]; exact e' q r (by omega) (by omega)
  · rw [oH r (by omega)]
    by_cases c1 : q = np
    · rw [c1, n2]; intro h; exact absurd h.symm (noH r hr)
    · rw [oP q 2 (by omega) (by omega)]; exact f q r (by omega) hr
  · rw [oH q (by omega), oH r (by omega)]; exact g q r hq hr
theorem WF_field {p v : Nat} {x : Int32} (hw : WF A np nh) (hp : p < np) (hv : (v = 4 ∧ okF np x) ∨ (v = 5 ∧ ∃ m, m < 2 ^ np ∧ x = N m)) : WF (up1 A (12 + 6 * p + v) x) np nh := by
  have hn := hw.1.2.1
  have e1 : ∀ i, i ≠ 12 + 6 * p + v → up1 A (12 + 6 * p + v) x i = A i := fun i hi => if_neg hi
  have o : ∀ q u, u < 6 → (q ≠ p ∨ u ≠ v) → PA (up1 A (12 + 6 * p + v) x) q u = PA A q u := fun q u hu h => e1 _ (by omega)
  have s : PA (up1 A (12 + 6 * p + v) x) p v = x := if_pos rfl
  have oH : ∀ h, HA (up1 A (12 + 6 * p + v) x) h = HA A h := fun h => e1 _ (by omega)
  obtain ⟨⟨a1, a2, a3, a4, a5, a6⟩, b, c, d', e', f, g⟩ := hw
  refine ⟨⟨(e1 3 (by omega)).trans a1, a2, (e1 4 (by omega)).trans a3, a4, a5, by rw [e1 8 (by omega)]; exact a6⟩, fun q hq => ?_, fun q hq => by rw [oH]; exact c q hq, fun q h1 h2 => by rw [oH]; exact d' q h1 h2, fun q r hq hr => by rw [o q 2 (by omega) (by omega), o r 2 (by omega) (by omega)]; exact e' q r hq hr, fun q r hq hr => by rw [o q 2 (by omega) (by omega), oH]; exact f q r hq hr, fun q r hq hr => by rw [oH, oH]; exact g q r hq hr⟩
  obtain ⟨w1, w2, w3, w4, w5, w6⟩ := b q hq
  refine ⟨by rw [o q 2 (by omega) (by omega)]; exact w1, by rw [o q 3 (by omega) (by omega)]; exact w2, ?_, by rw [o q 0 (by omega) (by omega)]; exact w4, by rw [o q 1 (by omega) (by omega)]; exact w5, ?_⟩
  · by_cases z : q = p ∧ v = 4
    · obtain ⟨z1, z2⟩ := z
      subst z1
      subst z2
      rw [s]
      rcases hv with hv | hv
      · exact hv.2
      · omega
    · rw [o q 4 (by omega) (by omega)]; exact w3
  · by_cases z : q = p ∧ v = 5
    · obtain ⟨z1, z2⟩ := z
      subst z1
      subst z2
      rw [s]
      rcases hv with hv | hv
      · omega
      · exact hv.2
    · rw [o q 5 (by omega) (by omega)]; exact w6
theorem RK_up {j : Nat} {x : Int32} (hj : 3 ≤ j ∧ j < 584) : RK A (up1 A j x) := ⟨⟨if_neg (by omega), if_neg (by omega), if_neg (by omega)⟩, fun i hi => if_neg (by omega)⟩
theorem RK.tr {A B C : Row} (h : RK A B) (g : RK B C) : RK A C := ⟨⟨g.1.1.trans h.1.1, g.1.2.1.trans h.1.2.1, g.1.2.2.trans h.1.2.2⟩, fun j hj => (g.2 j hj).trans (h.2 j hj)⟩
theorem RK_who {m0 m1 : Nat} (hn : np < 10) : RK A (rWho A np m0 m1) := by
  have key : ∀ j, j < 3 ∨ 584 ≤ j → rWho A np m0 m1 j = A j := fun j hj => by
    unfold rWho
    rw [if_neg (by omega), if_neg (by omega), if_neg (by omega), if_neg (by omega), if_neg (by omega), if_neg (by omega), if_neg (by omega), if_neg (by omega), if_neg (by omega)]
  exact ⟨⟨key 0 (by omega), key 1 (by omega), key 2 (by omega)⟩, fun j hj => key j (by omega)⟩
theorem RK_wish {p : Nat} {l : List Nat} (hp : p < 10) : RK A (rWish A p l) := ⟨⟨if_neg (by omega), if_neg (by omega), if_neg (by omega)⟩, fun j hj => if_neg (by omega)⟩
theorem WF_wish {p : Nat} {l : List Nat} (hw : WF A np nh) (hp : p < np) : WF (rWish A p l) np nh := by
  have hn := hw.1.2.1
  have e1 : ∀ i, ¬ (72 + 10 * p ≤ i ∧ i < 82 + 10 * p) → rWish A p l i = A i := fun i hi => if_neg hi
  refine WF_of hw (e1 3 (by omega)) (e1 4 (by omega)) ?_ (fun q hq => ?_) (fun q hq => e1 _ (by omega)) fun h hh => e1 _ (by omega)
  · rw [e1 8 (by omega)]; exact hw.1.2.2.2.2.2
  · have o : ∀ u, u < 6 → PA (rWish A p l) q u = PA A q u := fun u hu => e1 _ (by omega)
    rw [o 0 (by omega), o 1 (by omega), o 3 (by omega), o 4 (by omega), o 5 (by omega)]
    exact WF_P hw hq
theorem WF_hook {n : Nat} (hw : WF A np nh) (h1 : 1 ≤ n) (h2 : n ≤ 12) (ht : tkFrom A np (12 - n) n = false) : WF (up1 A 4 (N n)) np n := by
  obtain ⟨⟨a1, a2, a3, a4, a5, a6⟩, b, c, d', e', f, g⟩ := id hw
  have tk := tkFrom_iff (A := A) (np := np) (12 - n) n |>.mp ht
  have nt : ∀ u, n ≤ u → u < 12 → HA A u = M1 ∧ aTicket A np (N u) = none := fun u u1 u2 => by
    have := tk u u1 (by omega)
    unfold tkH at this
    rw [Bool.or_eq_false_iff, Bool.not_eq_false', decide_eq_true_iff] at this
    refine ⟨this.1, ?_⟩
    cases hh : aTicket A np (N u) with
    | none => rfl
    | some p => rw [hh] at this; cases this.2
  have o : ∀ i, i ≠ 4 → up1 A 4 (N n) i = A i := fun i hi => if_neg hi
  have oP : ∀ q v, PA (up1 A 4 (N n)) q v = PA A q v := fun q v => o _ (by omega)
  have oH : ∀ q, HA (up1 A 4 (N n)) q = HA A q := fun q => o _ (by omega)
  have hm : ∀ q, q < 12 → ¬ q < nh → HA A q = M1 := fun q h1 h2 => d' q (by omega) h1
  refine ⟨⟨(o 3 (by omega)).trans a1, a2, if_pos rfl, h1, h2, by rw [o 8 (by omega)]; exact a6⟩, fun q hq => ?_, fun q hq => ?_, fun q u1 u2 => ?_, fun q r hq hr => ?_, fun q r hq hr => ?_, fun q r hq hr => ?_⟩
  · obtain ⟨b1, b2, b3, b4, b5, b6⟩ := b q hq
    rw [oP, oP, oP, oP, oP, oP]
    refine ⟨b1, ?_, b3, b4, b5, b6⟩
    rcases b2 with z | ⟨x, hx, z⟩
    · exact Or.inl z
    · refine Or.inr ⟨x, ?_, z⟩
      apply Classical.byContradiction
      intro hc
      have := (nt x (by omega) (by omega)).2
      exact (sr_none np 0).mp this q (by omega) (by omega) z
  · rw [oH]
    by_cases z : q < nh
    · exact c q z
    · exact Or.inl (hm q (by omega) z)
  · rw [oH]; exact (nt q u1 u2).1
  · rw [oP, oP]; exact e' q r hq hr
  · rw [oP, oH]
    by_cases z : r < nh
    · exact f q r hq z
    · rw [hm r (by omega) z]; exact id
  · rw [oH, oH]
    by_cases z : q < nh
    · by_cases y : r < nh
      · exact g q r z y
      · rw [hm r (by omega) y]; intro i1 i2; exact absurd i1 i2
    · rw [hm q (by omega) z]; intro _ i2; exact absurd rfl i2
theorem WF_o67 {j : Nat} {x : Int32} (hw : WF A np nh) (hj : j = 6 ∨ j = 7) : WF (up1 A j x) np nh := by
  have hn := hw.1.2.1
  have e1 : ∀ i, i ≠ j → up1 A j x i = A i := fun i hi => if_neg hi
  refine WF_of hw (e1 3 (by omega)) (e1 4 (by omega)) ?_ (fun q hq => ?_) (fun q hq => e1 _ (by omega)) fun h hh => e1 _ (by omega)
  · rw [e1 8 (by omega)]; exact hw.1.2.2.2.2.2
  · have o : ∀ u, u < 6 → PA (up1 A j x) q u = PA A q u := fun u hu => e1 _ (by omega)
    rw [o 0 (by omega), o 1 (by omega), o 3 (by omega), o 4 (by omega), o 5 (by omega)]
    exact WF_P hw hq
theorem WF_bt {p q : Nat} (hw : WF A np nh) (hp : p < np) (hq : q < np) : WF (up1 A (12 + 6 * p + 5) (PA A p 5 ||| bt q)) np nh := by
  have hn := hw.1.2.1
  obtain ⟨m, m1, m2⟩ := (hw.2.1 p hp).2.2.2.2.2
  refine WF_field hw hp (Or.inr ⟨rfl, m ||| 2 ^ q, Nat.or_lt_two_pow m1 (Nat.pow_lt_pow_right (by omega) hq), ?_⟩)
  rw [m2, bt_N q (by omega), N_or]
theorem knP_ok {p : Nat} (hT : TX T e) (hp : p < np) : ∀ n (A : Row) k o, WF A np nh → k ≤ e → knP T e np p n A k = .ok o → WF o.1 np nh ∧ RK A o.1 ∧ k < o.2 ∧ o.2 ≤ e := by
  intro n
  induction n with
  | zero => intro A k o _ _ h; cases h
  | succ n ih =>
    intro A k o hw hk h
    have hn := hw.1.2.1
    have nk := numP_k (lo := 0) (n := np) hT hk
    rw [knP] at h
    unfold pb at h
    cases r : numP T e 0 np k with
    | error q => rw [r] at h; cases h
    | ok o1 =>
      rw [r] at h nk
      obtain ⟨n1, n2, n3, n4⟩ := nk
      have s1 := sk_le (T := T) n4
      have s2 := sk_ge (T := T) (e := e) (k := o1.2)
      have w1 := WF_bt hw hp n2
      have k1 : RK A (up1 A (12 + 6 * p + 5) (PA A p 5 ||| bt o1.1)) := ⟨⟨if_neg (by omega), if_neg (by omega), if_neg (by omega)⟩, fun j hj => if_neg (by omega)⟩
      dsimp only at h
      by_cases c : o1.1 = p
      · rw [if_pos c] at h; cases h
      · rw [if_neg c] at h
        by_cases cf : fgB T (sk T e o1.2) = true
        · rw [if_pos cf] at h
          obtain ⟨i1, ⟨⟨i2, i3, i4⟩, i5⟩, i6, i7⟩ := ih _ _ o w1 s1 h
          exact ⟨i1, ⟨⟨i2.trans k1.1.1, i3.trans k1.1.2.1, i4.trans k1.1.2.2⟩, fun j hj => (i5 j hj).trans (k1.2 j hj)⟩, by omega, i7⟩
        · rw [if_neg cf] at h
          cases h
          exact ⟨w1, k1, by show k < sk T e o1.2; omega, s1⟩
theorem dline_ok (hT : TX T e) (hw : WF A np nh) (hk : k ≤ e) {o : Row × Nat} (h : dlineP T e A np k = .ok o) : (∃ np' nh', WF o.1 np' nh') ∧ RK A o.1 ∧ k < o.2 ∧ o.2 ≤ e := by
  have hn := hw.1.2.1
  have h0 := sk_ge (T := T) (e := e) (k := k)
  have h1 := sk_le (T := T) hk
  have h2 := wd_ge (T := T) (e := e) (k := sk T e k)
  have h3 := wd_le (T := T) h1
  unfold dlineP at h
  dsimp only at h
  by_cases c1 : isW T e (sk T e k) wPerson = true
  · rw [if_pos c1] at h
    unfold whoP at h
    by_cases c10 : np = 10
    · rw [if_pos c10] at h; cases h
    · rw [if_neg c10] at h
      unfold pb at h
      have m0 := markP_k hT h3
      cases r0 : markP T e (wd T e (sk T e k)) with
      | error p => rw [r0] at h; cases h
      | ok o0 =>
        rw [r0] at h m0
        obtain ⟨a1, a2, a3⟩ := m0
        dsimp only at h
        have m1 := markP_k hT a3
        cases r1 : markP T e o0.2 with
        | error p => rw [r1] at h; cases h
        | ok o1 =>
          rw [r1] at h m1
          obtain ⟨b1, b2, b3⟩ := m1
          cases h
          have hn10 : np < 10 := by omega
          exact ⟨⟨np + 1, nh, WF_who hw hn10 a1 b1⟩, RK_who hn10, by show k < o1.2; omega, b3⟩
  rw [if_neg c1] at h
  by_cases c2 : isW T e (sk T e k) wWish = true
  · rw [if_pos c2] at h
    unfold wishP pb at h
    have nk := numP_k (lo := 0) (n := np) hT h3
    cases r : numP T e 0 np (wd T e (sk T e k)) with
    | error q => rw [r] at h; cases h
    | ok o1 =>
      rw [r] at h nk
      obtain ⟨n1, n2, n3, n4⟩ := nk
      dsimp only at h
      have lk := wlP_k hT hn 11 [] o1.2 n4 ⟨List.nodup_nil, fun x hx => by cases hx⟩ rfl
      cases r2 : wlP T e np 11 [] o1.2 with
      | error q => rw [r2] at h; cases h
      | ok o2 =>
        rw [r2] at h lk
        obtain ⟨l1, l2, l3⟩ := lk
        cases h
        exact ⟨⟨np, nh, WF_wish hw n2⟩, RK_wish (by omega), by show k < o2.2; omega, l3⟩
  rw [if_neg c2] at h
  by_cases c3 : isW T e (sk T e k) wWed = true
  · rw [if_pos c3] at h
    unfold wedP pb at h
    have nk := numP_k (lo := 0) (n := np) hT h3
    cases r : numP T e 0 np (wd T e (sk T e k)) with
    | error q => rw [r] at h; cases h
    | ok o1 =>
      rw [r] at h nk
      obtain ⟨n1, n2, n3, n4⟩ := nk
      dsimp only at h
      by_cases c : PA A o1.1 4 = M1
      · rw [if_pos c] at h
        have nk2 := numP_k (lo := 0) (n := np) hT n4
        cases r2 : numP T e 0 np o1.2 with
        | error q => rw [r2] at h; cases h
        | ok o2 =>
          rw [r2] at h nk2
          obtain ⟨p1, p2, p3, p4⟩ := nk2
          dsimp only at h
          by_cases c4 : PA A o2.1 4 = M1 ∧ o2.1 ≠ o1.1
          · rw [if_pos c4] at h
            cases h
            have w1 := WF_field (v := 4) (x := N o2.1) hw n2 (Or.inl ⟨rfl, Or.inr ⟨o2.1, p2, rfl⟩⟩)
            have w2 := WF_field (v := 4) (x := N o1.1) w1 p2 (Or.inl ⟨rfl, Or.inr ⟨o1.1, n2, rfl⟩⟩)
            exact ⟨⟨np, nh, w2⟩, (RK_up (by omega)).tr (RK_up (by omega)), by show k < o2.2; omega, p4⟩
          · rw [if_neg c4] at h; cases h
      · rw [if_neg c] at h; cases h
  rw [if_neg c3] at h
  by_cases c4 : isW T e (sk T e k) wKnows = true
  · rw [if_pos c4] at h
    unfold knowP pb at h
    have nk := numP_k (lo := 0) (n := np) hT h3
    cases r : numP T e 0 np (wd T e (sk T e k)) with
    | error q => rw [r] at h; cases h
    | ok o1 =>
      rw [r] at h nk
      obtain ⟨n1, n2, n3, n4⟩ := nk
      obtain ⟨i1, i2, i3, i4⟩ := knP_ok hT n2 (e + 1) A o1.2 o hw n4 h
      exact ⟨⟨np, nh, i1⟩, i2, by omega, i4⟩
  rw [if_neg c4] at h
  by_cases c5 : isW T e (sk T e k) wHooks = true
  · rw [if_pos c5] at h
    unfold hookP pb at h
    have nk := numP_k (lo := 1) (n := 13) hT h3
    cases r : numP T e 1 13 (wd T e (sk T e k)) with
    | error q => rw [r] at h; cases h
    | ok o1 =>
      rw [r] at h nk
      obtain ⟨n1, n2, n3, n4⟩ := nk
      dsimp only at h
      by_cases c : tkFrom A np (12 - o1.1) o1.1 = true
      · rw [if_pos c] at h; cases h
      · rw [if_neg c] at h
        cases h
        exact ⟨⟨np, o1.1, WF_hook hw n1 (by omega) (Bool.eq_false_iff.mpr c)⟩, RK_up (by omega), by show k < o1.2; omega, n4⟩
  rw [if_neg c5] at h
  have fl : ∀ j, j = 6 ∨ j = 7 → fldP T e A j (wd T e (sk T e k)) = .ok o → (∃ np' nh', WF o.1 np' nh') ∧ RK A o.1 ∧ k < o.2 ∧ o.2 ≤ e := fun j hj h => by
    unfold fldP pb at h
    have nk := numP_k (lo := 0) (n := 101) hT h3
    cases r : numP T e 0 101 (wd T e (sk T e k)) with
    | error q => rw [r] at h; cases h
    | ok o1 =>
      rw [r] at h nk
      obtain ⟨n1, n2, n3, n4⟩ := nk
      cases h
      exact ⟨⟨np, nh, WF_o67 hw hj⟩, RK_up (by omega), by show k < o1.2; omega, n4⟩
  by_cases c6 : isW T e (sk T e k) wMix = true
  · rw [if_pos c6] at h; exact fl 6 (Or.inl rfl) h
  rw [if_neg c6] at h
  by_cases c7 : isW T e (sk T e k) wThief = true
  · rw [if_pos c7] at h; exact fl 7 (Or.inr rfl) h
  rw [if_neg c7] at h
  cases h
theorem kPerson (h : KS σ) : KW (BIG + 2 * 0) wPerson σ := kw_of h (by decide) rfl (by decide) (by decide)
theorem kWish (h : KS σ) : KW (BIG + 2 * 1) wWish σ := kw_of h (by decide) rfl (by decide) (by decide)
theorem kKnows (h : KS σ) : KW (BIG + 2 * 3) wKnows σ := kw_of h (by decide) rfl (by decide) (by decide)
theorem kHooks (h : KS σ) : KW (BIG + 2 * 4) wHooks σ := kw_of h (by decide) rfl (by decide) (by decide)
theorem kMix (h : KS σ) : KW (BIG + 2 * 5) wMix σ := kw_of h (by decide) rfl (by decide) (by decide)
theorem kThief (h : KS σ) : KW (BIG + 2 * 6) wThief σ := kw_of h (by decide) rfl (by decide) (by decide)
theorem MOL_w {r : PR Row} {o : Option Mm} (h : MOL e σ d r o) : MOL e σ d r (o.bind fun x => some x) := by
  cases o with
  | none => exact h
  | some x => exact h
theorem M_doorL (hT : TX T e) (h : MDo T e σ) (hK : KS σ) (hA : mI σ 63 = A) (hw : WF A np nh) (hk : k ≤ e) : MOL e σ d (dlineP T e A np k) (FX8_doorLine 62 (ms σ (N k) M1 d)) := by
  have hn := hw.1.2.1
  have hnn := hw.1.1
  have h1 := sk_le (T := T) hk
  have hs := sk_at hT hk
  have h3 := wd_le (T := T) h1
  have hM := h.mt
  have hk' : ∀ a, KS (ms σ a M1 d) := fun a => KS_ms hK
  unfold FX8_doorLine dlineP
  dsimp only
  rw [s_ck h.1, M_place hT hM hk, Option.bind_some]
  try dsimp only
  rw [s_ck h.1]
  by_cases c1 : isW T e (sk T e k) wPerson = true
  · rw [if_pos c1, M_has1 hT hM (fun a => kPerson (hk' a)) h1 hs c1, Option.bind_some]
    try dsimp only
    rw [if_neg (show ¬ N 1 = 0 by decide), s_ck h.1]
    exact MOL_w (M_whoL hT h hA hnn hn h3 h1)
  rw [if_neg c1, M_has0 hT hM (fun a => kPerson (hk' a)) h1 hs c1, Option.bind_some]
  try dsimp only
  rw [if_pos (show N 0 = 0 from rfl), s_ck h.1]
  by_cases c2 : isW T e (sk T e k) wWish = true
  · rw [if_pos c2, M_has1 hT hM (fun a => kWish (hk' a)) h1 hs c2, Option.bind_some]
    try dsimp only
    rw [if_neg (show ¬ N 1 = 0 by decide), s_ck h.1]
    exact MOL_w (M_wishL hT h hA hnn hn h3)
  rw [if_neg c2, M_has0 hT hM (fun a => kWish (hk' a)) h1 hs c2, Option.bind_some]
  try dsimp only
  rw [if_pos (show N 0 = 0 from rfl), s_ck h.1]
  by_cases c3 : isW T e (sk T e k) wWed = true
  · rw [if_pos c3, M_has1 hT hM (fun a => kWed (hk' a)) h1 hs c3, Option.bind_some]
    try dsimp only
    rw [if_neg (show ¬ N 1 = 0 by decide), s_ck h.1]
    exact MOL_w (M_wedL hT h hA hnn hn h3)
  rw [if_neg c3, M_has0 hT hM (fun a => kWed (hk' a)) h1 hs c3, Option.bind_some]
  try dsimp only
  rw [if_pos (show N 0 = 0 from rfl), s_ck h.1]
  by_cases c4 : isW T e (sk T e k) wKnows = true
  · rw [if_pos c4, M_has1 hT hM (fun a => kKnows (hk' a)) h1 hs c4, Option.bind_some]
    try dsimp only
    rw [if_neg (show ¬ N 1 = 0 by decide), s_ck h.1]
    exact MOL_w (M_knowL hT h hA hnn hn h3)
  rw [if_neg c4, M_has0 hT hM (fun a => kKnows (hk' a)) h1 hs c4, Option.bind_some]
  try dsimp only
  rw [if_pos (show N 0 = 0 from rfl), s_ck h.1]
  by_cases c5 : isW T e (sk T e k) wHooks = true
  · rw [if_pos c5, M_has1 hT hM (fun a => kHooks (hk' a)) h1 hs c5, Option.bind_some]
    try dsimp only
    rw [if_neg (show ¬ N 1 = 0 by decide)]
    exact M_hookL hT h hA hw h3
  rw [if_neg c5, M_has0 hT hM (fun a => kHooks (hk' a)) h1 hs c5, Option.bind_some]
  try dsimp only
  rw [if_pos (show N 0 = 0 from rfl), s_ck h.1]
  by_cases c6 : isW T e (sk T e k) wMix = true
  · rw [if_pos c6, M_has1 hT hM (fun a => kMix (hk' a)) h1 hs c6, Option.bind_some]
    try dsimp only
    rw [if_neg (show ¬ N 1 = 0 by decide)]
    exact M_fldL hT h hA (by omega) h3
  rw [if_neg c6, M_has0 hT hM (fun a => kMix (hk' a)) h1 hs c6, Option.bind_some]
  try dsimp only
  rw [if_pos (show N 0 = 0 from rfl), s_ck h.1]
  by_cases c7 : isW T e (sk T e k) wThief = true
  · rw [if_pos c7, M_has1 hT hM (fun a => kThief (hk' a)) h1 hs c7, Option.bind_some]
    try dsimp only
    rw [if_neg (show ¬ N 1 = 0 by decide)]
    exact M_fldL hT h hA (by omega) h3
  rw [if_neg c7, M_has0 hT hM (fun a => kThief (hk' a)) h1 hs c7, Option.bind_some]
  try dsimp only
  rw [if_pos (show N 0 = 0 from rfl), s_g11 h.1, Option.bind_some, s_ck h.1, M_wrong0 h.1, Option.bind_some]
  exact ⟨A, _, h1, by rw [← hA, wA_self]⟩
end
