/-! THE PLAIN LAW, 144: the door read by the model; the component's tools -/
set_option maxRecDepth 100000
def doorL (T : Nat → Nat) (e : Nat) : Nat → Row → Nat → PR Row
  | 0, _, k => .error (sk T e k)
  | n + 1, A, k => pb (dlineP T e A (ix (A 3)) k) fun B k2 => if sk T e k2 = e then .ok (B, e) else if T (sk T e k2) = 59 then doorL T e n B (sk T e k2 + 1) else .error (sk T e k2)
def doorP (T : Nat → Nat) (e : Nat) (A : Row) : PR Row := if sk T e 0 = e then .ok (A, e) else doorL T e 14 A (sk T e 0)
section
variable {T : Nat → Nat} {e k np nh : Nat} {σ : Mm} {b d : Int32} {A : Row}
theorem dl_sk (hT : TX T e) (hk : k ≤ e) : dlineP T e A np (sk T e k) = dlineP T e A np k := by unfold dlineP; rw [sk_sk hT hk]
/-- the place of an error is in the text -/
theorem dline_er (hT : TX T e) (hn : np ≤ 10) (hk : k ≤ e) {p : Nat} (h : dlineP T e A np k = .error p) : p ≤ e := by
  have h1 := sk_le (T := T) hk
  have h3 := wd_le (T := T) h1
  have nk : ∀ {lo n j q}, j ≤ e → numP T e lo n j = .error q → q ≤ e := fun {lo n j q} hj hq => by
    have := numP_k (lo := lo) (n := n) hT hj
    rw [hq] at this; exact this.2
  have nk2 : ∀ {lo n j o}, j ≤ e → numP T e lo n j = .ok o → o.2 ≤ e := fun {lo n j o} hj hq => by
    have := numP_k (lo := lo) (n := n) hT hj
    rw [hq] at this; exact this.2.2.2
  have mk : ∀ {j q}, j ≤ e → markP T e j = .error q → q ≤ e := fun {j q} hj hq => by
    have := markP_k hT hj
    rw [hq] at this; exact this.2
  have mk2 : ∀ {j o}, j ≤ e → markP T e j = .ok o → o.2 ≤ e := fun {j o} hj hq => by
    have := markP_k hT hj
    rw [hq] at this; exact this.2.2
  have fl : ∀ j, fldP T e A j (wd T e (sk T e k)) = .error p → p ≤ e := fun j h => by
    unfold fldP pb at h
    cases r : numP T e 0 101 (wd T e (sk T e k)) with
    | error q => rw [r] at h; cases h; exact nk h3 r
    | ok o => rw [r] at h; cases h
  unfold dlineP at h
  dsimp only at h
  split at h
  · unfold whoP at h
    split at h
    · cases h; exact h1
    · unfold pb at h
      cases r0 : markP T e (wd T e (sk T e k)) with
      | error q => rw [r0] at h; cases h; exact mk h3 r0
      | ok o0 =>
        rw [r0] at h
        dsimp only at h
        cases r1 : markP T e o0.2 with
        | error q => rw [r1] at h; cases h; exact mk (mk2 h3 r0) r1
        | ok o1 => rw [r1] at h; cases h
  split at h
  · unfold wishP pb at h
    cases r : numP T e 0 np (wd T e (sk T e k)) with
    | error q => rw [r] at h; cases h; exact nk h3 r
    | ok o1 =>
      rw [r] at h
      dsimp only at h
      have lk := wlP_k hT hn 11 [] o1.2 (nk2 h3 r) ⟨List.nodup_nil, fun x hx => by cases hx⟩ rfl
      cases r2 : wlP T e np 11 [] o1.2 with
      | error q => rw [r2] at h lk; cases h; exact lk
      | ok o2 => rw [r2] at h; cases h
  split at h
  · unfold wedP pb at h
    cases r : numP T e 0 np (wd T e (sk T e k)) with
    | error q => rw [r] at h; cases h; exact nk h3 r
    | ok o1 =>
      rw [r] at h
      dsimp only at h
      split at h
      · cases r2 : numP T e 0 np o1.2 with
        | error q => rw [r2] at h; cases h; exact nk (nk2 h3 r) r2
        | ok o2 =>
          rw [r2] at h
          dsimp only at h
          split at h
          · cases h
          · cases h; exact sk_le (T := T) (nk2 h3 r)
      · cases h; exact sk_le (T := T) h3
  split at h
  · unfold knowP pb at h
    cases r : numP T e 0 np (wd T e (sk T e k)) with
    | error q => rw [r] at h; cases h; exact nk h3 r
    | ok o1 =>
      rw [r] at h
      dsimp only at h
      have key : ∀ n (B : Row) j, j ≤ e → e - j < n → knP T e np o1.1 n B j = .error p → p ≤ e := by
        intro n
        induction n with
        | zero => intro B j _ hh; omega
        | succ n ih =>
          intro B j hj hh hq
          rw [knP] at hq
          unfold pb at hq
          cases r2 : numP T e 0 np j with
          | error q => rw [r2] at hq; cases hq; exact nk hj r2
          | ok o2 =>
            have nkk := numP_k (lo := 0) (n := np) hT hj
            rw [r2] at hq nkk
            dsimp only at hq
            have s2 := sk_ge (T := T) (e := e) (k := o2.2)
            have nk3 := nkk.2.2.1
            split at hq
            · cases hq; exact sk_le (T := T) hj
            · split at hq
              · exact ih _ _ (sk_le (T := T) nkk.2.2.2) (by omega) hq
              · cases hq
      exact key (e + 1) A o1.2 (nk2 h3 r) (by omega) h
  split at h
  · unfold hookP pb at h
    cases r : numP T e 1 13 (wd T e (sk T e k)) with
    | error q => rw [r] at h; cases h; exact nk h3 r
    | ok o1 =>
      rw [r] at h
      dsimp only at h
      split at h
      · cases h; exact sk_le (T := T) h3
      · cases h
  split at h
  · exact fl 6 h
  split at h
  · exact fl 7 h
  · cases h; exact h1
def MRL (e : Nat) (σ : Mm) (d : Int32) (r : PR Row) (o : Option (Int32 × Mm)) : Prop := match r with
  | .ok x => ∃ v, o = some (v, ms (wA σ 63 x.1) (N x.2) M1 d)
  | .error p => ∃ v g b, b ≤ e ∧ o = some (v, ms (wA σ 63 g) (N b) (N p) d)
theorem M_read_x0 {a p n : Nat} {d' : Int32} {v : Nat} {ρ : Mm} (hM : FM ρ) (hp : p < 2147483648) : ∀ x, FX8_read_23 62 (N 0) (n + 2) (N x) (N v) (ms ρ (N a) (N p) d') (fun x σ => some (x, σ)) = some (N v, ms ρ (N a) (N p) d') := by
  intro x
  rw [FX8_read_23]
  by_cases c : N x = 0
  · rw [if_pos c]
  · rw [if_neg c, s_g12 hM, Option.bind_some, if_neg (show ¬ N p = -1 by rw [m1_, N_m1 hp]; exact id)]
theorem M_dread_23 (hT : TX T e) (h : MDo T e σ) (hK : KS σ) : ∀ (n c : Nat) (A : Row) (np nh k m : Nat), WF A np nh → k ≤ e → c + n = 14 → n + 4 ≤ m → MRL e σ d (doorL T e n A k) (FX8_read_23 62 (N 0) m (N 1) (N c) (ms (wA σ 63 A) (N k) M1 d) (fun x σ => some (x, σ))) := by
  have he := hT.1
  intro n
  induction n with
  | zero =>
    intro c A np nh k m hw hk hc hm
    obtain ⟨m, rfl⟩ : ∃ m', m = m' + 3 := ⟨m - 3, by omega⟩
    have h1 := sk_le (T := T) hk
    have hs1 := sk_at hT hk
    have hM : MT T e (wA σ 63 A) := MDo.mt (MDo.w h)
    rw [doorL, FX8_read_23, if_neg (show ¬ (N 1 : Int32) = 0 by decide), s_g12 hM.1, Option.bind_some, m1_, if_pos rfl, d_ck h, M_skip hT hM (by omega), Option.bind_some]
    unfold jn
    dsimp only
    rw [if_pos (show (N 0 : Int32) = 0 from rfl), show (14 : Int32) = N 14 from rfl, if_pos (by rw [show c = 14 by omega]), s_g11 hM.1, Option.bind_some, d_ck h, M_wrong0 hM.1, Option.bind_some, d_ck h, M_skip hT hM (by omega), Option.bind_some, s_g12 hM.1, Option.bind_some, if_neg (by rw [N_m1 (by omega)]; exact id), l1_, N_add, l0_]
    exact ⟨_, A, _, by rw [sk_sk hT hk]; exact h1, M_read_x0 (n := m) hM.1 (by omega : sk T e k < 2147483648) 0⟩
  | succ n ih =>
    intro c A np nh k m hw hk hc hm
    obtain ⟨m, rfl⟩ : ∃ m', m = m' + 3 := ⟨m - 3, by omega⟩
    have h1 := sk_le (T := T) hk
    have hn := hw.1.2.1
    have hM : MT T e (wA σ 63 A) := MDo.mt (MDo.w h)
    have hp := M_doorL (σ := wA σ 63 A) (d := d) hT (MDo.w h) (KS_wA (by have hB : BIG = 1000000 := rfl; omega) hK) (show mI (wA σ 63 A) 63 = A by rw [mI_wA, if_pos rfl]) hw h1
    rw [dl_sk hT hk] at hp
    rw [doorL, FX8_read_23, if_neg (show ¬ (N 1 : Int32) = 0 by decide), s_g12 hM.1, Option.bind_some, m1_, if_pos rfl, d_ck h, M_skip hT hM (by omega), Option.bind_some, hw.1.1, ix_N (by omega)]
    unfold jn
    dsimp only
    rw [if_pos (show (N 0 : Int32) = 0 from rfl), show (14 : Int32) = N 14 from rfl, if_neg (by rw [N_inj (by omega) (by omega)]; omega), if_pos (show (N 0 : Int32) = 0 from rfl), d_ck h]
    unfold pb
    cases r : dlineP T e A np k with
    | error p =>
      have hpe := dline_er hT hn hk r
      rw [r] at hp
      obtain ⟨g, b', hb', hp⟩ := hp
      rw [wA_wA] at hp
      have hM2 : MT T e (wA σ 63 g) := MDo.mt (MDo.w h)
      rw [hp, Option.bind_some, d_ck h, M_skip hT hM2 (by omega), Option.bind_some, s_g12 hM2.1, Option.bind_some, if_neg (by rw [N_m1 (by omega)]; exact id), l1_, N_add, l0_]
      exact ⟨_, g, _, sk_le (T := T) hb', M_read_x0 (n := m) hM2.1 (by omega : p < 2147483648) 0⟩
    | ok o =>
      obtain ⟨⟨np', nh', w'⟩, rk, k1, k2⟩ := dline_ok hT hw hk r
      rw [r] at hp
      have hp' : FX8_doorLine 62 (ms (wA σ 63 A) (N (sk T e k)) M1 d) = some (ms (wA (wA σ 63 A) 63 o.1) (N o.2) M1 d) := hp
      rw [wA_wA] at hp'
      have hM2 : MT T e (wA σ 63 o.1) := MDo.mt (MDo.w h)
      have h4 := sk_le (T := T) k2
      have hs4 := sk_at hT k2
      rw [hp', Option.bind_some, d_ck h, M_skip hT hM2 (by omega), Option.bind_some, s_g12 hM2.1, Option.bind_some, if_pos rfl, s_g11 hM2.1, Option.bind_some, s_g10 hM2, Option.bind_some]
      dsimp only
      by_cases c1 : sk T e o.2 = e
      · rw [if_pos c1, if_pos (by rw [c1])]
        exact ⟨_, by rw [FX8_read_23, if_pos (show (0 : Int32) = 0 from rfl), c1]⟩
      · rw [if_neg c1, if_neg (show ¬ N (sk T e o.2) = N e by rw [N_inj (by omega) (by omega)]; exact c1), d_ck h, l59_, M_isSign hT hM2 h4 (by omega), Option.bind_some, sk_eq hs4]
        dsimp only
        by_cases c2 : T (sk T e o.2) = 59
        · have h5 := hT.lt (k := sk T e o.2) (by omega)
          rw [if_pos c2, if_pos c2, if_neg (show ¬ (N 1 : Int32) = 0 by decide), s_g11 hM2.1, Option.bind_some, s_p11 hM2.1, Option.bind_some, l1_, N_add, N_add]
          exact ih (c + 1) o.1 np' nh' (sk T e o.2 + 1) (m + 2) w' h5 (by omega) (by omega)
        · rw [if_neg c2, if_neg c2, if_pos (show (N 0 : Int32) = 0 from rfl), s_g11 hM2.1, Option.bind_some, d_ck h, M_wrong0 hM2.1, Option.bind_some, l1_, N_add]
          exact ⟨_, o.1, _, h4, M_read_x0 (n := m) hM2.1 (by omega : sk T e o.2 < 2147483648) 1⟩
theorem M_dread (hT : TX T e) (h : MDo T e σ) (hK : KS σ) (hA : mI σ 63 = A) (hw : WF A np nh) : MRL e σ d (doorP T e A) (FX8_read 62 0 (ms σ (N 0) M1 d)) := by
  have he := hT.1
  have s0 : σ = wA σ 63 A := by rw [← hA, wA_self]
  have hM := h.mt
  have h1 := sk_le (T := T) (Nat.zero_le e)
  unfold FX8_read doorP
  rw [s_ck h.1, M_skip hT hM (by omega), Option.bind_some, s_g11 h.1, Option.bind_some, s_g10 hM, Option.bind_some]
  unfold jn
  dsimp only
  by_cases c : sk T e 0 = e
  · rw [if_pos c, if_pos (show N e ≤ N (sk T e 0) by rw [c]; exact (N_le (by omega) (by omega)).mpr (Nat.le_refl _)), show fu = 99999 + 1 from rfl, FX8_read_23, if_pos rfl, c]
    exact ⟨_, by rw [← s0]⟩
  · rw [if_neg c, if_neg (show ¬ N e ≤ N (sk T e 0) by rw [N_le (by omega) (by omega)]; omega), s0]
    have := M_dread_23 (d := d) hT h hK 14 0 A np nh (sk T e 0) fu hw h1 rfl (by unfold fu; omega)
    revert this
    cases doorL T e 14 A (sk T e 0) with
    | error p => rintro ⟨v, g, b', hb', h9⟩; exact ⟨v, g, b', hb', by rw [wA_wA]; exact h9⟩
    | ok o => rintro ⟨v, h9⟩; exact ⟨v, by rw [wA_wA]; exact h9⟩
end
