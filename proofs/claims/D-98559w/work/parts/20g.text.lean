/-! THE PLAIN LAW, 56: the model reads a text of the law -/
set_option maxRecDepth 100000
/-- what the law says: hands, fetches -/
def hs (σ : Mm) (h f : Bool) : Mm := wA σ 62 (up1 (up1 (mI σ 62) 17 (bN h)) 18 (bN f))
def coE (E : Nat → Int32) (x : Option Cn) : Bool := match x with
  | none => true
  | some c => c E
def lnE (E : Nat → Int32) (b : Bool) (l : List (Bool × Option Cn)) : Bool := l.any fun x => x.1 == b && coE E x.2
theorem hs_q {σ : Mm} {h f : Bool} {q : Nat} (hq : q ≠ 62) : mI (hs σ h f) q = mI σ q := if_neg hq
theorem hs_k {σ : Mm} {h f : Bool} {k : Nat} (hk : k ≠ 17 ∧ k ≠ 18) : mI (hs σ h f) 62 k = mI σ 62 k := by
  show up1 (up1 (mI σ 62) 17 (bN h)) 18 (bN f) k = _
  rw [up1_app, if_neg hk.2, up1_app, if_neg hk.1]
theorem hs_hs {σ : Mm} {h f h' f' : Bool} : hs (hs σ h f) h' f' = hs σ h' f' := by
  have e : up1 (up1 (up1 (up1 (mI σ 62) 17 (bN h)) 18 (bN f)) 17 (bN h')) 18 (bN f') = up1 (up1 (mI σ 62) 17 (bN h')) 18 (bN f') := by
    funext j; unfold up1
    repeat' split
    all_goals rfl
  show wA (wA σ 62 _) 62 (up1 (up1 (up1 (up1 (mI σ 62) 17 (bN h)) 18 (bN f)) 17 (bN h')) 18 (bN f')) = _
  rw [e, wA_wA]; rfl
theorem FM_hs {σ : Mm} {h f : Bool} (hm : FM σ) : FM (hs σ h f) := hm
theorem KS_hs {σ : Mm} {h f : Bool} (hm : KS σ) : KS (hs σ h f) := KS_wA (by have hB : BIG = 1000000 := rfl; omega) hm
theorem MT_hs {T : Nat → Nat} {e : Nat} {σ : Mm} {h f : Bool} (hm : MT T e σ) : MT T e (hs σ h f) := by
  unfold MT
  rw [hs_k (by omega), hs_k (by omega), hs_q (by omega), hs_q (by omega)]
  exact hm
theorem MB_hs {σ : Mm} {h f : Bool} (hm : MB σ) : MB (hs σ h f) := by
  unfold MB
  rw [hs_k (by omega), hs_k (by omega)]
  exact hm
theorem ME_hs {σ : Mm} {h f : Bool} : ME (hs σ h f) = ME σ := by
  unfold ME
  rw [hs_k (by omega), hs_k (by omega), hs_q (by omega)]
theorem ms_hs (σ : Mm) (h f : Bool) (a g d : Int32) : mI (ms (hs σ h f) a g d) 62 = up1 (up1 (up1 (up1 (up1 (mI σ 62) 17 (bN h)) 18 (bN f)) 11 a) 12 g) 13 d := rfl
theorem p17 {σ : Mm} {h f : Bool} {a g d : Int32} (hm : FM σ) : pZ 8 17 (some 62) 1 (ms (hs σ h f) a g d) = some (ms (hs σ true f) a g d) := by
  rw [fm_pZ (FM_ms (FM_hs hm)) (Or.inr rfl), ms_hs]
  congr 1
  have e : up1 (up1 (up1 (up1 (up1 (up1 (mI σ 62) 17 (bN h)) 18 (bN f)) 11 a) 12 g) 13 d) 17 1 = up1 (up1 (up1 (up1 (up1 (mI σ 62) 17 (bN true)) 18 (bN f)) 11 a) 12 g) 13 d := by
    funext j; unfold up1
    by_cases h1 : j = 17
    · subst h1; rfl
    · rw [if_neg h1]
      repeat' split
      all_goals first | rfl | contradiction
  rw [e]
  unfold ms hs
  rw [wA_wA, wA_wA, wA_wA]
  rfl
theorem p18 {σ : Mm} {h f : Bool} {a g d : Int32} (hm : FM σ) : pZ 8 18 (some 62) 1 (ms (hs σ h f) a g d) = some (ms (hs σ h true) a g d) := by
  rw [fm_pZ (FM_ms (FM_hs hm)) (Or.inr rfl), ms_hs]
  congr 1
  have e : up1 (up1 (up1 (up1 (up1 (up1 (mI σ 62) 17 (bN h)) 18 (bN f)) 11 a) 12 g) 13 d) 18 1 = up1 (up1 (up1 (up1 (up1 (mI σ 62) 17 (bN h)) 18 (bN true)) 11 a) 12 g) 13 d := by
    funext j; unfold up1
    by_cases h1 : j = 18
    · subst h1; rfl
    · rw [if_neg h1]
      repeat' split
      all_goals first | rfl | contradiction
  rw [e]
  unfold ms hs
  rw [wA_wA, wA_wA, wA_wA]
  rfl
/-- a line is read: what it says is added -/
def ML (e : Nat) (σ : Mm) (h f : Bool) (r : PR (Bool × Option Cn)) (o : Option Mm) : Prop := match r with
  | .ok u => o = some (ms (hs σ (h || (u.1.1 && coE (ME σ) u.1.2)) (f || (!u.1.1 && coE (ME σ) u.1.2))) (N u.2) M1 (N 0))
  | .error p => ∃ a d' h' f', a ≤ e + 7 ∧ o = some (ms (hs σ h' f') (N a) (N p) d')
section
variable {T : Nat → Nat} {e : Nat} {σ : Mm} {k : Nat} {h' f' : Bool}
theorem M_when (hT : TX T e) (h : MT T e σ) (hK : KS σ) (hB : MB σ) (hk : k ≤ e) (b : Bool) : ML e σ h' f' (whenP T e b k) (jn (fun (σ : Mm) => ck 8 62 σ <| (FX8_hask01 62 (some (BIG + 2 * 9)) σ).bind fun (x25, σ26) => jn (fun (z27 : Int32) (σ : Mm) => (gI 8 12 (some 62) σ).bind fun x28 => if x28 = (-1) then (if z27 = 0 then some σ else if bN b = 0 then (pZ 8 18 (some 62) 1 σ).bind fun σ29 => some σ29 else (pZ 8 17 (some 62) 1 σ).bind fun σ30 => some σ30) else some σ) fun J50 => if x25 = 0 then J50 1 σ26 else ck 8 62 σ26 <| (FX8_some 62 σ26).bind fun (x35, σ36) => if x35 = 0 then J50 0 σ36 else J50 1 σ36) fun J => J (ms (hs σ h' f') (N k) M1 (N 0))) := by
  have he := hT.1
  have h1 := sk_le (T := T) hk
  have hM := FM_hs (h := h') (f := f') h.1
  have hT2 := MT_hs (h := h') (f := f') h
  have hK2 := KS_hs (h := h') (f := f') hK
  have fin : ∀ (a : Nat) (v : Bool), (gI 8 12 (some 62) (ms (hs σ h' f') (N a) M1 (N 0))).bind (fun x28 => if x28 = (-1) then (if bN v = 0 then some (ms (hs σ h' f') (N a) M1 (N 0)) else if bN b = 0 then (pZ 8 18 (some 62) 1 (ms (hs σ h' f') (N a) M1 (N 0))).bind fun σ29 => some σ29 else (pZ 8 17 (some 62) 1 (ms (hs σ h' f') (N a) M1 (N 0))).bind fun σ30 => some σ30) else some (ms (hs σ h' f') (N a) M1 (N 0))) = some (ms (hs σ (h' || (b && v)) (f' || (!b && v))) (N a) M1 (N 0)) := fun a v => by
    rw [s_g12 hM, Option.bind_some, m1_, if_pos rfl]
    cases v
    · rw [if_pos (show (bN false : Int32) = 0 from rfl)]; cases b <;> cases h' <;> cases f' <;> rfl
    · rw [if_neg (show ¬ (bN true : Int32) = 0 by decide)]
      cases b
      · rw [if_pos (show (bN false : Int32) = 0 from rfl), p18 h.1]; cases h' <;> cases f' <;> rfl
      · rw [if_neg (show ¬ (bN true : Int32) = 0 by decide), p17 h.1]; cases h' <;> cases f' <;> rfl
  unfold jn whenP
  dsimp only
  rw [s_ck hM, M_hask hT hT2 (fun a => kIf (KS_ms hK2)) hk, Option.bind_some]
  dsimp only
  by_cases hw : isW T e (sk T e k) wIf = true
  · have h3 := wd_le (T := T) h1
    rw [if_pos hw, if_pos hw, if_pos hw, if_neg (show ¬ (N 1 : Int32) = 0 by decide), s_ck hM]
    have hp := M_some hT hT2 hK2 (dd := 0) (Rf := FX8_atom 8) (Rs := atomP T e 8 0) (by omega) (fun k hk => atomP_bd hT 8 0 k hk) (fun k hk => M_atom hT hT2 hK2 (MB_hs hB) 8 0 k (by omega) (by omega) hk) h3
    have hb' := someP_bd (T := T) (fun k hk => atomP_bd hT 8 0 k hk) h3
    show ML e σ h' f' _ ((RX8_some (FX8_atom 8) 62 (ms (hs σ h' f') (N (wd T e (sk T e k))) M1 (N 0))).bind _)
    revert hp hb'
    cases someP T e (atomP T e 8 0) (wd T e (sk T e k)) with
    | error p =>
      intro hp hb'
      obtain ⟨v, a, d', ha, hp⟩ := hp
      have hpe : p ≤ e := hb'
      refine ⟨a, d', h', f', by omega, ?_⟩
      rw [hp, Option.bind_some]
      dsimp only
      cases v
      · rw [if_pos (show (bN false : Int32) = 0 from rfl), s_g12 hM, Option.bind_some, m1_, if_neg (by rw [N_m1 (by omega)]; exact id)]
      · rw [if_neg (show ¬ (bN true : Int32) = 0 by decide), s_g12 hM, Option.bind_some, m1_, if_neg (by rw [N_m1 (by omega)]; exact id)]
    | ok o =>
      intro hp hb'
      have hp : RX8_some (FX8_atom 8) 62 (ms (hs σ h' f') (N (wd T e (sk T e k))) M1 (N 0)) = some (bN (o.1 (ME (hs σ h' f'))), ms (hs σ h' f') (N o.2) M1 (N 0)) := hp
      rw [ME_hs] at hp
      rw [hp, Option.bind_some]
      have g := fin o.2 (o.1 (ME σ))
      refine Eq.trans ?_ g
      dsimp only
      cases o.1 (ME σ)
      · exact if_pos rfl
      · exact if_neg (by decide)
  · rw [if_neg hw, if_neg hw, if_neg hw, if_pos (show (N 0 : Int32) = 0 from rfl)]
    exact fin (sk T e k) true
theorem M_line (hT : TX T e) (h : MT T e σ) (hK : KS σ) (hB : MB σ) (hk : k ≤ e) : ML e σ h' f' (lineP T e k) (FX8_lawLine 62 (ms (hs σ h' f') (N k) M1 (N 0))) := by
  have he := hT.1
  have h1 := sk_le (T := T) hk
  have hs1 := sk_at hT hk
  have hM := FM_hs (h := h') (f := f') h.1
  have hT2 := MT_hs (h := h') (f := f') h
  have hK2 := KS_hs (h := h') (f := f') hK
  unfold lineP FX8_lawLine
  rw [s_ck hM, M_hask hT hT2 (fun a => kHand (KS_ms hK2)) hk, Option.bind_some]
  dsimp only
  by_cases w0 : isW T e (sk T e k) wHand = true
  · rw [if_pos w0, if_pos w0, if_pos w0]
    have g := M_when (h' := h') (f' := f') hT h hK hB (wd_le (T := T) h1) true
    unfold jn at g ⊢
    dsimp only at g ⊢
    rw [if_neg (show ¬ (N 1 : Int32) = 0 by decide)]
    exact g
  · rw [if_neg w0, if_neg w0, if_neg w0]
    by_cases w1 : isW T e (sk T e k) wFetch = true
    · rw [if_pos w1]
      have g := M_when (h' := h') (f' := f') hT h hK hB (wd_le (T := T) h1) false
      unfold jn at g ⊢
      dsimp only at g ⊢
      rw [if_pos (show (N 0 : Int32) = 0 from rfl), s_ck hM, M_has1 hT hT2 (fun _ => kFetch (KS_ms hK2)) h1 hs1 w1, Option.bind_some]
      dsimp only
      rw [if_neg (show ¬ (N 1 : Int32) = 0 by decide)]
      exact g
    · rw [if_neg w1]
      unfold jn
      dsimp only
      rw [if_pos (show (N 0 : Int32) = 0 from rfl), s_ck hM, M_has0 hT hT2 (fun _ => kFetch (KS_ms hK2)) h1 hs1 w1, Option.bind_some]
      dsimp only
      rw [if_pos (show (N 0 : Int32) = 0 from rfl), s_g11 hM, Option.bind_some, s_ck hM, M_wrong0 hM, Option.bind_some]
      exact ⟨_, _, _, _, by omega, rfl⟩
theorem lnE_app {E : Nat → Int32} {b : Bool} {l : List (Bool × Option Cn)} {x : Bool × Option Cn} : lnE E b (l ++ [x]) = (lnE E b l || (x.1 == b && coE E x.2)) := by
  unfold lnE; rw [List.any_append]; simp
/-- the text is read -/
def MW (e : Nat) (σ : Mm) (h f : Bool) (r : PR (List (Bool × Option Cn))) (o : Option (Int32 × Mm)) : Prop := match r with
  | .ok u => o = some (N u.1.length, ms (hs σ (h || lnE (ME σ) true u.1) (f || lnE (ME σ) false u.1)) (N e) M1 (N 0))
  | .error p => ∃ x a d' h' f', o = some (x, ms (hs σ h' f') (N a) (N p) d')
theorem M_read_x {a p n : Nat} {d' : Int32} {v : Nat} (hM : FM σ) (hp : p < 2147483648) : ∀ x, FX8_read_23 62 (N 1) (n + 2) (N x) (N v) (ms σ (N a) (N p) d') (fun x σ => some (x, σ)) = some (N v, ms σ (N a) (N p) d') := by
  intro x
  rw [FX8_read_23]
  by_cases h0 : N x = 0
  · rw [if_pos h0]
  · rw [if_neg h0, s_g12 hM, Option.bind_some, m1_, if_neg (by rw [N_m1 hp]; exact id)]
theorem M_read_23 {h0 f0 : Bool} (hT : TX T e) (h : MT T e σ) (hK : KS σ) (hB : MB σ) : ∀ (n : Nat) (l : List (Bool × Option Cn)) (k m : Nat), k ≤ e → l.length + n = 12 → n + 4 ≤ m → MW e σ h0 f0 (lawL T e n l k) (FX8_read_23 62 (N 1) m (N 1) (N l.length) (ms (hs σ (h0 || lnE (ME σ) true l) (f0 || lnE (ME σ) false l)) (N k) M1 (N 0)) fun x σ => some (x, σ)) := by
  have he := hT.1
  intro n
  induction n with
  | zero =>
    intro l k m hk hl hm
    obtain ⟨m, rfl⟩ : ∃ m', m = m' + 3 := ⟨m - 3, by omega⟩
    have h1 := sk_le (T := T) hk
    have hs1 := sk_at hT hk
    have hM := FM_hs (h := (h0 || lnE (ME σ) true l)) (f := (f0 || lnE (ME σ) false l)) h.1
    have hT2 := MT_hs (h := (h0 || lnE (ME σ) true l)) (f := (f0 || lnE (ME σ) false l)) h
    have hl12 : l.length = 12 := hl
    rw [lawL, FX8_read_23, if_neg (show ¬ (N 1 : Int32) = 0 by decide), s_g12 hM, Option.bind_some, m1_, if_pos rfl, s_ck hM, M_skip hT hT2 (by omega), Option.bind_some]
    unfold jn
    dsimp only
    rw [if_neg (show ¬ (N 1 : Int32) = 0 by decide), l12_, hl12, if_pos rfl, s_g11 hM, Option.bind_some, s_ck hM, M_wrong0 hM, Option.bind_some, s_ck hM, M_skip hT hT2 (by omega), Option.bind_some, s_g12 hM, Option.bind_some, if_neg (by rw [N_m1 (by omega)]; exact id), l1_, N_add, l0_]
    exact ⟨_, _, _, _, _, M_read_x (n := m) hM (by omega : sk T e k < 2147483648) 0⟩
  | succ n ih =>
    intro l k m hk hl hm
    obtain ⟨m, rfl⟩ : ∃ m', m = m' + 3 := ⟨m - 3, by omega⟩
    have h1 := sk_le (T := T) hk
    have hM := FM_hs (h := (h0 || lnE (ME σ) true l)) (f := (f0 || lnE (ME σ) false l)) h.1
    have hT2 := MT_hs (h := (h0 || lnE (ME σ) true l)) (f := (f0 || lnE (ME σ) false l)) h
    rw [lawL, FX8_read_23, if_neg (show ¬ (N 1 : Int32) = 0 by decide), s_g12 hM, Option.bind_some, m1_, if_pos rfl, s_ck hM, M_skip hT hT2 (by omega), Option.bind_some]
    unfold jn
    dsimp only
    rw [if_neg (show ¬ (N 1 : Int32) = 0 by decide), l12_, if_neg (by rw [N_inj (by omega) (by omega)]; omega), if_neg (show ¬ (N 1 : Int32) = 0 by decide), s_ck hM]
    have hp := M_line (h' := (h0 || lnE (ME σ) true l)) (f' := (f0 || lnE (ME σ) false l)) hT h hK hB h1
    have hb := lineP_bd hT h1
    have e1 : lineP T e (sk T e k) = lineP T e k := by unfold lineP; rw [sk_sk hT hk]
    rw [e1] at hp hb
    revert hp hb
    cases lineP T e k with
    | error p =>
      intro hp hb
      obtain ⟨a, d', h', f', ha, hp⟩ := hp
      have hpe : p ≤ e := hb
      have hM2 := FM_hs (h := h') (f := f') h.1
      rw [hp, Option.bind_some, s_ck hM2, M_skip hT (MT_hs h) (by omega), Option.bind_some, s_g12 hM2, Option.bind_some, if_neg (by rw [N_m1 (by omega)]; exact id), l1_, N_add, l0_]
      exact ⟨_, _, _, _, _, M_read_x (n := m) hM2 (by omega : p < 2147483648) 0⟩
    | ok o =>
      intro hp hb
      obtain ⟨⟨b, c⟩, k2⟩ := o
      have hb : sk T e k < k2 ∧ k2 ≤ e := hb
      have hp : FX8_lawLine 62 (ms (hs σ (h0 || lnE (ME σ) true l) (f0 || lnE (ME σ) false l)) (N (sk T e k)) M1 (N 0)) = some (ms (hs σ ((h0 || lnE (ME σ) true l) || (b && coE (ME σ) c)) ((f0 || lnE (ME σ) false l) || (!b && coE (ME σ) c))) (N k2) M1 (N 0)) := hp
      have q1 : ((h0 || lnE (ME σ) true l) || (b && coE (ME σ) c)) = (h0 || lnE (ME σ) true (l ++ [(b, c)])) := by rw [lnE_app, Bool.or_assoc]; cases b <;> rfl
      have q2 : ((f0 || lnE (ME σ) false l) || (!b && coE (ME σ) c)) = (f0 || lnE (ME σ) false (l ++ [(b, c)])) := by rw [lnE_app, Bool.or_assoc]; cases b <;> rfl
      rw [q1, q2] at hp
      have hM2 := FM_hs (h := (h0 || lnE (ME σ) true (l ++ [(b, c)]))) (f := (f0 || lnE (ME σ) false (l ++ [(b, c)]))) h.1
      have hT3 := MT_hs (h := (h0 || lnE (ME σ) true (l ++ [(b, c)]))) (f := (f0 || lnE (ME σ) false (l ++ [(b, c)]))) h
      have h4 := sk_le (T := T) hb.2
      have hs4 := sk_at hT hb.2
      have hlen : (l ++ [(b, c)]).length = l.length + 1 := by simp
      rw [hp, Option.bind_some, s_ck hM2, M_skip hT hT3 (by omega), Option.bind_some, s_g12 hM2, Option.bind_some, if_pos rfl, s_g11 hM2, Option.bind_some, s_g10 hT3, Option.bind_some]
      show MW e σ h0 f0 (if sk T e k2 = e then Except.ok (l ++ [(b, c)], e) else if T (sk T e k2) = 59 then lawL T e n (l ++ [(b, c)]) (sk T e k2 + 1) else Except.error (sk T e k2)) _
      by_cases c1 : sk T e k2 = e
      · rw [if_pos c1, if_pos (by rw [c1])]
        show _ = some (N (l ++ [(b, c)]).length, _)
        rw [FX8_read_23, if_pos rfl, l1_, N_add, hlen, c1]
      · rw [if_neg c1, if_neg (show ¬ N (sk T e k2) = N e by rw [N_inj (by omega) (by omega)]; exact c1), s_ck hM2, l59_, M_isSign hT hT3 h4 (by omega), Option.bind_some, sk_eq hs4]
        dsimp only
        by_cases c2 : T (sk T e k2) = 59
        · have h5 := hT.lt (k := sk T e k2) (by omega)
          rw [if_pos c2, if_pos c2, if_neg (show ¬ (N 1 : Int32) = 0 by decide), s_g11 hM2, Option.bind_some, s_p11 hM2, Option.bind_some, l1_, N_add, N_add, ← hlen]
          exact ih (l ++ [(b, c)]) (sk T e k2 + 1) (m + 2) h5 (by rw [hlen]; omega) (by omega)
        · rw [if_neg c2, if_neg c2, if_pos (show (N 0 : Int32) = 0 from rfl), s_g11 hM2, Option.bind_some, s_ck hM2, M_wrong0 hM2, Option.bind_some, l1_, N_add]
          exact ⟨_, _, _, _, _, M_read_x (n := m) hM2 (by omega : sk T e k2 < 2147483648) 1⟩
theorem M_read {h0 f0 : Bool} (hT : TX T e) (h : MT T e σ) (hK : KS σ) (hB : MB σ) : MW e σ h0 f0 (lawP T e) (FX8_read 62 1 (ms (hs σ h0 f0) (N 0) M1 (N 0))) := by
  have he := hT.1
  have z1 : (h0 || lnE (ME σ) true []) = h0 := by cases h0 <;> rfl
  have z2 : (f0 || lnE (ME σ) false []) = f0 := by cases f0 <;> rfl
  have h1 := sk_le (T := T) (Nat.zero_le e)
  have hM := FM_hs (h := h0) (f := f0) h.1
  have hT2 := MT_hs (h := h0) (f := f0) h
  unfold lawP FX8_read jn
  dsimp only
  rw [s_ck hM, M_skip hT hT2 (by omega), Option.bind_some, s_g11 hM, Option.bind_some, s_g10 hT2, Option.bind_some]
  by_cases c1 : sk T e 0 = e
  · rw [if_pos c1, if_pos (by rw [c1, N_le (by omega) (by omega)]; omega)]
    show FX8_read_23 62 1 (99999 + 1) 0 0 _ _ = _
    rw [FX8_read_23, if_pos rfl, c1]
    show some (N 0, ms (hs σ h0 f0) (N e) M1 (N 0)) = some (N 0, ms (hs σ (h0 || lnE (ME σ) true []) (f0 || lnE (ME σ) false [])) (N e) M1 (N 0))
    rw [z1, z2]
  · rw [if_neg c1, if_neg (by rw [N_le (by omega) (by omega)]; omega)]
    have g := M_read_23 (h0 := h0) (f0 := f0) hT h hK hB 12 [] (sk T e 0) fu h1 rfl (by unfold fu; omega)
    rw [z1, z2] at g
    exact g
end
