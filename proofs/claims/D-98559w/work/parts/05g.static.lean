/-! THE LAYER, 7: what never changes; arraycopy; inherited methods -/
def gOrd (v : Option Nat) (σ : Mm) : Option Int32 := v.bind fun p => if mS σ p = 521 ∨ mS σ p = 522 then some (mI σ p 0) else none
def gIo (c k : Nat) (v : Option Nat) (σ : Mm) : Option Int32 := v.bind fun p => if mS σ p = c ∨ mS σ p = c + 500 then some (mI σ p k) else none
def gRo (c k : Nat) (v : Option Nat) (σ : Mm) : Option (Option Nat) := v.bind fun p => if mS σ p = c ∨ mS σ p = c + 500 then some (mR σ p k) else none
def aIo (t : Nat) (v : Option Nat) (i : Int32) (σ : Mm) : Option Int32 := v.bind fun p => if (mS σ p = t ∨ mS σ p = t + 500) ∧ ¬ (i < 0 ∨ mL σ p ≤ i.toNatClampNeg) then some (mI σ p i.toNatClampNeg) else none
def aLo (t : Nat) (v : Option Nat) (σ : Mm) : Option Int32 := v.bind fun p => if mS σ p = t ∨ mS σ p = t + 500 then some (Int32.ofNat (mL σ p)) else none
def rvo (c : Nat) (v : Option Nat) (σ : Mm) : Option Nat := v.bind fun p => if mS σ p = c ∨ mS σ p = c + 500 then some p else none
def cko {β : Type} (c p : Nat) (σ : Mm) (k : Option β) : Option β := if mS σ p = c ∨ mS σ p = c + 500 then k else none
theorem cko_e {β : Type} {c p : Nat} {σ : Mm} {k : Option β} {o : β} (h : cko c p σ k = some o) : (mS σ p = c ∨ mS σ p = c + 500) ∧ k = some o := by
  unfold cko at h
  split at h
  next hc => exact ⟨hc, h⟩
  next => cases h
theorem rvo_some {c : Nat} {v : Option Nat} {σ : Mm} {q : Nat} (h : rvo c v σ = some q) : v = some q ∧ (mS σ q = c ∨ mS σ q = c + 500) := by
  cases v with
  | none => cases h
  | some a =>
    simp only [rvo, Option.bind_some] at h
    split at h
    next hc => cases h; exact ⟨rfl, hc⟩
    next => cases h
def wA (σ : Mm) (p : Nat) (f : Nat → Int32) : Mm := (σ.1, σ.2.1, up1 σ.2.2.1 p f, σ.2.2.2.1, σ.2.2.2.2)
/-- arraycopy of ints (100) or bytes (101) -/
def cpI (t : Nat) (v : Option Nat) (sp : Int32) (w : Option Nat) (dp n : Int32) (σ : Mm) : Option Mm := v.bind fun a => w.bind fun b =>
  if mS σ a = t ∧ mS σ b = t ∧ ¬ sp < 0 ∧ ¬ dp < 0 ∧ ¬ n < 0 ∧ sp.toNatClampNeg + n.toNatClampNeg ≤ mL σ a ∧ dp.toNatClampNeg + n.toNatClampNeg ≤ mL σ b ∧ (t = 101 → ∀ i, i < n.toNatClampNeg → fits .byte (.int (mI σ a (sp.toNatClampNeg + i))) = true)
  then some (wA σ b (va_cpy (mI σ a) (mI σ b) sp.toNatClampNeg dp.toNatClampNeg n.toNatClampNeg)) else none
theorem pent_wA {dA : Nat → ClassId} {ad : Nat → Nat} {σ : Mm} {p q : Nat} {f : Nat → Int32} (h : q ≠ p) : pent dA ad (wA σ p f) q = pent dA ad σ q := by
  have e : mI (wA σ p f) q = mI σ q := if_neg h
  have e2 : fv ad (wA σ p f) q = fv ad σ q := by
    funext j
    unfold fv
    rw [e]
    rfl
  unfold pent
  rw [e, e2]
  rfl
theorem as_wA {dA : Nat → ClassId} {ad : Nat → Nat} {σ : Mm} {q t : Nat} {f : Nat → Int32} (hs : mS σ q = t) (h1 : 100 ≤ t) (h2 : t < 102) : pent dA ad (wA σ q f) q = (ad q, .inl (dA t, mL σ q, .inl f)) := by
  rw [pent_i (σ := wA σ q f) hs h1 h2]
  rw [show mI (wA σ q f) q = f from if_pos rfl]
  rfl
theorem SM_wA {ad : Nat → Nat} {σ : Mm} {q : Nat} {f : Nat → Int32} (h : SM ad σ) (hq : q < BIG) : SM ad (wA σ q f) := by
  refine ⟨h.1, fun p hp => ?_⟩
  have e : mI (wA σ q f) p = mI σ p := if_neg (by omega)
  obtain ⟨h1, h2, h3, h4⟩ := h.2 p hp
  exact ⟨h1, h2, fun j => by rw [e]; exact h3 j, h4⟩
section R7
variable {p : Program} {l : Launch} {e : Env} {R : Room} {s : State} {m : MethodId} {args : Array Value} {below : List Frame} {meth : Method} {c : Code} {Q : State → Prop} {cc : ByteArray} {nL : Nat} {own : String} {D : va_G} {dA : Nat → ClassId} {sz0 : Nat} {ad0 : Nat → Nat} {N0 kc kz : Nat} {σ σ' : Mm} {ℓ ℓ' : List (Nat × Value)} {st : List Value} {pc : Nat} {β : Type} {o : β} {ci : Nat} {C : String} {T : u_T} {N : Nat} {ty : Nat → FieldType} {idx : Nat} {v : Option Nat} {y : MethodName} {bytes : ByteArray} {maxL fr lo mc ms n : Nat} {ret : Option FieldType} {As stk : List Value} {q : Nat}
theorem PM_wA {σ : Mm} {ad : Nat → Nat} {H1 : Heap} {q : Nat} {f : Nat → Int32} {y : Nat × va_E} (he : pent dA ad (wA σ q f) q = y) {H : Heap} (h3 : PM D dA sz0 ad σ H) (hq : q < mN σ) (hP : va_P D clT ((wl dA ad σ).set q y) H1) (hD : va_D (Ab sz0) ((wl dA ad σ).set q y)) (hz : sz0 ≤ H1.size) : PM D dA sz0 ad (wA σ q f) H1 := by
  rw [wl_set (σ := σ) (σ' := wA σ q f) rfl he (fun _ h => pent_wA h)] at hP hD
  exact ⟨hP, hD, h3.2.2.1, hz, h3.2.2.2.2.1, h3.2.2.2.2.2.1, SM_wA h3.2.2.2.2.2.2 (Nat.lt_of_lt_of_le hq h3.2.2.2.2.2.1)⟩
theorem PM.big {ad : Nat → Nat} {H : Heap} (h : PM D dA sz0 ad σ H) {q t : Nat} (hs : mS σ q = t + 500) : BIG ≤ q ∧ kS q = t + 500 := by
  have h1 : BIG ≤ q := by
    rcases Nat.lt_or_ge q BIG with z | z
    · have := h.2.2.2.2.2.2.1 q z; omega
    · exact z
  exact ⟨h1, ((h.2.2.2.2.2.2.2 q h1).1).symm.trans hs⟩
/-- a field of a read-only object -/
theorem wm_roI (X : CX p s m args meth c cc nL own) (hS : ST D dA sz0 ad0 s) (ci k : Nat) (hs : mS σ q = ci + 500) (hci : ci < 100) (hk : k < roN ci) (hr : roR ci k = false) (hdg : decode cc pc = .ok (.getfield idx, 3)) (hq : Cond.fieldLink own idx (roT ci k).1 (roT ci k).2.1 (roT ci k).2.2 ∈ lw_all) (kk : WM p l e R s m args below meth c Q nL D dA sz0 ad0 N0 kc kz σ ℓ (.int (mI σ q k) :: st) (pc + 3)) : WM p l e R s m args below meth c Q nL D dA sz0 ad0 N0 kc kz σ ℓ (va_rf (some q) :: st) pc := by
  intro ad H locs ls h1 h2 h3 h4 hz h5 h6 h7
  obtain ⟨hb, hk9⟩ := h3.big hs
  have h8 := (hS.2.2.1.1 q ci hb hk9 hci).2 k hk
  have e1 : roV ad0 q ci k = .int (mI σ q k) := by
    unfold roV
    rw [hr, ((h3.2.2.2.2.2.2.2 q hb).2.2.1 k)]
    rfl
  rw [e1, ← h1 q (Or.inr hb)] at h8
  exact vk_getf X.1.1 X.1.2.1 h8 h4 X.1.2.2.2.1 (X.1.2.2.2.2 _ hq) (fun _ h => h) hdg (kk ad H locs ls h1 h2 h3 h4 hz h5 (h6.tail.cons vok_int) h7)
theorem wm_roR (X : CX p s m args meth c cc nL own) (hS : ST D dA sz0 ad0 s) (ci k : Nat) (hs : mS σ q = ci + 500) (hci : ci < 100) (hk : k < roN ci) (hr : roR ci k = true) (hdg : decode cc pc = .ok (.getfield idx, 3)) (hq : Cond.fieldLink own idx (roT ci k).1 (roT ci k).2.1 (roT ci k).2.2 ∈ lw_all) (kk : WM p l e R s m args below meth c Q nL D dA sz0 ad0 N0 kc kz σ ℓ (va_rf (mR σ q k) :: st) (pc + 3)) : WM p l e R s m args below meth c Q nL D dA sz0 ad0 N0 kc kz σ ℓ (va_rf (some q) :: st) pc := by
  intro ad H locs ls h1 h2 h3 h4 hz h5 h6 h7
  obtain ⟨hb, hk9⟩ := h3.big hs
  have h8 := (hS.2.2.1.1 q ci hb hk9 hci).2 k hk
  have hR := (h3.2.2.2.2.2.2.2 q hb).2.2.2 k
  have e1 : roV ad0 q ci k = cv ad (va_rf (mR σ q k)) := by
    unfold roV
    rw [hr, if_pos rfl, cv_rf, hR, kR_map (fun a ha => h1 a (Or.inr ha)) hb]
  rw [e1, ← h1 q (Or.inr hb)] at h8
  exact vk_getf X.1.1 X.1.2.1 h8 h4 X.1.2.2.2.1 (X.1.2.2.2.2 _ hq) (fun _ h => h) hdg (kk ad H locs ls h1 h2 h3 h4 hz h5 (h6.tail.cons (vok_rf fun a ha => Or.inr (kR_big hb (hR ▸ ha)))) h7)
theorem wm_rorecv {ad : Nat → Nat} {H : Heap} {locs : List Loc} (hS : ST D dA sz0 ad0 s) (h1 : Ex N0 ad0 ad) (h3 : PM D dA sz0 ad σ H) (h4 : va_S (Ab sz0) s.heap H locs) (hs : mS σ q = ci + 500) (hci : ci < 100) : ∃ cellB : Cell, H[ad q]? = some cellB ∧ cellB.vm.isStatics = false ∧ s.vm.findClass (roC ci) = some cellB.cls := by
  obtain ⟨hb, hk9⟩ := h3.big hs
  obtain ⟨cell, g1, g2, g3, -⟩ := ((hS.2.2.1.1 q ci hb hk9 hci).1).kept h4.2.1
  exact ⟨cell, by rw [h1 q (Or.inr hb)]; exact g1, g2, g3⟩
/-- static fields -/
theorem wm_gstI (X : CX p s m args meth c cc nL own) (hS : ST D dA sz0 ad0 s) (hdg : decode cc pc = .ok (.getstatic idx, 3)) (hq : Cond.fieldLink own idx "java/lang/String" "COMPACT_STRINGS" "Z" ∈ lw_all) (kk : WM p l e R s m args below meth c Q nL D dA sz0 ad0 N0 kc kz σ ℓ (.int 1 :: st) (pc + 3)) : WM p l e R s m args below meth c Q nL D dA sz0 ad0 N0 kc kz σ ℓ st pc :=
  fun ad H locs ls h1 h2 h3 h4 hz h5 h6 h7 => va_gets X.1.1 X.1.2.1 (hS.2.2.1.2.2.2.2.1 3 (by decide)) h4 X.1.2.2.2.1 (X.1.2.2.2.2 _ hq) (fun _ h => h) hdg (kk ad H locs ls h1 h2 h3 h4 hz h5 (h6.cons vok_int) h7)
theorem wm_gst (X : CX p s m args meth c cc nL own) (hS : ST D dA sz0 ad0 s) (k r : Nat) (hk : k < 10) (h3' : ¬ k < 4) (hr : stP ad0 k = some r) (hb : BIG ≤ r) (hdg : decode cc pc = .ok (.getstatic idx, 3)) (hq : Cond.fieldLink own idx (stT k).1 (stT k).2.1 (stT k).2.2 ∈ lw_all) (kk : WM p l e R s m args below meth c Q nL D dA sz0 ad0 N0 kc kz σ ℓ (va_rf (some r) :: st) (pc + 3)) : WM p l e R s m args below meth c Q nL D dA sz0 ad0 N0 kc kz σ ℓ st pc := by
  intro ad H locs ls h1 h2 h3 h4 hz h5 h6 h7
  have h8 := hS.2.2.1.2.2.2.2.1 k hk
  have e1 : stV ad0 k = cv ad (va_rf (some r)) := by
    unfold stV
    rw [if_neg (by omega), hr]
    show Value.ref (ad0 r) = .ref (ad r)
    rw [h1 r (Or.inr hb)]
  rw [e1] at h8
  exact va_gets X.1.1 X.1.2.1 h8 h4 X.1.2.2.2.1 (X.1.2.2.2.2 _ hq) (fun _ h => h) hdg (kk ad H locs ls h1 h2 h3 h4 hz h5 (h6.cons (vok_rf fun a ha => by cases ha; exact Or.inr hb)) h7)
/-- a static reference of which nothing is known -/
theorem wm_gstQ (X : CX p s m args meth c cc nL own) (hS : ST D dA sz0 ad0 s) (k : Nat) (hk : k < 3) (hdg : decode cc pc = .ok (.getstatic idx, 3)) (hq : Cond.fieldLink own idx (stT k).1 (stT k).2.1 (stT k).2.2 ∈ lw_all) (kk : WM p l e R s m args below meth c Q nL D dA sz0 ad0 N0 kc kz σ ℓ (va_rf (mR σ (BIG + 200) k) :: st) (pc + 3)) : WM p l e R s m args below meth c Q nL D dA sz0 ad0 N0 kc kz σ ℓ st pc := by
  intro ad H locs ls h1 h2 h3 h4 hz h5 h6 h7
  have h8 := hS.2.2.1.2.2.2.2.1 k (by omega)
  have hb : BIG ≤ BIG + 200 := by omega
  have hR := (h3.2.2.2.2.2.2.2 (BIG + 200) hb).2.2.2 k
  have e0 : kR ad0 (BIG + 200) k = kq ad0 k := by
    unfold kR
    rw [if_neg (by omega), if_neg (by omega), if_neg (by omega), if_pos rfl]
  have e1 : stV ad0 k = cv ad (va_rf (mR σ (BIG + 200) k)) := by
    unfold stV stP
    rw [if_neg (by omega), if_pos hk, cv_rf, hR, kR_map (fun a ha => h1 a (Or.inr ha)) hb, e0]
  rw [e1] at h8
  exact va_gets X.1.1 X.1.2.1 h8 h4 X.1.2.2.2.1 (X.1.2.2.2.2 _ hq) (fun _ h => h) hdg (kk ad H locs ls h1 h2 h3 h4 hz h5 (h6.cons (vok_rf fun a ha => Or.inr (kR_big hb (hR ▸ ha)))) h7)
/-- arraycopy -/
theorem wm_copy (X : CX p s m args meth c cc nL own) (hS : ST D dA sz0 ad0 s) (t : Nat) (ht : t = 100 ∨ t = 101) {w : Option Nat} {sp dp n : Int32} {f : Mm → Option β} (h : (cpI t v sp w dp n σ).bind f = some o) (hdg : decode cc pc = .ok (.invokestatic idx, 3)) (hq : Cond.methodLink own idx arraycopyName ∈ lw_all) (q2 : Cond.native arraycopyName ∈ lw_all) (q3 : Cond.static arraycopyName ∈ lw_all) (q4 : Cond.initialized "java/lang/System" ∈ lw_all) (hf : 1 ≤ R.frames) (hst : c1 st) (h8 : st.length ≤ 8) (hl : 60 ≤ R.locals) (kk : ∀ σ', mN σ' = mN σ → f σ' = some o → WM p l e R s m args below meth c Q nL D dA sz0 ad0 N0 kc kz σ' ℓ st (pc + 3)) : WM p l e R s m args below meth c Q nL D dA sz0 ad0 N0 kc kz σ ℓ (.int n :: .int dp :: va_rf w :: .int sp :: va_rf v :: st) pc := by
  obtain ⟨σ', hx, h9⟩ := Option.bind_eq_some_iff.mp h
  cases v with
  | none => cases hx
  | some a =>
  cases w with
  | none => cases hx
  | some b =>
  simp only [cpI, Option.bind_some] at hx
  split at hx
  case isFalse => cases hx
  case isTrue hc =>
  cases hx
  obtain ⟨hsa, hsb, g1, g2, g3, g4, g5, g6⟩ := hc
  intro ad H locs ls h1 h2 h3 h4 hz h5 h6 h7
  have h0 : ((sm ad st).map fun v => v.category).sum ≤ 8 := (by rw [sm_cat]; exact c1_s hst h8)
  have hw : nativeFrameWords "java/lang/System" "arraycopy" 5 ≤ 41 := by decide
  have hlo : ((sm ad st).map fun v => v.category).sum + (nativeFrameWords "java/lang/System" "arraycopy" 5 + 11) ≤ R.locals := Nat.le_trans (Nat.add_le_add h0 (Nat.add_le_add_right hw 11)) hl
  rcases ht with rfl | rfl
  · refine va_copyi X.1.1 X.1.2.1 (X.1.2.2.1.trans h7.1.symm) X.1.2.2.2.1 (X.1.2.2.2.2 _ hq) (X.1.2.2.2.2 _ q2) (X.1.2.2.2.2 _ q3) (X.1.2.2.2.2 _ q4) hS.1 h3.1 h3.2.1 h4 a b 0 0 ((h3.at hsa (by omega) (by omega)).trans (congrArg some (pent_i hsa (by omega) (by omega)))) ((h3.at hsb (by omega) (by omega)).trans (congrArg some (pent_i hsb (by omega) (by omega)))) rfl rfl rfl g1 g2 g3 g4 g5 (fun i hi => rfl) hf hlo hdg (fun H1 locs1 hP hD hS1 => ?_)
    exact kk (wA σ b (va_cpy (mI σ a) (mI σ b) sp.toNatClampNeg dp.toNatClampNeg n.toNatClampNeg)) rfl h9 ad H1 locs1 ls h1 h2 (PM_wA (as_wA hsb (by omega) (by omega)) h3 (h3.lt hsb (by omega) (by omega)) hP hD (Ab_S hz hS1)) hS1 hz h5 h6.tail.tail.tail.tail.tail h7
  · refine va_copyi X.1.1 X.1.2.1 (X.1.2.2.1.trans h7.1.symm) X.1.2.2.2.1 (X.1.2.2.2.2 _ hq) (X.1.2.2.2.2 _ q2) (X.1.2.2.2.2 _ q3) (X.1.2.2.2.2 _ q4) hS.1 h3.1 h3.2.1 h4 a b 1 1 ((h3.at hsa (by omega) (by omega)).trans (congrArg some (pent_i hsa (by omega) (by omega)))) ((h3.at hsb (by omega) (by omega)).trans (congrArg some (pent_i hsb (by omega) (by omega)))) rfl rfl rfl g1 g2 g3 g4 g5 (g6 rfl) hf hlo hdg (fun H1 locs1 hP hD hS1 => ?_)
    exact kk (wA σ b (va_cpy (mI σ a) (mI σ b) sp.toNatClampNeg dp.toNatClampNeg n.toNatClampNeg)) rfl h9 ad H1 locs1 ls h1 h2 (PM_wA (as_wA hsb (by omega) (by omega)) h3 (h3.lt hsb (by omega) (by omega)) hP hD (Ab_S hz hS1)) hS1 hz h5 h6.tail.tail.tail.tail.tail h7
end R7
