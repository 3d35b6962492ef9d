/-! THE LAYER, 3: rows of the heap -/
theorem PM.lt {D : va_G} {dA : Nat → ClassId} {sz0 : Nat} {ad : Nat → Nat} {σ : Mm} {H : Heap} (h : PM D dA sz0 ad σ H) {p c : Nat} (hs : mS σ p = c) (h0 : 0 < c) (h1 : c < 500) : p < mN σ := h.2.2.1 p (by omega) (by omega)
theorem PM.at {D : va_G} {dA : Nat → ClassId} {sz0 : Nat} {ad : Nat → Nat} {σ : Mm} {H : Heap} (h : PM D dA sz0 ad σ H) {p c : Nat} (hs : mS σ p = c) (h0 : 0 < c) (h1 : c < 500) : (wl dA ad σ)[p]? = some (pent dA ad σ p) := wl_at (h.lt hs h0 h1)
theorem fs_at {ad : Nat → Nat} {σ : Mm} {p k N : Nat} (hk : k < N) : ((List.range N).map (fv ad σ p))[k]? = some (fv ad σ p k) := by simp [hk]
section R2
variable {p : Program} {l : Launch} {e : Env} {R : Room} {s : State} {m : MethodId} {args : Array Value} {below : List Frame} {meth : Method} {c : Code} {Q : State → Prop} {cc : ByteArray} {nL : Nat} {own : String} {D : va_G} {dA : Nat → ClassId} {sz0 : Nat} {ad0 : Nat → Nat} {N0 kc kz : Nat} {σ : Mm} {ℓ ℓ' : List (Nat × Value)} {st : List Value} {pc : Nat} {β : Type} {o : β} {ci : Nat} {C : String} {T : u_T} {N : Nat} {ty : Nat → FieldType} {idx : Nat} {v : Option Nat}
theorem gI_some {c k : Nat} {v : Option Nat} {σ : Mm} {x : Int32} (h : gI c k v σ = some x) : ∃ q, v = some q ∧ mS σ q = c ∧ x = mI σ q k := by
  cases v with
  | none => cases h
  | some q =>
    simp only [gI, Option.bind_some] at h
    split at h
    next hc => exact ⟨q, rfl, hc, (Option.some.inj h).symm⟩
    next => cases h
theorem gR_some {c k : Nat} {v : Option Nat} {σ : Mm} {x : Option Nat} (h : gR c k v σ = some x) : ∃ q, v = some q ∧ mS σ q = c ∧ x = mR σ q k := by
  cases v with
  | none => cases h
  | some q =>
    simp only [gR, Option.bind_some] at h
    split at h
    next hc => exact ⟨q, rfl, hc, (Option.some.inj h).symm⟩
    next => cases h
/-- getfield, an int or boolean; an own link or a nest mate's -/
theorem wm_gI (X : CX p s m args meth c cc nL own) (hS : ST D dA sz0 ad0 s) (hcd : CD ci C T N ty) (k : Nat) {f : Int32 → Option β} (h : (gI ci k v σ).bind f = some o) (hdg : decode cc pc = .ok (.getfield idx, 3)) (hk : k < N) (hr : cr ci k = false) (hq : Cond.fieldLink own idx (T k).1 (T k).2.1 (T k).2.2.1 ∈ lw_all) (kk : ∀ x, f x = some o → WM p l e R s m args below meth c Q nL D dA sz0 ad0 N0 kc kz σ ℓ (.int x :: st) (pc + 3)) : WM p l e R s m args below meth c Q nL D dA sz0 ad0 N0 kc kz σ ℓ (va_rf v :: st) pc := by
  obtain ⟨x, hx, h⟩ := Option.bind_eq_some_iff.mp h
  obtain ⟨q, rfl, hs, rfl⟩ := gI_some hx
  obtain ⟨⟨hc1, hc2, hc3, hc4⟩, hin, hty, hnm, hdf⟩ := hcd
  intro ad H locs ls h1 h2 h3 h4 hz h5 h6 h7
  have hf : fv ad σ q k = .int (mI σ q k) := by unfold fv; rw [hs, if_neg (by rw [hr]; decide)]
  exact va_get X.1.1 X.1.2.1 X.1.2.2.2.2 hin X.1.2.2.2.1 hS.1 h3.1 q ((h3.at hs hc4 (by omega)).trans (congrArg some (pent_o hs hc3))) hc1 k hk (X.1.2.2.2.2 _ hq) (fun _ h => h) ((fs_at (hc2 ▸ hk)).trans (congrArg some hf)) hdg (kk _ h ad H locs ls h1 h2 h3 h4 hz h5 (h6.tail.cons vok_int) h7)
theorem wm_gIN (X : CX p s m args meth c cc nL own) (hS : ST D dA sz0 ad0 s) (hcd : CD ci C T N ty) (k : Nat) {f : Int32 → Option β} (h : (gI ci k v σ).bind f = some o) (hdg : decode cc pc = .ok (.getfield idx, 3)) (hk : k < N) (hr : cr ci k = false) {host : String} (j : Nat) (hq : nwl[j]? = some (Cond.fieldLinkNest own idx (T k).1 (T k).2.1 (T k).2.2.1 host)) (kk : ∀ x, f x = some o → WM p l e R s m args below meth c Q nL D dA sz0 ad0 N0 kc kz σ ℓ (.int x :: st) (pc + 3)) : WM p l e R s m args below meth c Q nL D dA sz0 ad0 N0 kc kz σ ℓ (va_rf v :: st) pc := by
  obtain ⟨x, hx, h⟩ := Option.bind_eq_some_iff.mp h
  obtain ⟨q, rfl, hs, rfl⟩ := gI_some hx
  obtain ⟨⟨hc1, hc2, hc3, hc4⟩, hin, hty, hnm, hdf⟩ := hcd
  intro ad H locs ls h1 h2 h3 h4 hz h5 h6 h7
  have hf : fv ad σ q k = .int (mI σ q k) := by unfold fv; rw [hs, if_neg (by rw [hr]; decide)]
  exact va_getN X.1.1 X.1.2.1 X.1.2.2.2.2 hin X.1.2.2.2.1 hS.1 h3.1 q ((h3.at hs hc4 (by omega)).trans (congrArg some (pent_o hs hc3))) hc1 k hk (va_Nw.use rfl (hS.2.1 _ (List.mem_of_getElem? hq))) (fun _ h => h) ((fs_at (hc2 ▸ hk)).trans (congrArg some hf)) hdg (kk _ h ad H locs ls h1 h2 h3 h4 hz h5 (h6.tail.cons vok_int) h7)
theorem wm_gR (X : CX p s m args meth c cc nL own) (hS : ST D dA sz0 ad0 s) (hcd : CD ci C T N ty) (k : Nat) {f : Option Nat → Option β} (h : (gR ci k v σ).bind f = some o) (hdg : decode cc pc = .ok (.getfield idx, 3)) (hk : k < N) (hr : cr ci k = true) (hq : Cond.fieldLink own idx (T k).1 (T k).2.1 (T k).2.2.1 ∈ lw_all) (kk : ∀ x, f x = some o → WM p l e R s m args below meth c Q nL D dA sz0 ad0 N0 kc kz σ ℓ (va_rf x :: st) (pc + 3)) : WM p l e R s m args below meth c Q nL D dA sz0 ad0 N0 kc kz σ ℓ (va_rf v :: st) pc := by
  obtain ⟨x, hx, h⟩ := Option.bind_eq_some_iff.mp h
  obtain ⟨q, rfl, hs, rfl⟩ := gR_some hx
  obtain ⟨⟨hc1, hc2, hc3, hc4⟩, hin, hty, hnm, hdf⟩ := hcd
  intro ad H locs ls h1 h2 h3 h4 hz h5 h6 h7
  have hf : fv ad σ q k = cv ad (va_rf (mR σ q k)) := by unfold fv; rw [hs, if_pos hr, cv_rf]
  exact va_get X.1.1 X.1.2.1 X.1.2.2.2.2 hin X.1.2.2.2.1 hS.1 h3.1 q ((h3.at hs hc4 (by omega)).trans (congrArg some (pent_o hs hc3))) hc1 k hk (X.1.2.2.2.2 _ hq) (fun _ h => h) ((fs_at (hc2 ▸ hk)).trans (congrArg some hf)) hdg (kk _ h ad H locs ls h1 h2 h3 h4 hz h5 (h6.tail.cons (vok_rf fun y hy => h3.2.2.2.2.1 q k y (h3.lt hs hc4 (by omega)) hy)) h7)
theorem wm_gRN (X : CX p s m args meth c cc nL own) (hS : ST D dA sz0 ad0 s) (hcd : CD ci C T N ty) (k : Nat) {f : Option Nat → Option β} (h : (gR ci k v σ).bind f = some o) (hdg : decode cc pc = .ok (.getfield idx, 3)) (hk : k < N) (hr : cr ci k = true) {host : String} (j : Nat) (hq : nwl[j]? = some (Cond.fieldLinkNest own idx (T k).1 (T k).2.1 (T k).2.2.1 host)) (kk : ∀ x, f x = some o → WM p l e R s m args below meth c Q nL D dA sz0 ad0 N0 kc kz σ ℓ (va_rf x :: st) (pc + 3)) : WM p l e R s m args below meth c Q nL D dA sz0 ad0 N0 kc kz σ ℓ (va_rf v :: st) pc := by
  obtain ⟨x, hx, h⟩ := Option.bind_eq_some_iff.mp h
  obtain ⟨q, rfl, hs, rfl⟩ := gR_some hx
  obtain ⟨⟨hc1, hc2, hc3, hc4⟩, hin, hty, hnm, hdf⟩ := hcd
  intro ad H locs ls h1 h2 h3 h4 hz h5 h6 h7
  have hf : fv ad σ q k = cv ad (va_rf (mR σ q k)) := by unfold fv; rw [hs, if_pos hr, cv_rf]
  exact va_getN X.1.1 X.1.2.1 X.1.2.2.2.2 hin X.1.2.2.2.1 hS.1 h3.1 q ((h3.at hs hc4 (by omega)).trans (congrArg some (pent_o hs hc3))) hc1 k hk (va_Nw.use rfl (hS.2.1 _ (List.mem_of_getElem? hq))) (fun _ h => h) ((fs_at (hc2 ▸ hk)).trans (congrArg some hf)) hdg (kk _ h ad H locs ls h1 h2 h3 h4 hz h5 (h6.tail.cons (vok_rf fun y hy => h3.2.2.2.2.1 q k y (h3.lt hs hc4 (by omega)) hy)) h7)
/-- a write: the memory's lists -/
theorem PM_wI {σ : Mm} {ad : Nat → Nat} {H1 : Heap} {q k : Nat} {x : Int32} {y : Nat × va_E} (he : pent dA ad (wI σ q k x) q = y) {H : Heap} (h3 : PM D dA sz0 ad σ H) (hq : q < mN σ) (hP : va_P D clT ((wl dA ad σ).set q y) H1) (hD : va_D (Ab sz0) ((wl dA ad σ).set q y)) (hz : sz0 ≤ H1.size) : PM D dA sz0 ad (wI σ q k x) H1 := by
  rw [wl_set (σ := σ) (σ' := wI σ q k x) rfl he (fun _ h => pent_wI h)] at hP hD
  exact ⟨hP, hD, h3.2.2.1, hz, h3.2.2.2.2.1, h3.2.2.2.2.2.1, SM_wI h3.2.2.2.2.2.2 (Nat.lt_of_lt_of_le hq h3.2.2.2.2.2.1)⟩
theorem PM_wR {σ : Mm} {ad : Nat → Nat} {H1 : Heap} {q k : Nat} {x : Option Nat} {y : Nat × va_E} (he : pent dA ad (wR σ q k x) q = y) {H : Heap} (h3 : PM D dA sz0 ad σ H) (hq : q < mN σ) (hx : ∀ a, x = some a → vq σ a) (hP : va_P D clT ((wl dA ad σ).set q y) H1) (hD : va_D (Ab sz0) ((wl dA ad σ).set q y)) (hz : sz0 ≤ H1.size) : PM D dA sz0 ad (wR σ q k x) H1 := by
  rw [wl_set (σ := σ) (σ' := wR σ q k x) rfl he (fun _ h => pent_wR h)] at hP hD
  refine ⟨hP, hD, h3.2.2.1, hz, fun a j b ha hb => ?_, h3.2.2.2.2.2.1, SM_wR h3.2.2.2.2.2.2 (Nat.lt_of_lt_of_le hq h3.2.2.2.2.2.1)⟩
  by_cases e1 : a = q
  · subst e1
    have hb : (if j = k then x else mR σ a j) = some b := by
      have := hb
      simp only [mR, wR, up2, if_true] at this
      exact this
    by_cases e2 : j = k
    · rw [if_pos e2] at hb; exact hx b hb
    · rw [if_neg e2] at hb; exact h3.2.2.2.2.1 a j b ha hb
  · have hb : mR σ a j = some b := by rw [← show mR (wR σ q k x) a = mR σ a from up2_o e1]; exact hb
    exact h3.2.2.2.2.1 a j b ha hb
theorem Ab_hA {sz0 : Nat} {H0 : Heap} (hz : sz0 ≤ H0.size) : ∀ q, H0.size ≤ q → Ab sz0 q := fun _ h => Nat.le_trans hz h
theorem Ab_S {sz0 : Nat} {H0 H : Heap} {locs : List Loc} (hz : sz0 ≤ H0.size) (h : va_S (Ab sz0) H0 H locs) : sz0 ≤ H.size := Nat.le_trans hz h.1
theorem pI_some {c k : Nat} {v : Option Nat} {x : Int32} {σ σ' : Mm} (h : pI c k v x σ = some σ') : ∃ q, v = some q ∧ mS σ q = c ∧ σ' = wI σ q k x := by
  cases v with
  | none => cases h
  | some q =>
    simp only [pI, Option.bind_some] at h
    split at h
    next hc => exact ⟨q, rfl, hc, (Option.some.inj h).symm⟩
    next => cases h
theorem pR_some {c k : Nat} {v : Option Nat} {x : Option Nat} {σ σ' : Mm} (h : pR c k v x σ = some σ') : ∃ q, v = some q ∧ mS σ q = c ∧ σ' = wR σ q k x := by
  cases v with
  | none => cases h
  | some q =>
    simp only [pR, Option.bind_some] at h
    split at h
    next hc => exact ⟨q, rfl, hc, (Option.some.inj h).symm⟩
    next => cases h
theorem pZ_some {c k : Nat} {v : Option Nat} {x : Int32} {σ σ' : Mm} (h : pZ c k v x σ = some σ') : (x = 0 ∨ x = 1) ∧ ∃ q, v = some q ∧ mS σ q = c ∧ σ' = wI σ q k x := by
  cases v with
  | none => cases h
  | some q =>
    simp only [pZ, Option.bind_some] at h
    split at h
    next hc => exact ⟨hc.2, q, rfl, hc.1, (Option.some.inj h).symm⟩
    next => cases h
theorem fs_wI {ad : Nat → Nat} {σ : Mm} {q k c : Nat} {x : Int32} (hs : mS σ q = c) (hc : c < 100) (hr : cr c k = false) : pent dA ad (wI σ q k x) q = (ad q, .inr (c, ((List.range (cN c)).map (fv ad σ q)).set k (.int x))) := by
  rw [pent_o (σ := wI σ q k x) hs hc]
  congr 3
  refine (fs_set ?_ ?_).symm
  · unfold fv
    rw [show mS (wI σ q k x) q = c from hs, if_neg (by rw [hr]; decide)]
    exact congrArg Value.int up2_s
  · intro j hj
    unfold fv
    rw [show mI (wI σ q k x) q j = mI σ q j by show up2 _ _ _ _ q j = _; rw [up2_r]; exact if_neg hj]
    rfl
theorem fs_wR {ad : Nat → Nat} {σ : Mm} {q k c : Nat} {x : Option Nat} (hs : mS σ q = c) (hc : c < 100) (hr : cr c k = true) : pent dA ad (wR σ q k x) q = (ad q, .inr (c, ((List.range (cN c)).map (fv ad σ q)).set k (va_rf (x.map ad)))) := by
  rw [pent_o (σ := wR σ q k x) hs hc]
  congr 3
  refine (fs_set ?_ ?_).symm
  · unfold fv
    rw [show mS (wR σ q k x) q = c from hs, if_pos hr]
    rw [show mR (wR σ q k x) q k = x from up2_s]
  · intro j hj
    unfold fv
    rw [show mR (wR σ q k x) q j = mR σ q j by show up2 _ _ _ _ q j = _; rw [up2_r]; exact if_neg hj]
    rfl
theorem nar_int {x : Int32} : narrow .int (.int x) = .int x := rfl
theorem nar_z {x : Int32} (h : x = 0 ∨ x = 1) : narrow .boolean (.int x) = .int x := by rcases h with rfl | rfl <;> decide
theorem fit_z {x : Int32} (h : x = 0 ∨ x = 1) : fits .boolean (.int x) = true := by rcases h with rfl | rfl <;> decide
theorem wm_pI (X : CX p s m args meth c cc nL own) (hS : ST D dA sz0 ad0 s) (hcd : CD ci C T N ty) (k : Nat) {x : Int32} {f : Mm → Option β} (h : (pI ci k v x σ).bind f = some o) (hdg : decode cc pc = .ok (.putfield idx, 3)) (hk : k < N) (hr : cr ci k = false) (hq : Cond.fieldLink own idx (T k).1 (T k).2.1 (T k).2.2.1 ∈ lw_all) (ht : ty k = .int) (hf : (T k).2.2.2 = false) (kk : ∀ σ', mN σ' = mN σ → f σ' = some o → WM p l e R s m args below meth c Q nL D dA sz0 ad0 N0 kc kz σ' ℓ st (pc + 3)) : WM p l e R s m args below meth c Q nL D dA sz0 ad0 N0 kc kz σ ℓ (.int x :: va_rf v :: st) pc := by
  obtain ⟨σ', hx, h⟩ := Option.bind_eq_some_iff.mp h
  obtain ⟨q, rfl, hs, rfl⟩ := pI_some hx
  obtain ⟨⟨hc1, hc2, hc3, hc4⟩, hin, hty, hnm, hdf⟩ := hcd
  intro ad H locs ls h1 h2 h3 h4 hz h5 h6 h7
  refine va_put X.1.1 X.1.2.1 X.1.2.2.2.2 hin ty hty hnm X.1.2.2.2.1 hS.1 h3.1 h3.2.1 h4 q ((h3.at hs hc4 (by omega)).trans (congrArg some (pent_o hs hc3))) hc1 k hk (X.1.2.2.2.2 _ hq) (fun _ h => h) hf (hty k hk) (by rw [ht]; rfl) (by rw [ht]; rfl) (by simp; omega) hdg (fun H1 locs1 hP hD hS1 => ?_)
  exact kk (wI σ q k x) rfl h ad H1 locs1 ls h1 h2 (PM_wI (fs_wI hs hc3 hr) h3 (h3.lt hs hc4 (by omega)) hP hD (Ab_S hz hS1)) hS1 hz h5 h6.tail.tail h7
theorem wm_pIN (X : CX p s m args meth c cc nL own) (hS : ST D dA sz0 ad0 s) (hcd : CD ci C T N ty) (k : Nat) {x : Int32} {f : Mm → Option β} (h : (pI ci k v x σ).bind f = some o) (hdg : decode cc pc = .ok (.putfield idx, 3)) (hk : k < N) (hr : cr ci k = false) {host : String} (j : Nat) (hq : nwl[j]? = some (Cond.fieldLinkNest own idx (T k).1 (T k).2.1 (T k).2.2.1 host)) (ht : ty k = .int) (hf : (T k).2.2.2 = false) (kk : ∀ σ', mN σ' = mN σ → f σ' = some o → WM p l e R s m args below meth c Q nL D dA sz0 ad0 N0 kc kz σ' ℓ st (pc + 3)) : WM p l e R s m args below meth c Q nL D dA sz0 ad0 N0 kc kz σ ℓ (.int x :: va_rf v :: st) pc := by
  obtain ⟨σ', hx, h⟩ := Option.bind_eq_some_iff.mp h
  obtain ⟨q, rfl, hs, rfl⟩ := pI_some hx
  obtain ⟨⟨hc1, hc2, hc3, hc4⟩, hin, hty, hnm, hdf⟩ := hcd
  intro ad H locs ls h1 h2 h3 h4 hz h5 h6 h7
  refine va_putN X.1.1 X.1.2.1 X.1.2.2.2.2 hin ty hty hnm X.1.2.2.2.1 hS.1 h3.1 h3.2.1 h4 q ((h3.at hs hc4 (by omega)).trans (congrArg some (pent_o hs hc3))) hc1 k hk (va_Nw.use rfl (hS.2.1 _ (List.mem_of_getElem? hq))) (fun _ h => h) hf (hty k hk) (by rw [ht]; rfl) (by rw [ht]; rfl) (by simp; omega) hdg (fun H1 locs1 hP hD hS1 => ?_)
  exact kk (wI σ q k x) rfl h ad H1 locs1 ls h1 h2 (PM_wI (fs_wI hs hc3 hr) h3 (h3.lt hs hc4 (by omega)) hP hD (Ab_S hz hS1)) hS1 hz h5 h6.tail.tail h7
theorem wm_pZ (X : CX p s m args meth c cc nL own) (hS : ST D dA sz0 ad0 s) (hcd : CD ci C T N ty) (k : Nat) {x : Int32} {f : Mm → Option β} (h : (pZ ci k v x σ).bind f = some o) (hdg : decode cc pc = .ok (.putfield idx, 3)) (hk : k < N) (hr : cr ci k = false) (hq : Cond.fieldLink own idx (T k).1 (T k).2.1 (T k).2.2.1 ∈ lw_all) (ht : ty k = .boolean) (hf : (T k).2.2.2 = false) (kk : ∀ σ', mN σ' = mN σ → f σ' = some o → WM p l e R s m args below meth c Q nL D dA sz0 ad0 N0 kc kz σ' ℓ st (pc + 3)) : WM p l e R s m args below meth c Q nL D dA sz0 ad0 N0 kc kz σ ℓ (.int x :: va_rf v :: st) pc := by
  obtain ⟨σ', hx, h⟩ := Option.bind_eq_some_iff.mp h
  obtain ⟨hx01, q, rfl, hs, rfl⟩ := pZ_some hx
  obtain ⟨⟨hc1, hc2, hc3, hc4⟩, hin, hty, hnm, hdf⟩ := hcd
  intro ad H locs ls h1 h2 h3 h4 hz h5 h6 h7
  refine va_put X.1.1 X.1.2.1 X.1.2.2.2.2 hin ty hty hnm X.1.2.2.2.1 hS.1 h3.1 h3.2.1 h4 q ((h3.at hs hc4 (by omega)).trans (congrArg some (pent_o hs hc3))) hc1 k hk (X.1.2.2.2.2 _ hq) (fun _ h => h) hf (hty k hk) (by rw [ht]; exact nar_z hx01) (by rw [ht]; exact fit_z hx01) (by simp; omega) hdg (fun H1 locs1 hP hD hS1 => ?_)
  exact kk (wI σ q k x) rfl h ad H1 locs1 ls h1 h2 (PM_wI (fs_wI hs hc3 hr) h3 (h3.lt hs hc4 (by omega)) hP hD (Ab_S hz hS1)) hS1 hz h5 h6.tail.tail h7
end R2
