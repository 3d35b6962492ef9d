/-! THE LAYER, 4: arrays, new objects, ends, calls -/
theorem aI_some {t : Nat} {v : Option Nat} {i : Int32} {σ : Mm} {x : Int32} (h : aI t v i σ = some x) : ∃ q, v = some q ∧ mS σ q = t ∧ vp_in i (mL σ q) ∧ x = mI σ q i.toNatClampNeg := by
  cases v with
  | none => cases h
  | some q =>
    simp only [aI, Option.bind_some] at h
    split at h
    next hc => exact ⟨q, rfl, hc.1, hc.2, (Option.some.inj h).symm⟩
    next => cases h
theorem aR_some {t : Nat} {v : Option Nat} {i : Int32} {σ : Mm} {x : Option Nat} (h : aR t v i σ = some x) : ∃ q, v = some q ∧ mS σ q = t ∧ vp_in i (mL σ q) ∧ x = mR σ q i.toNatClampNeg := by
  cases v with
  | none => cases h
  | some q =>
    simp only [aR, Option.bind_some] at h
    split at h
    next hc => exact ⟨q, rfl, hc.1, hc.2, (Option.some.inj h).symm⟩
    next => cases h
theorem sI_some {v : Option Nat} {i x : Int32} {σ σ' : Mm} (h : sI v i x σ = some σ') : ∃ q, v = some q ∧ mS σ q = 100 ∧ vp_in i (mL σ q) ∧ σ' = wI σ q i.toNatClampNeg x := by
  cases v with
  | none => cases h
  | some q =>
    simp only [sI, Option.bind_some] at h
    split at h
    next hc => exact ⟨q, rfl, hc.1, hc.2, (Option.some.inj h).symm⟩
    next => cases h
theorem sB_some {v : Option Nat} {i x : Int32} {σ σ' : Mm} (h : sB v i x σ = some σ') : ∃ q, v = some q ∧ mS σ q = 101 ∧ vp_in i (mL σ q) ∧ σ' = wI σ q i.toNatClampNeg x.toInt8.toInt32 := by
  cases v with
  | none => cases h
  | some q =>
    simp only [sB, Option.bind_some] at h
    split at h
    next hc => exact ⟨q, rfl, hc.1, hc.2, (Option.some.inj h).symm⟩
    next => cases h
theorem aL_some {t : Nat} {v : Option Nat} {σ : Mm} {x : Int32} (h : aL t v σ = some x) : ∃ q, v = some q ∧ mS σ q = t ∧ x = Int32.ofNat (mL σ q) := by
  cases v with
  | none => cases h
  | some q =>
    simp only [aL, Option.bind_some] at h
    split at h
    next hc => exact ⟨q, rfl, hc, (Option.some.inj h).symm⟩
    next => cases h
theorem rv_some {c : Nat} {v : Option Nat} {σ : Mm} {q : Nat} (h : rv c v σ = some q) : v = some q ∧ mS σ q = c := by
  cases v with
  | none => cases h
  | some a =>
    simp only [rv, Option.bind_some] at h
    split at h
    next hc => cases h; exact ⟨rfl, hc⟩
    next => cases h
theorem as_wI {dA : Nat → ClassId} {ad : Nat → Nat} {σ : Mm} {q k t : Nat} {x : Int32} (hs : mS σ q = t) (h1 : 100 ≤ t) (h2 : t < 102) : pent dA ad (wI σ q k x) q = (ad q, .inl (dA t, mL σ q, .inl (upd (mI σ q) k x))) := by
  rw [pent_i (σ := wI σ q k x) hs h1 h2]
  rw [show mI (wI σ q k x) q = upd (mI σ q) k x from up2_r]
  rfl
section R3
variable {p : Program} {l : Launch} {e : Env} {R : Room} {s : State} {m : MethodId} {args : Array Value} {below : List Frame} {meth : Method} {c : Code} {Q : State → Prop} {cc : ByteArray} {nL : Nat} {own : String} {D : va_G} {dA : Nat → ClassId} {sz0 : Nat} {ad0 : Nat → Nat} {N0 kc kz : Nat} {σ : Mm} {ℓ ℓ' : List (Nat × Value)} {st : List Value} {pc : Nat} {β : Type} {o : β} {ci : Nat} {C : String} {T : u_T} {N : Nat} {ty : Nat → FieldType} {idx : Nat} {v : Option Nat}
theorem wm_pR (X : CX p s m args meth c cc nL own) (hS : ST D dA sz0 ad0 s) (hcd : CD ci C T N ty) (k : Nat) {x : Option Nat} {f : Mm → Option β} (h : (pR ci k v x σ).bind f = some o) (hdg : decode cc pc = .ok (.putfield idx, 3)) (hk : k < N) (hr : cr ci k = true) (hq : Cond.fieldLink own idx (T k).1 (T k).2.1 (T k).2.2.1 ∈ lw_all) (hn : ∀ r : Option Nat, narrow (ty k) (va_rf r) = va_rf r ∧ fits (ty k) (va_rf r) = true) (hf : (T k).2.2.2 = false) (kk : ∀ σ', mN σ' = mN σ → f σ' = some o → WM p l e R s m args below meth c Q nL D dA sz0 ad0 N0 kc kz σ' ℓ st (pc + 3)) : WM p l e R s m args below meth c Q nL D dA sz0 ad0 N0 kc kz σ ℓ (va_rf x :: va_rf v :: st) pc := by
  obtain ⟨σ', hx, h⟩ := Option.bind_eq_some_iff.mp h
  obtain ⟨q, rfl, hs, rfl⟩ := pR_some hx
  obtain ⟨⟨hc1, hc2, hc3, hc4⟩, hin, hty, hnm, hdf⟩ := hcd
  intro ad H locs ls h1 h2 h3 h4 hz h5 h6 h7
  have e1 : sm ad (va_rf x :: va_rf (some q) :: st) = va_rf (x.map ad) :: .ref (ad q) :: sm ad st := by
    show cv ad (va_rf x) :: cv ad (.ref q) :: sm ad st = _
    rw [cv_rf]
    rfl
  rw [e1]
  refine va_put X.1.1 X.1.2.1 X.1.2.2.2.2 hin ty hty hnm X.1.2.2.2.1 hS.1 h3.1 h3.2.1 h4 q ((h3.at hs hc4 (by omega)).trans (congrArg some (pent_o hs hc3))) hc1 k hk (X.1.2.2.2.2 _ hq) (fun _ h => h) hf (hty k hk) (hn _).1 (hn _).2 (by simp; omega) hdg (fun H1 locs1 hP hD hS1 => ?_)
  exact kk (wR σ q k x) rfl h ad H1 locs1 ls h1 h2 (PM_wR (fs_wR hs hc3 hr) h3 (h3.lt hs hc4 (by omega)) (vok_rf' h6.head) hP hD (Ab_S hz hS1)) hS1 hz h5 h6.tail.tail h7
theorem wm_pRN (X : CX p s m args meth c cc nL own) (hS : ST D dA sz0 ad0 s) (hcd : CD ci C T N ty) (k : Nat) {x : Option Nat} {f : Mm → Option β} (h : (pR ci k v x σ).bind f = some o) (hdg : decode cc pc = .ok (.putfield idx, 3)) (hk : k < N) (hr : cr ci k = true) {host : String} (j : Nat) (hq : nwl[j]? = some (Cond.fieldLinkNest own idx (T k).1 (T k).2.1 (T k).2.2.1 host)) (hn : ∀ r : Option Nat, narrow (ty k) (va_rf r) = va_rf r ∧ fits (ty k) (va_rf r) = true) (hf : (T k).2.2.2 = false) (kk : ∀ σ', mN σ' = mN σ → f σ' = some o → WM p l e R s m args below meth c Q nL D dA sz0 ad0 N0 kc kz σ' ℓ st (pc + 3)) : WM p l e R s m args below meth c Q nL D dA sz0 ad0 N0 kc kz σ ℓ (va_rf x :: va_rf v :: st) pc := by
  obtain ⟨σ', hx, h⟩ := Option.bind_eq_some_iff.mp h
  obtain ⟨q, rfl, hs, rfl⟩ := pR_some hx
  obtain ⟨⟨hc1, hc2, hc3, hc4⟩, hin, hty, hnm, hdf⟩ := hcd
  intro ad H locs ls h1 h2 h3 h4 hz h5 h6 h7
  have e1 : sm ad (va_rf x :: va_rf (some q) :: st) = va_rf (x.map ad) :: .ref (ad q) :: sm ad st := by
    show cv ad (va_rf x) :: cv ad (.ref q) :: sm ad st = _
    rw [cv_rf]
    rfl
  rw [e1]
  refine va_putN X.1.1 X.1.2.1 X.1.2.2.2.2 hin ty hty hnm X.1.2.2.2.1 hS.1 h3.1 h3.2.1 h4 q ((h3.at hs hc4 (by omega)).trans (congrArg some (pent_o hs hc3))) hc1 k hk (va_Nw.use rfl (hS.2.1 _ (List.mem_of_getElem? hq))) (fun _ h => h) hf (hty k hk) (hn _).1 (hn _).2 (by simp; omega) hdg (fun H1 locs1 hP hD hS1 => ?_)
  exact kk (wR σ q k x) rfl h ad H1 locs1 ls h1 h2 (PM_wR (fs_wR hs hc3 hr) h3 (h3.lt hs hc4 (by omega)) (vok_rf' h6.head) hP hD (Ab_S hz hS1)) hS1 hz h5 h6.tail.tail h7
/-- final fields, in a constructor -/
theorem wm_pRF (X : CX p s m args meth c cc nL own) (hS : ST D dA sz0 ad0 s) (hcd : CD ci C T N ty) (k : Nat) {x : Option Nat} {f : Mm → Option β} (h : (pR ci k v x σ).bind f = some o) (hdg : decode cc pc = .ok (.putfield idx, 3)) (hk : k < N) (hr : cr ci k = true) (hq : Cond.fieldLink own idx (T k).1 (T k).2.1 (T k).2.2.1 ∈ lw_all) (hn : ∀ r : Option Nat, narrow (ty k) (va_rf r) = va_rf r ∧ fits (ty k) (va_rf r) = true) (hf : (T k).2.2.2 = true) (hi : meth.name = "<init>") (hd : (T k).1 = own) (kk : ∀ σ', mN σ' = mN σ → f σ' = some o → WM p l e R s m args below meth c Q nL D dA sz0 ad0 N0 kc kz σ' ℓ st (pc + 3)) : WM p l e R s m args below meth c Q nL D dA sz0 ad0 N0 kc kz σ ℓ (va_rf x :: va_rf v :: st) pc := by
  obtain ⟨σ', hx, h⟩ := Option.bind_eq_some_iff.mp h
  obtain ⟨q, rfl, hs, rfl⟩ := pR_some hx
  obtain ⟨⟨hc1, hc2, hc3, hc4⟩, hin, hty, hnm, hdf⟩ := hcd
  intro ad H locs ls h1 h2 h3 h4 hz h5 h6 h7
  have e1 : sm ad (va_rf x :: va_rf (some q) :: st) = va_rf (x.map ad) :: .ref (ad q) :: sm ad st := by
    show cv ad (va_rf x) :: cv ad (.ref q) :: sm ad st = _
    rw [cv_rf]
    rfl
  rw [e1]
  refine va_putF X.1.1 X.1.2.1 X.1.2.2.2.2 hin ty hty hnm X.1.2.2.2.1 hS.1 h3.1 h3.2.1 h4 q ((h3.at hs hc4 (by omega)).trans (congrArg some (pent_o hs hc3))) hc1 k hk (X.1.2.2.2.2 _ hq) (fun _ h => h) hf hi hd (hty k hk) (hn _).1 (hn _).2 (by simp; omega) hdg (fun H1 locs1 hP hD hS1 => ?_)
  exact kk (wR σ q k x) rfl h ad H1 locs1 ls h1 h2 (PM_wR (fs_wR hs hc3 hr) h3 (h3.lt hs hc4 (by omega)) (vok_rf' h6.head) hP hD (Ab_S hz hS1)) hS1 hz h5 h6.tail.tail h7
theorem wm_pIF (X : CX p s m args meth c cc nL own) (hS : ST D dA sz0 ad0 s) (hcd : CD ci C T N ty) (k : Nat) {x : Int32} {f : Mm → Option β} (h : (pI ci k v x σ).bind f = some o) (hdg : decode cc pc = .ok (.putfield idx, 3)) (hk : k < N) (hr : cr ci k = false) (hq : Cond.fieldLink own idx (T k).1 (T k).2.1 (T k).2.2.1 ∈ lw_all) (ht : ty k = .int) (hf : (T k).2.2.2 = true) (hi : meth.name = "<init>") (hd : (T k).1 = own) (kk : ∀ σ', mN σ' = mN σ → f σ' = some o → WM p l e R s m args below meth c Q nL D dA sz0 ad0 N0 kc kz σ' ℓ st (pc + 3)) : WM p l e R s m args below meth c Q nL D dA sz0 ad0 N0 kc kz σ ℓ (.int x :: va_rf v :: st) pc := by
  obtain ⟨σ', hx, h⟩ := Option.bind_eq_some_iff.mp h
  obtain ⟨q, rfl, hs, rfl⟩ := pI_some hx
  obtain ⟨⟨hc1, hc2, hc3, hc4⟩, hin, hty, hnm, hdf⟩ := hcd
  intro ad H locs ls h1 h2 h3 h4 hz h5 h6 h7
  refine va_putF X.1.1 X.1.2.1 X.1.2.2.2.2 hin ty hty hnm X.1.2.2.2.1 hS.1 h3.1 h3.2.1 h4 q ((h3.at hs hc4 (by omega)).trans (congrArg some (pent_o hs hc3))) hc1 k hk (X.1.2.2.2.2 _ hq) (fun _ h => h) hf hi hd (hty k hk) (by rw [ht]; rfl) (by rw [ht]; rfl) (by simp; omega) hdg (fun H1 locs1 hP hD hS1 => ?_)
  exact kk (wI σ q k x) rfl h ad H1 locs1 ls h1 h2 (PM_wI (fs_wI hs hc3 hr) h3 (h3.lt hs hc4 (by omega)) hP hD (Ab_S hz hS1)) hS1 hz h5 h6.tail.tail h7
theorem wm_pZF (X : CX p s m args meth c cc nL own) (hS : ST D dA sz0 ad0 s) (hcd : CD ci C T N ty) (k : Nat) {x : Int32} {f : Mm → Option β} (h : (pZ ci k v x σ).bind f = some o) (hdg : decode cc pc = .ok (.putfield idx, 3)) (hk : k < N) (hr : cr ci k = false) (hq : Cond.fieldLink own idx (T k).1 (T k).2.1 (T k).2.2.1 ∈ lw_all) (ht : ty k = .boolean) (hf : (T k).2.2.2 = true) (hi : meth.name = "<init>") (hd : (T k).1 = own) (kk : ∀ σ', mN σ' = mN σ → f σ' = some o → WM p l e R s m args below meth c Q nL D dA sz0 ad0 N0 kc kz σ' ℓ st (pc + 3)) : WM p l e R s m args below meth c Q nL D dA sz0 ad0 N0 kc kz σ ℓ (.int x :: va_rf v :: st) pc := by
  obtain ⟨σ', hx, h⟩ := Option.bind_eq_some_iff.mp h
  obtain ⟨hx01, q, rfl, hs, rfl⟩ := pZ_some hx
  obtain ⟨⟨hc1, hc2, hc3, hc4⟩, hin, hty, hnm, hdf⟩ := hcd
  intro ad H locs ls h1 h2 h3 h4 hz h5 h6 h7
  refine va_putF X.1.1 X.1.2.1 X.1.2.2.2.2 hin ty hty hnm X.1.2.2.2.1 hS.1 h3.1 h3.2.1 h4 q ((h3.at hs hc4 (by omega)).trans (congrArg some (pent_o hs hc3))) hc1 k hk (X.1.2.2.2.2 _ hq) (fun _ h => h) hf hi hd (hty k hk) (by rw [ht]; exact nar_z hx01) (by rw [ht]; exact fit_z hx01) (by simp; omega) hdg (fun H1 locs1 hP hD hS1 => ?_)
  exact kk (wI σ q k x) rfl h ad H1 locs1 ls h1 h2 (PM_wI (fs_wI hs hc3 hr) h3 (h3.lt hs hc4 (by omega)) hP hD (Ab_S hz hS1)) hS1 hz h5 h6.tail.tail h7
theorem wm_iaload (X : CX p s m args meth c cc nL own) (hS : ST D dA sz0 ad0 s) {i : Int32} {f : Int32 → Option β} (h : (aI 100 v i σ).bind f = some o) (hdg : decode cc pc = .ok (.iaload, 1)) (kk : ∀ x, f x = some o → WM p l e R s m args below meth c Q nL D dA sz0 ad0 N0 kc kz σ ℓ (.int x :: st) (pc + 1)) : WM p l e R s m args below meth c Q nL D dA sz0 ad0 N0 kc kz σ ℓ (.int i :: va_rf v :: st) pc := by
  obtain ⟨x, hx, h⟩ := Option.bind_eq_some_iff.mp h
  obtain ⟨q, rfl, hs, hin, rfl⟩ := aI_some hx
  intro ad H locs ls h1 h2 h3 h4 hz h5 h6 h7
  exact va_iald X.1.1 X.1.2.1 hS.1 h3.1 q 0 ((h3.at hs (by omega) (by omega)).trans (congrArg some (pent_i hs (by omega) (by omega)))) rfl hin hdg (kk _ h ad H locs ls h1 h2 h3 h4 hz h5 (h6.tail.tail.cons vok_int) h7)
theorem wm_baload (X : CX p s m args meth c cc nL own) (hS : ST D dA sz0 ad0 s) {i : Int32} {f : Int32 → Option β} (h : (aI 101 v i σ).bind f = some o) (hdg : decode cc pc = .ok (.baload, 1)) (kk : ∀ x, f x = some o → WM p l e R s m args below meth c Q nL D dA sz0 ad0 N0 kc kz σ ℓ (.int x :: st) (pc + 1)) : WM p l e R s m args below meth c Q nL D dA sz0 ad0 N0 kc kz σ ℓ (.int i :: va_rf v :: st) pc := by
  obtain ⟨x, hx, h⟩ := Option.bind_eq_some_iff.mp h
  obtain ⟨q, rfl, hs, hin, rfl⟩ := aI_some hx
  intro ad H locs ls h1 h2 h3 h4 hz h5 h6 h7
  exact va_bald X.1.1 X.1.2.1 hS.1 h3.1 q 1 ((h3.at hs (by omega) (by omega)).trans (congrArg some (pent_i hs (by omega) (by omega)))) rfl hin hdg (kk _ h ad H locs ls h1 h2 h3 h4 hz h5 (h6.tail.tail.cons vok_int) h7)
theorem wm_iastore (X : CX p s m args meth c cc nL own) (hS : ST D dA sz0 ad0 s) {i x : Int32} {f : Mm → Option β} (h : (sI v i x σ).bind f = some o) (hdg : decode cc pc = .ok (.iastore, 1)) (kk : ∀ σ', mN σ' = mN σ → f σ' = some o → WM p l e R s m args below meth c Q nL D dA sz0 ad0 N0 kc kz σ' ℓ st (pc + 1)) : WM p l e R s m args below meth c Q nL D dA sz0 ad0 N0 kc kz σ ℓ (.int x :: .int i :: va_rf v :: st) pc := by
  obtain ⟨σ', hx, h⟩ := Option.bind_eq_some_iff.mp h
  obtain ⟨q, rfl, hs, hin, rfl⟩ := sI_some hx
  intro ad H locs ls h1 h2 h3 h4 hz h5 h6 h7
  refine va_iast X.1.1 X.1.2.1 hS.1 h3.1 h3.2.1 h4 q 0 ((h3.at hs (by omega) (by omega)).trans (congrArg some (pent_i hs (by omega) (by omega)))) rfl hin hdg (fun H1 locs1 hP hD hS1 => ?_)
  exact kk (wI σ q i.toNatClampNeg x) rfl h ad H1 locs1 ls h1 h2 (PM_wI (as_wI hs (by omega) (by omega)) h3 (h3.lt hs (by omega) (by omega)) hP hD (Ab_S hz hS1)) hS1 hz h5 h6.tail.tail.tail h7
theorem wm_bastore (X : CX p s m args meth c cc nL own) (hS : ST D dA sz0 ad0 s) {i x : Int32} {f : Mm → Option β} (h : (sB v i x σ).bind f = some o) (hdg : decode cc pc = .ok (.bastore, 1)) (kk : ∀ σ', mN σ' = mN σ → f σ' = some o → WM p l e R s m args below meth c Q nL D dA sz0 ad0 N0 kc kz σ' ℓ st (pc + 1)) : WM p l e R s m args below meth c Q nL D dA sz0 ad0 N0 kc kz σ ℓ (.int x :: .int i :: va_rf v :: st) pc := by
  obtain ⟨σ', hx, h⟩ := Option.bind_eq_some_iff.mp h
  obtain ⟨q, rfl, hs, hin, rfl⟩ := sB_some hx
  intro ad H locs ls h1 h2 h3 h4 hz h5 h6 h7
  refine va_bast X.1.1 X.1.2.1 hS.1 h3.1 h3.2.1 h4 q 1 ((h3.at hs (by omega) (by omega)).trans (congrArg some (pent_i hs (by omega) (by omega)))) rfl hin hdg (fun H1 locs1 hP hD hS1 => ?_)
  exact kk (wI σ q i.toNatClampNeg x.toInt8.toInt32) rfl h ad H1 locs1 ls h1 h2 (PM_wI (as_wI hs (by omega) (by omega)) h3 (h3.lt hs (by omega) (by omega)) (by rw [← vp_nar_byte]; exact hP) (by rw [← vp_nar_byte]; exact hD) (Ab_S hz hS1)) hS1 hz h5 h6.tail.tail.tail h7
theorem wm_alen (X : CX p s m args meth c cc nL own) (hS : ST D dA sz0 ad0 s) (t : Nat) (ht : t = 100 ∨ t = 101 ∨ t = 102) {f : Int32 → Option β} (h : (aL t v σ).bind f = some o) (hdg : decode cc pc = .ok (.arraylength, 1)) (kk : ∀ x, f x = some o → WM p l e R s m args below meth c Q nL D dA sz0 ad0 N0 kc kz σ ℓ (.int x :: st) (pc + 1)) : WM p l e R s m args below meth c Q nL D dA sz0 ad0 N0 kc kz σ ℓ (va_rf v :: st) pc := by
  obtain ⟨x, hx, h⟩ := Option.bind_eq_some_iff.mp h
  obtain ⟨q, rfl, hs, rfl⟩ := aL_some hx
  intro ad H locs ls h1 h2 h3 h4 hz h5 h6 h7
  have hk := kk _ h ad H locs ls h1 h2 h3 h4 hz h5 (h6.tail.cons vok_int) h7
  rcases ht with rfl | rfl | rfl
  · exact va_alen X.1.1 X.1.2.1 hS.1 h3.1 q 0 ((h3.at hs (by omega) (by omega)).trans (congrArg some (pent_i hs (by omega) (by omega)))) rfl rfl hdg hk
  · exact va_alen X.1.1 X.1.2.1 hS.1 h3.1 q 1 ((h3.at hs (by omega) (by omega)).trans (congrArg some (pent_i hs (by omega) (by omega)))) rfl rfl hdg hk
  · exact va_alen X.1.1 X.1.2.1 hS.1 h3.1 q 2 ((h3.at hs (by omega) (by omega)).trans (congrArg some (pent_r hs (by omega)))) rfl rfl hdg hk
/-- a new place -/
theorem Ex_new {σ : Mm} {ad0 ad : Nat → Nat} {N0 q : Nat} (h1 : Ex N0 ad0 ad) (h2 : N0 ≤ mN σ) (hB : mN σ < BIG) : Ex (mN σ) ad (up1 ad (mN σ) q) ∧ Ex N0 ad0 (up1 ad (mN σ) q) := by
  have h : Ex (mN σ) ad (up1 ad (mN σ) q) := fun a ha => if_neg (by rcases ha with ha | ha <;> omega)
  exact ⟨h, h1.trans h h2⟩
theorem PM_wN {σ : Mm} {ad : Nat → Nat} {H H1 : Heap} {t n q : Nat} {y : va_E} (h3 : PM D dA sz0 ad σ H) (hB : mN σ < BIG) (ht : t < 500) (he : pent dA (up1 ad (mN σ) q) (wN σ t n) (mN σ) = (q, y)) (hP : va_P D clT (wl dA ad σ ++ [(q, y)]) H1) (hD : va_D (Ab sz0) (wl dA ad σ ++ [(q, y)])) (hz : sz0 ≤ H1.size) : PM D dA sz0 (up1 ad (mN σ) q) (wN σ t n) H1 := by
  have hx : Ex (mN σ) ad (up1 ad (mN σ) q) := (Ex_new (Ex.rf (n := mN σ)) (Nat.le_refl _) hB).1
  rw [wl_wN hx h3.2.2.2.2.1 he] at hP hD
  refine ⟨hP, hD, fun a ha hb => ?_, hz, fun a j b ha hb => ?_, hB, SM_ad (ad := ad) (fun a ha => if_neg (by omega)) (SM_wN h3.2.2.2.2.2.2 hB ht)⟩
  · show a < mN σ + 1
    by_cases hc : a = mN σ
    · omega
    · have e1 : mS (wN σ t n) a = mS σ a := if_neg hc
      rw [e1] at ha hb
      have := h3.2.2.1 a ha hb
      omega
  · by_cases hc : a = mN σ
    · have e1 : mR (wN σ t n) a = fun _ => none := if_pos hc
      rw [e1] at hb
      cases hb
    · have e1 : mR (wN σ t n) a = mR σ a := if_neg hc
      rw [e1] at hb
      have ha : a < mN σ + 1 := ha
      exact (h3.2.2.2.2.1 a j b (by omega) hb).elim (fun z => Or.inl (by show b < mN σ + 1; omega)) Or.inr
theorem wm_new (X : CX p s m args meth c cc nL own) (hS : ST D dA sz0 ad0 s) (hcd : CD ci C T N ty) {f : Option Nat × Mm → Option β} (h : (nO ci σ).bind f = some o) (hdg : decode cc pc = .ok (.new idx, 3)) (q1 : Cond.classLink own idx C ∈ lw_all) (q2 : Cond.instantiable C N ∈ lw_all) (q3 : Cond.initialized C ∈ lw_all) (hc : kc + 1 ≤ R.cells) (hs : kz + N ≤ R.slots) (kk : ∀ (v : Option Nat) σ', mN σ ≤ mN σ' → f (v, σ') = some o → WM p l e R s m args below meth c Q nL D dA sz0 ad0 N0 (kc + 1) (kz + N) σ' ℓ (va_rf v :: st) (pc + 3)) : WM p l e R s m args below meth c Q nL D dA sz0 ad0 N0 kc kz σ ℓ st pc := by
  obtain ⟨x, hx, h⟩ := Option.bind_eq_some_iff.mp h
  unfold nO at hx
  split at hx
  case isFalse => cases hx
  case isTrue hB =>
  cases hx
  obtain ⟨⟨hc1, hc2, hc3, hc4⟩, hin, hty, hnm, hdf⟩ := hcd
  intro ad H locs ls h1 h2 h3 h4 hz h5 h6 h7
  have hfs : ∀ j, j < N → defaultValue (ty j) = vp_V ((List.range (cN ci)).map (fun j => if cr ci j = true then Value.null else .int 0)) j := by
    intro j hj
    rw [hdf j hj]
    simp [vp_V, ← hc2, hj]
  refine va_new (fs := (List.range (cN ci)).map (fun j => if cr ci j = true then Value.null else .int 0)) X.1.1 X.1.2.1 X.1.2.2.2.2 hin ty hty X.1.2.2.2.1 (X.1.2.2.2.2 _ q1) (X.1.2.2.2.2 _ q2) (X.1.2.2.2.2 _ q3) hS.1 h3.1 h3.2.1 h4 (Ab_hA hz) hc1 hfs hc hs hdg (fun q H1 hP hD hS1 => ?_)
  obtain ⟨hx1, hx2⟩ := Ex_new (q := q) h1 h2 hB
  have he : pent dA (up1 ad (mN σ) q) (wN σ ci 0) (mN σ) = (q, .inr (ci, (List.range (cN ci)).map (fun j => if cr ci j = true then Value.null else .int 0))) := by
    have e0 : mS (wN σ ci 0) (mN σ) = ci := if_pos rfl
    rw [pent_o e0 hc3, show up1 ad (mN σ) q (mN σ) = q from if_pos rfl]
    congr 3
    apply List.map_congr_left
    intro j _
    unfold fv
    rw [e0, show mR (wN σ ci 0) (mN σ) = fun _ => none from if_pos rfl, show mI (wN σ ci 0) (mN σ) = fun _ => 0 from if_pos rfl]
    rfl
  have hk := kk (some (mN σ)) (wN σ ci 0) (Nat.le_succ _) h (up1 ad (mN σ) q) H1 locs ls hx2 (Nat.le_trans h2 (Nat.le_succ _)) (PM_wN h3 hB (by omega) he hP hD (Ab_S hz hS1)) hS1 hz (h5.mono (Nat.le_succ _)) ((h6.mono (Nat.le_succ _)).cons (vok_rf fun a ha => by cases ha; exact Or.inl (Nat.lt_succ_self _))) (by rw [hx1.lm h5]; exact h7)
  have e2 : sm (up1 ad (mN σ) q) (va_rf (some (mN σ)) :: st) = .ref q :: sm ad st := by
    show cv _ (.ref (mN σ)) :: sm _ st = _
    rw [hx1.sm h6]
    exact congrArg (fun z => Value.ref z :: sm ad st) (if_pos rfl)
  rw [e2] at hk
  exact hk
theorem tys_at {s : State} (hS : ST D dA sz0 ad0 s) {cA : ClassId} {t : FieldType} {k kd : Nat} (hk : (ktys dA)[k]? = some (dA kd, t)) (hn : va_RA s cA t) (hb : ∀ C, t ≠ .object C) : cA = dA kd := by
  have h := (hS.1.2 k _ hk).2
  cases t with
  | object C => exact absurd rfl (hb C)
  | _ => exact Option.some.inj (hn.symm.trans h)
theorem wm_newarr (X : CX p s m args meth c cc nL own) (hS : ST D dA sz0 ad0 s) (t : Nat) (atype : ArrayType) (ht : (t = 100 ∧ atype = .int) ∨ (t = 101 ∧ atype = .byte)) {n : Int32} (hq : Cond.arrayClass (newarray.typeOf atype) ∈ lw_all) {f : Option Nat × Mm → Option β} (h : (nA t n σ).bind f = some o) (hdg : decode cc pc = .ok (.newarray atype, 2)) (hc : kc + 1 ≤ R.cells) {z : Nat} (hn : n.toNatClampNeg = z) (hs : kz + z ≤ R.slots) (kk : ∀ (v : Option Nat) σ', mN σ ≤ mN σ' → f (v, σ') = some o → WM p l e R s m args below meth c Q nL D dA sz0 ad0 N0 (kc + 1) (kz + z) σ' ℓ (va_rf v :: st) (pc + 2)) : WM p l e R s m args below meth c Q nL D dA sz0 ad0 N0 kc kz σ ℓ (.int n :: st) pc := by
  subst hn
  obtain ⟨x, hx, h⟩ := Option.bind_eq_some_iff.mp h
  unfold nA at hx
  split at hx
  case isFalse => cases hx
  case isTrue hB =>
  cases hx
  obtain ⟨hB, hn0, hn1⟩ := hB
  intro ad H locs ls h1 h2 h3 h4 hz h5 h6 h7
  have hts : t = 100 ∨ t = 101 := ht.elim (fun z => Or.inl z.1) (fun z => Or.inr z.1)
  have key : ∀ (q : Nat) (cA : ClassId) (H1 : Heap), cA = dA t → va_P D clT (wl dA ad σ ++ [(q, .inl (cA, n.toNatClampNeg, .inl fun _ => 0))]) H1 → va_D (Ab sz0) (wl dA ad σ ++ [(q, .inl (cA, n.toNatClampNeg, .inl fun _ => 0))]) → va_S (Ab sz0) s.heap H1 locs → W p l e R s m args below meth c H1 locs (kc + 1) (kz + n.toNatClampNeg) Q (F0 m (pc + 2) ls (.ref q :: sm ad st)) := by
    intro q cA H1 hcA hP hD hS1
    subst hcA
    obtain ⟨hx1, hx2⟩ := Ex_new (q := q) h1 h2 hB
    have he : pent dA (up1 ad (mN σ) q) (wN σ t n.toNatClampNeg) (mN σ) = (q, .inl (dA t, n.toNatClampNeg, .inl fun _ => 0)) := by
      have e0 : mS (wN σ t n.toNatClampNeg) (mN σ) = t := if_pos rfl
      rw [pent_i e0 (by omega) (by omega), show up1 ad (mN σ) q (mN σ) = q from if_pos rfl, show mL (wN σ t n.toNatClampNeg) (mN σ) = n.toNatClampNeg from if_pos rfl, show mI (wN σ t n.toNatClampNeg) (mN σ) = fun _ => 0 from if_pos rfl]
    have hk := kk (some (mN σ)) (wN σ t n.toNatClampNeg) (Nat.le_succ _) h (up1 ad (mN σ) q) H1 locs ls hx2 (Nat.le_trans h2 (Nat.le_succ _)) (PM_wN h3 hB (by omega) he hP hD (Ab_S hz hS1)) hS1 hz (h5.mono (Nat.le_succ _)) ((h6.tail.mono (Nat.le_succ _)).cons (vok_rf fun a ha => by cases ha; exact Or.inl (Nat.lt_succ_self _))) (by rw [hx1.lm h5]; exact h7)
    have e2 : sm (up1 ad (mN σ) q) (va_rf (some (mN σ)) :: st) = .ref q :: sm ad st := by
      show cv _ (.ref (mN σ)) :: sm _ st = _
      rw [hx1.sm h6.tail]
      exact congrArg (fun z => Value.ref z :: sm ad st) (if_pos rfl)
    rw [e2] at hk
    exact hk
  rcases ht with ⟨rfl, rfl⟩ | ⟨rfl, rfl⟩
  · exact va_newa (a0 := (n.toNatClampNeg, .inl fun _ => 0)) (ty := .int) X.1.1 X.1.2.1 (X.1.2.2.2.2 _ hq) rfl hS.1 h3.1 h3.2.1 h4 (Ab_hA hz) (fun _ => rfl) hn0 rfl (by show n.toNatClampNeg * 4 ≤ _; omega) hc hs hdg (fun q cA H1 hK hP hD hS1 => key q cA H1 (tys_at hS (k := 0) rfl (hK.2 5 (cA, .int) rfl).2 (by intro C hC; cases hC)) hP hD hS1)
  · exact va_newa (a0 := (n.toNatClampNeg, .inl fun _ => 0)) (ty := .byte) X.1.1 X.1.2.1 (X.1.2.2.2.2 _ hq) rfl hS.1 h3.1 h3.2.1 h4 (Ab_hA hz) (fun _ => rfl) hn0 rfl (by show n.toNatClampNeg * 1 ≤ _; omega) hc hs hdg (fun q cA H1 hK hP hD hS1 => key q cA H1 (tys_at hS (k := 1) rfl (hK.2 5 (cA, .byte) rfl).2 (by intro C hC; cases hC)) hP hD hS1)
end R3
