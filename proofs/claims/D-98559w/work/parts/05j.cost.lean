/-! THE LAYER, 9: methods that return or throw, with what they cost -/
abbrev DX (α : Type) : Type := Option ((α ⊕ (Nat × Mm)) × Nat × Nat)
def pay {β : Type} (c z : Nat) (m : Option (β × Nat × Nat)) : Option (β × Nat × Nat) := m.map fun o => (o.1, c + o.2.1, z + o.2.2)
def db {α β : Type} (m : DX α) (f : α → DX β) : DX β := m.bind fun o => match o.1 with
  | .inl a => pay o.2.1 o.2.2 (f a)
  | .inr e => some (.inr e, o.2.1, o.2.2)
def rt {α : Type} (r : α) : DX α := some (.inl r, 0, 0)
def rZd {β : Type} (x : Int32) (r : β) : DX (Int32 × β) := if x = 0 ∨ x = 1 then some (.inl (x, r), 0, 0) else none
def thw {β : Type} (k : Nat) (σ : Mm) : DX β := some (.inr (k, σ), 1, 6)
def thrd {β : Type} (v : Option Nat) (σ : Mm) : DX β := v.bind fun p => if mS σ p = 9 then some (.inr (1, σ), 0, 0) else none
theorem pay_d {β : Type} {c z : Nat} {m : Option (β × Nat × Nat)} {o : β} {C Z kc kz MC MZ : Nat} (h : pay c z m = some (o, C, Z)) (hC : kc + C ≤ MC) (hZ : kz + Z ≤ MZ) : ∃ C' Z', m = some (o, C', Z') ∧ kc + c + C' ≤ MC ∧ kz + z + Z' ≤ MZ := by
  obtain ⟨⟨o', c', z'⟩, hm, he⟩ := Option.map_eq_some_iff.mp h
  cases he
  exact ⟨c', z', hm, by rw [Nat.add_assoc]; exact hC, by rw [Nat.add_assoc]; exact hZ⟩
theorem rt_e {α : Type} {r : α} {o : α ⊕ (Nat × Mm)} {C Z : Nat} (h : rt r = some (o, C, Z)) : (some (Sum.inl r) : Option (α ⊕ (Nat × Mm))) = some o := by
  cases h
  rfl
theorem rZd_e {β : Type} {x : Int32} {r : β} {o : (Int32 × β) ⊕ (Nat × Mm)} {C Z : Nat} (h : rZd x r = some (o, C, Z)) : rZx x r = some o := by
  unfold rZd at h
  unfold rZx
  split at h
  next hc => rw [if_pos hc]; cases h; rfl
  next => cases h
theorem thw_e {β : Type} {k : Nat} {σ : Mm} {o : β ⊕ (Nat × Mm)} {C Z : Nat} (h : thw k σ = some (o, C, Z)) : (some (Sum.inr (k, σ)) : Option (β ⊕ (Nat × Mm))) = some o ∧ C = 1 ∧ Z = 6 := by
  cases h
  exact ⟨rfl, rfl, rfl⟩
theorem thrd_e {β : Type} {v : Option Nat} {σ : Mm} {o : β ⊕ (Nat × Mm)} {C Z : Nat} (h : thrd v σ = some (o, C, Z)) : (thr v σ : Option (β ⊕ (Nat × Mm))) = some o := by
  cases v with
  | none => cases h
  | some p =>
    simp only [thrd, thr, Option.bind_some] at h ⊢
    split at h
    next hc => rw [if_pos hc]; cases h; rfl
    next => cases h
theorem le_p {a b c : Nat} (h : a + b ≤ c) : a ≤ c := Nat.le_trans (Nat.le_add_right _ _) h
section R9
variable {p : Program} {l : Launch} {e : Env} {R : Room} {s : State} {m : MethodId} {args : Array Value} {below : List Frame} {meth : Method} {c : Code} {Q : State → Prop} {cc : ByteArray} {nL : Nat} {own : String} {D : va_G} {dA : Nat → ClassId} {sz0 : Nat} {ad0 : Nat → Nat} {N0 kc kz : Nat} {σ σ' : Mm} {ℓ ℓ' : List (Nat × Value)} {st : List Value} {pc : Nat} {β γ : Type} {ci : Nat} {C : String} {T : u_T} {N : Nat} {ty : Nat → FieldType} {idx : Nat} {v : Option Nat} {y : MethodName} {bytes : ByteArray} {maxL fr lo n MC MZ CC ZZ : Nat} {ret : Option FieldType} {As stk : List Value} {q : Nat} {Qc : Array Value → State → Outcome → State → Prop} {o : γ ⊕ (Nat × Mm)}
theorem wm_dV_i (X : CX p s m args meth c cc nL own) (hS : ST D dA sz0 ad0 s) (hno : ∀ x ∈ c.exceptionTable.toList, False) (hcd : CD ci C T N ty) (hs : mS σ q = ci) (hC : y.cls = C) {F : DX (Int32 × Mm)} {f : (Int32 × Mm) → DX γ} (h : db F f = some (o, CC, ZZ)) (hMc : kc + CC ≤ MC) (hMz : kz + ZZ ≤ MZ) (hz : ∀ x c1 z1, F = some (x, c1, z1) → CTXi l y (ws_ y bytes maxL ret) fr lo c1 z1 (va_rf (some q) :: As) σ x) (hmd : MD y n) (hmv : MV y bytes maxL ret) (hq : Cond.methodLink own idx y ∈ lw_all) (hdg : decode cc pc = .ok (.invokevirtual idx, 3)) (hn : As.length = n) (hst : stk = As.reverse ++ va_rf (some q) :: st) (hcat : c1 st) (hst8 : st.length ≤ 8) (hrm : fr + 1 ≤ R.frames ∧ 8 + (maxL + 11) + lo ≤ R.locals) (hR1 : MC ≤ R.cells) (hR2 : MZ ≤ R.slots) (kk : ∀ r σ1 c1 z1 C1 Z1, mN σ ≤ mN σ1 → f (r, σ1) = some (o, C1, Z1) → kc + c1 + C1 ≤ MC → kz + z1 + Z1 ≤ MZ → WM p l e R s m args below meth c (vx_MQ below Qc (XQX D dA sz0 ad0 N0 o) args s MC MZ (Ab sz0)) nL D dA sz0 ad0 N0 (kc + c1) (kz + z1) σ1 ℓ (.int r :: st) (pc + 3)) : WM p l e R s m args below meth c (vx_MQ below Qc (XQX D dA sz0 ad0 N0 o) args s MC MZ (Ab sz0)) nL D dA sz0 ad0 N0 kc kz σ ℓ stk pc := by
  obtain ⟨⟨x, c9, z9⟩, hm, h⟩ := Option.bind_eq_some_iff.mp h
  have hz' : ∀ x', some x = some x' → CTXi l y (ws_ y bytes maxL ret) fr lo c9 z9 (va_rf (some q) :: As) σ x' := fun x' hx => by
    cases hx
    exact hz x c9 z9 hm
  cases x with
  | inr e8 =>
    cases h
    exact wm_xcV_i (f := fun _ => none) X hS hno hcd hs hC (F := some (.inr e8)) rfl hz' hmd hmv hq hdg hn hst hcat hst8 hrm ⟨Nat.le_trans hMc hR1, Nat.le_trans hMz hR2⟩ hMc hMz (fun r σ1 _ hf => by cases hf)
  | inl a8 =>
    obtain ⟨C1, Z1, h, hMc, hMz⟩ := pay_d h hMc hMz
    refine wm_xcV_i (f := fun a => @ite _ (a = a8) (Classical.propDecidable _) (some o) none) X hS hno hcd hs hC (F := some (.inl a8)) (if_pos rfl) hz' hmd hmv hq hdg hn hst hcat hst8 hrm ⟨Nat.le_trans (le_p hMc) hR1, Nat.le_trans (le_p hMz) hR2⟩ (le_p hMc) (le_p hMz) (fun r σ1 hN hf => ?_)
    by_cases ha : (r, σ1) = a8
    · rw [← ha] at h
      exact kk r σ1 c9 z9 C1 Z1 hN h hMc hMz
    · rw [if_neg ha] at hf
      cases hf
theorem wm_dV_v (X : CX p s m args meth c cc nL own) (hS : ST D dA sz0 ad0 s) (hno : ∀ x ∈ c.exceptionTable.toList, False) (hcd : CD ci C T N ty) (hs : mS σ q = ci) (hC : y.cls = C) {F : DX Mm} {f : Mm → DX γ} (h : db F f = some (o, CC, ZZ)) (hMc : kc + CC ≤ MC) (hMz : kz + ZZ ≤ MZ) (hz : ∀ x c1 z1, F = some (x, c1, z1) → CTXv l y (ws_ y bytes maxL ret) fr lo c1 z1 (va_rf (some q) :: As) σ x) (hmd : MD y n) (hmv : MV y bytes maxL ret) (hq : Cond.methodLink own idx y ∈ lw_all) (hdg : decode cc pc = .ok (.invokevirtual idx, 3)) (hn : As.length = n) (hst : stk = As.reverse ++ va_rf (some q) :: st) (hcat : c1 st) (hst8 : st.length ≤ 8) (hrm : fr + 1 ≤ R.frames ∧ 8 + (maxL + 11) + lo ≤ R.locals) (hR1 : MC ≤ R.cells) (hR2 : MZ ≤ R.slots) (kk : ∀ σ1 c1 z1 C1 Z1, mN σ ≤ mN σ1 → f σ1 = some (o, C1, Z1) → kc + c1 + C1 ≤ MC → kz + z1 + Z1 ≤ MZ → WM p l e R s m args below meth c (vx_MQ below Qc (XQX D dA sz0 ad0 N0 o) args s MC MZ (Ab sz0)) nL D dA sz0 ad0 N0 (kc + c1) (kz + z1) σ1 ℓ (st) (pc + 3)) : WM p l e R s m args below meth c (vx_MQ below Qc (XQX D dA sz0 ad0 N0 o) args s MC MZ (Ab sz0)) nL D dA sz0 ad0 N0 kc kz σ ℓ stk pc := by
  obtain ⟨⟨x, c9, z9⟩, hm, h⟩ := Option.bind_eq_some_iff.mp h
  have hz' : ∀ x', some x = some x' → CTXv l y (ws_ y bytes maxL ret) fr lo c9 z9 (va_rf (some q) :: As) σ x' := fun x' hx => by
    cases hx
    exact hz x c9 z9 hm
  cases x with
  | inr e8 =>
    cases h
    exact wm_xcV_v (f := fun _ => none) X hS hno hcd hs hC (F := some (.inr e8)) rfl hz' hmd hmv hq hdg hn hst hcat hst8 hrm ⟨Nat.le_trans hMc hR1, Nat.le_trans hMz hR2⟩ hMc hMz (fun σ1 _ hf => by cases hf)
  | inl a8 =>
    obtain ⟨C1, Z1, h, hMc, hMz⟩ := pay_d h hMc hMz
    refine wm_xcV_v (f := fun a => @ite _ (a = a8) (Classical.propDecidable _) (some o) none) X hS hno hcd hs hC (F := some (.inl a8)) (if_pos rfl) hz' hmd hmv hq hdg hn hst hcat hst8 hrm ⟨Nat.le_trans (le_p hMc) hR1, Nat.le_trans (le_p hMz) hR2⟩ (le_p hMc) (le_p hMz) (fun σ1 hN hf => ?_)
    by_cases ha : σ1 = a8
    · rw [← ha] at h
      exact kk σ1 c9 z9 C1 Z1 hN h hMc hMz
    · rw [if_neg ha] at hf
      cases hf
theorem wm_dV_r (X : CX p s m args meth c cc nL own) (hS : ST D dA sz0 ad0 s) (hno : ∀ x ∈ c.exceptionTable.toList, False) (hcd : CD ci C T N ty) (hs : mS σ q = ci) (hC : y.cls = C) {F : DX (Option Nat × Mm)} {f : (Option Nat × Mm) → DX γ} (h : db F f = some (o, CC, ZZ)) (hMc : kc + CC ≤ MC) (hMz : kz + ZZ ≤ MZ) (hz : ∀ x c1 z1, F = some (x, c1, z1) → CTXr l y (ws_ y bytes maxL ret) fr lo c1 z1 (va_rf (some q) :: As) σ x) (hmd : MD y n) (hmv : MV y bytes maxL ret) (hq : Cond.methodLink own idx y ∈ lw_all) (hdg : decode cc pc = .ok (.invokevirtual idx, 3)) (hn : As.length = n) (hst : stk = As.reverse ++ va_rf (some q) :: st) (hcat : c1 st) (hst8 : st.length ≤ 8) (hrm : fr + 1 ≤ R.frames ∧ 8 + (maxL + 11) + lo ≤ R.locals) (hR1 : MC ≤ R.cells) (hR2 : MZ ≤ R.slots) (kk : ∀ r σ1 c1 z1 C1 Z1, mN σ ≤ mN σ1 → f (r, σ1) = some (o, C1, Z1) → kc + c1 + C1 ≤ MC → kz + z1 + Z1 ≤ MZ → WM p l e R s m args below meth c (vx_MQ below Qc (XQX D dA sz0 ad0 N0 o) args s MC MZ (Ab sz0)) nL D dA sz0 ad0 N0 (kc + c1) (kz + z1) σ1 ℓ (va_rf r :: st) (pc + 3)) : WM p l e R s m args below meth c (vx_MQ below Qc (XQX D dA sz0 ad0 N0 o) args s MC MZ (Ab sz0)) nL D dA sz0 ad0 N0 kc kz σ ℓ stk pc := by
  obtain ⟨⟨x, c9, z9⟩, hm, h⟩ := Option.bind_eq_some_iff.mp h
  have hz' : ∀ x', some x = some x' → CTXr l y (ws_ y bytes maxL ret) fr lo c9 z9 (va_rf (some q) :: As) σ x' := fun x' hx => by
    cases hx
    exact hz x c9 z9 hm
  cases x with
  | inr e8 =>
    cases h
    exact wm_xcV_r (f := fun _ => none) X hS hno hcd hs hC (F := some (.inr e8)) rfl hz' hmd hmv hq hdg hn hst hcat hst8 hrm ⟨Nat.le_trans hMc hR1, Nat.le_trans hMz hR2⟩ hMc hMz (fun r σ1 _ hf => by cases hf)
  | inl a8 =>
    obtain ⟨C1, Z1, h, hMc, hMz⟩ := pay_d h hMc hMz
    refine wm_xcV_r (f := fun a => @ite _ (a = a8) (Classical.propDecidable _) (some o) none) X hS hno hcd hs hC (F := some (.inl a8)) (if_pos rfl) hz' hmd hmv hq hdg hn hst hcat hst8 hrm ⟨Nat.le_trans (le_p hMc) hR1, Nat.le_trans (le_p hMz) hR2⟩ (le_p hMc) (le_p hMz) (fun r σ1 hN hf => ?_)
    by_cases ha : (r, σ1) = a8
    · rw [← ha] at h
      exact kk r σ1 c9 z9 C1 Z1 hN h hMc hMz
    · rw [if_neg ha] at hf
      cases hf
theorem wm_dS_i (X : CX p s m args meth c cc nL own) (hS : ST D dA sz0 ad0 s) (hno : ∀ x ∈ c.exceptionTable.toList, False) {F : DX (Int32 × Mm)} {f : (Int32 × Mm) → DX γ} (h : db F f = some (o, CC, ZZ)) (hMc : kc + CC ≤ MC) (hMz : kz + ZZ ≤ MZ) (hz : ∀ x c1 z1, F = some (x, c1, z1) → CTXi l y (ws_ y bytes maxL ret) fr lo c1 z1 (As) σ x) (hmd : MD y n) (hmv : MS y bytes maxL ret) (hq : Cond.methodLink own idx y ∈ lw_all) (hdg : decode cc pc = .ok (.invokestatic idx, 3)) (hn : As.length = n) (hst : stk = As.reverse ++ st) (hcat : c1 st) (hst8 : st.length ≤ 8) (hrm : fr + 1 ≤ R.frames ∧ 8 + (maxL + 11) + lo ≤ R.locals) (hR1 : MC ≤ R.cells) (hR2 : MZ ≤ R.slots) (kk : ∀ r σ1 c1 z1 C1 Z1, mN σ ≤ mN σ1 → f (r, σ1) = some (o, C1, Z1) → kc + c1 + C1 ≤ MC → kz + z1 + Z1 ≤ MZ → WM p l e R s m args below meth c (vx_MQ below Qc (XQX D dA sz0 ad0 N0 o) args s MC MZ (Ab sz0)) nL D dA sz0 ad0 N0 (kc + c1) (kz + z1) σ1 ℓ (.int r :: st) (pc + 3)) : WM p l e R s m args below meth c (vx_MQ below Qc (XQX D dA sz0 ad0 N0 o) args s MC MZ (Ab sz0)) nL D dA sz0 ad0 N0 kc kz σ ℓ stk pc := by
  obtain ⟨⟨x, c9, z9⟩, hm, h⟩ := Option.bind_eq_some_iff.mp h
  have hz' : ∀ x', some x = some x' → CTXi l y (ws_ y bytes maxL ret) fr lo c9 z9 (As) σ x' := fun x' hx => by
    cases hx
    exact hz x c9 z9 hm
  cases x with
  | inr e8 =>
    cases h
    exact wm_xcS_i (f := fun _ => none) X hS hno (F := some (.inr e8)) rfl hz' hmd hmv hq hdg hn hst hcat hst8 hrm ⟨Nat.le_trans hMc hR1, Nat.le_trans hMz hR2⟩ hMc hMz (fun r σ1 _ hf => by cases hf)
  | inl a8 =>
    obtain ⟨C1, Z1, h, hMc, hMz⟩ := pay_d h hMc hMz
    refine wm_xcS_i (f := fun a => @ite _ (a = a8) (Classical.propDecidable _) (some o) none) X hS hno (F := some (.inl a8)) (if_pos rfl) hz' hmd hmv hq hdg hn hst hcat hst8 hrm ⟨Nat.le_trans (le_p hMc) hR1, Nat.le_trans (le_p hMz) hR2⟩ (le_p hMc) (le_p hMz) (fun r σ1 hN hf => ?_)
    by_cases ha : (r, σ1) = a8
    · rw [← ha] at h
      exact kk r σ1 c9 z9 C1 Z1 hN h hMc hMz
    · rw [if_neg ha] at hf
      cases hf
theorem wm_dS_v (X : CX p s m args meth c cc nL own) (hS : ST D dA sz0 ad0 s) (hno : ∀ x ∈ c.exceptionTable.toList, False) {F : DX Mm} {f : Mm → DX γ} (h : db F f = some (o, CC, ZZ)) (hMc : kc + CC ≤ MC) (hMz : kz + ZZ ≤ MZ) (hz : ∀ x c1 z1, F = some (x, c1, z1) → CTXv l y (ws_ y bytes maxL ret) fr lo c1 z1 (As) σ x) (hmd : MD y n) (hmv : MS y bytes maxL ret) (hq : Cond.methodLink own idx y ∈ lw_all) (hdg : decode cc pc = .ok (.invokestatic idx, 3)) (hn : As.length = n) (hst : stk = As.reverse ++ st) (hcat : c1 st) (hst8 : st.length ≤ 8) (hrm : fr + 1 ≤ R.frames ∧ 8 + (maxL + 11) + lo ≤ R.locals) (hR1 : MC ≤ R.cells) (hR2 : MZ ≤ R.slots) (kk : ∀ σ1 c1 z1 C1 Z1, mN σ ≤ mN σ1 → f σ1 = some (o, C1, Z1) → kc + c1 + C1 ≤ MC → kz + z1 + Z1 ≤ MZ → WM p l e R s m args below meth c (vx_MQ below Qc (XQX D dA sz0 ad0 N0 o) args s MC MZ (Ab sz0)) nL D dA sz0 ad0 N0 (kc + c1) (kz + z1) σ1 ℓ (st) (pc + 3)) : WM p l e R s m args below meth c (vx_MQ below Qc (XQX D dA sz0 ad0 N0 o) args s MC MZ (Ab sz0)) nL D dA sz0 ad0 N0 kc kz σ ℓ stk pc := by
  obtain ⟨⟨x, c9, z9⟩, hm, h⟩ := Option.bind_eq_some_iff.mp h
  have hz' : ∀ x', some x = some x' → CTXv l y (ws_ y bytes maxL ret) fr lo c9 z9 (As) σ x' := fun x' hx => by
    cases hx
    exact hz x c9 z9 hm
  cases x with
  | inr e8 =>
    cases h
    exact wm_xcS_v (f := fun _ => none) X hS hno (F := some (.inr e8)) rfl hz' hmd hmv hq hdg hn hst hcat hst8 hrm ⟨Nat.le_trans hMc hR1, Nat.le_trans hMz hR2⟩ hMc hMz (fun σ1 _ hf => by cases hf)
  | inl a8 =>
    obtain ⟨C1, Z1, h, hMc, hMz⟩ := pay_d h hMc hMz
    refine wm_xcS_v (f := fun a => @ite _ (a = a8) (Classical.propDecidable _) (some o) none) X hS hno (F := some (.inl a8)) (if_pos rfl) hz' hmd hmv hq hdg hn hst hcat hst8 hrm ⟨Nat.le_trans (le_p hMc) hR1, Nat.le_trans (le_p hMz) hR2⟩ (le_p hMc) (le_p hMz) (fun σ1 hN hf => ?_)
    by_cases ha : σ1 = a8
    · rw [← ha] at h
      exact kk σ1 c9 z9 C1 Z1 hN h hMc hMz
    · rw [if_neg ha] at hf
      cases hf
theorem wm_dS_r (X : CX p s m args meth c cc nL own) (hS : ST D dA sz0 ad0 s) (hno : ∀ x ∈ c.exceptionTable.toList, False) {F : DX (Option Nat × Mm)} {f : (Option Nat × Mm) → DX γ} (h : db F f = some (o, CC, ZZ)) (hMc : kc + CC ≤ MC) (hMz : kz + ZZ ≤ MZ) (hz : ∀ x c1 z1, F = some (x, c1, z1) → CTXr l y (ws_ y bytes maxL ret) fr lo c1 z1 (As) σ x) (hmd : MD y n) (hmv : MS y bytes maxL ret) (hq : Cond.methodLink own idx y ∈ lw_all) (hdg : decode cc pc = .ok (.invokestatic idx, 3)) (hn : As.length = n) (hst : stk = As.reverse ++ st) (hcat : c1 st) (hst8 : st.length ≤ 8) (hrm : fr + 1 ≤ R.frames ∧ 8 + (maxL + 11) + lo ≤ R.locals) (hR1 : MC ≤ R.cells) (hR2 : MZ ≤ R.slots) (kk : ∀ r σ1 c1 z1 C1 Z1, mN σ ≤ mN σ1 → f (r, σ1) = some (o, C1, Z1) → kc + c1 + C1 ≤ MC → kz + z1 + Z1 ≤ MZ → WM p l e R s m args below meth c (vx_MQ below Qc (XQX D dA sz0 ad0 N0 o) args s MC MZ (Ab sz0)) nL D dA sz0 ad0 N0 (kc + c1) (kz + z1) σ1 ℓ (va_rf r :: st) (pc + 3)) : WM p l e R s m args below meth c (vx_MQ below Qc (XQX D dA sz0 ad0 N0 o) args s MC MZ (Ab sz0)) nL D dA sz0 ad0 N0 kc kz σ ℓ stk pc := by
  obtain ⟨⟨x, c9, z9⟩, hm, h⟩ := Option.bind_eq_some_iff.mp h
  have hz' : ∀ x', some x = some x' → CTXr l y (ws_ y bytes maxL ret) fr lo c9 z9 (As) σ x' := fun x' hx => by
    cases hx
    exact hz x c9 z9 hm
  cases x with
  | inr e8 =>
    cases h
    exact wm_xcS_r (f := fun _ => none) X hS hno (F := some (.inr e8)) rfl hz' hmd hmv hq hdg hn hst hcat hst8 hrm ⟨Nat.le_trans hMc hR1, Nat.le_trans hMz hR2⟩ hMc hMz (fun r σ1 _ hf => by cases hf)
  | inl a8 =>
    obtain ⟨C1, Z1, h, hMc, hMz⟩ := pay_d h hMc hMz
    refine wm_xcS_r (f := fun a => @ite _ (a = a8) (Classical.propDecidable _) (some o) none) X hS hno (F := some (.inl a8)) (if_pos rfl) hz' hmd hmv hq hdg hn hst hcat hst8 hrm ⟨Nat.le_trans (le_p hMc) hR1, Nat.le_trans (le_p hMz) hR2⟩ (le_p hMc) (le_p hMz) (fun r σ1 hN hf => ?_)
    by_cases ha : (r, σ1) = a8
    · rw [← ha] at h
      exact kk r σ1 c9 z9 C1 Z1 hN h hMc hMz
    · rw [if_neg ha] at hf
      cases hf
theorem wm_dVN_i (X : CX p s m args meth c cc nL own) (hS : ST D dA sz0 ad0 s) (hno : ∀ x ∈ c.exceptionTable.toList, False) (hcd : CD ci C T N ty) (hs : mS σ q = ci) (hC : y.cls = C) {F : DX (Int32 × Mm)} {f : (Int32 × Mm) → DX γ} (h : db F f = some (o, CC, ZZ)) (hMc : kc + CC ≤ MC) (hMz : kz + ZZ ≤ MZ) (hz : ∀ x c1 z1, F = some (x, c1, z1) → CTXi l y (ws_ y bytes maxL ret) fr lo c1 z1 (va_rf (some q) :: As) σ x) (hmd : MD y n) (hmv : MV y bytes maxL ret) {host : String} (j : Nat) (hq : nwl[j]? = some (Cond.methodLinkNest own idx y host)) (hdg : decode cc pc = .ok (.invokevirtual idx, 3)) (hn : As.length = n) (hst : stk = As.reverse ++ va_rf (some q) :: st) (hcat : c1 st) (hst8 : st.length ≤ 8) (hrm : fr + 1 ≤ R.frames ∧ 8 + (maxL + 11) + lo ≤ R.locals) (hR1 : MC ≤ R.cells) (hR2 : MZ ≤ R.slots) (kk : ∀ r σ1 c1 z1 C1 Z1, mN σ ≤ mN σ1 → f (r, σ1) = some (o, C1, Z1) → kc + c1 + C1 ≤ MC → kz + z1 + Z1 ≤ MZ → WM p l e R s m args below meth c (vx_MQ below Qc (XQX D dA sz0 ad0 N0 o) args s MC MZ (Ab sz0)) nL D dA sz0 ad0 N0 (kc + c1) (kz + z1) σ1 ℓ (.int r :: st) (pc + 3)) : WM p l e R s m args below meth c (vx_MQ below Qc (XQX D dA sz0 ad0 N0 o) args s MC MZ (Ab sz0)) nL D dA sz0 ad0 N0 kc kz σ ℓ stk pc := by
  obtain ⟨⟨x, c9, z9⟩, hm, h⟩ := Option.bind_eq_some_iff.mp h
  have hz' : ∀ x', some x = some x' → CTXi l y (ws_ y bytes maxL ret) fr lo c9 z9 (va_rf (some q) :: As) σ x' := fun x' hx => by
    cases hx
    exact hz x c9 z9 hm
  cases x with
  | inr e8 =>
    cases h
    exact wm_xcVN_i (f := fun _ => none) X hS hno hcd hs hC (F := some (.inr e8)) rfl hz' hmd hmv j hq hdg hn hst hcat hst8 hrm ⟨Nat.le_trans hMc hR1, Nat.le_trans hMz hR2⟩ hMc hMz (fun r σ1 _ hf => by cases hf)
  | inl a8 =>
    obtain ⟨C1, Z1, h, hMc, hMz⟩ := pay_d h hMc hMz
    refine wm_xcVN_i (f := fun a => @ite _ (a = a8) (Classical.propDecidable _) (some o) none) X hS hno hcd hs hC (F := some (.inl a8)) (if_pos rfl) hz' hmd hmv j hq hdg hn hst hcat hst8 hrm ⟨Nat.le_trans (le_p hMc) hR1, Nat.le_trans (le_p hMz) hR2⟩ (le_p hMc) (le_p hMz) (fun r σ1 hN hf => ?_)
    by_cases ha : (r, σ1) = a8
    · rw [← ha] at h
      exact kk r σ1 c9 z9 C1 Z1 hN h hMc hMz
    · rw [if_neg ha] at hf
      cases hf
theorem wm_dVN_v (X : CX p s m args meth c cc nL own) (hS : ST D dA sz0 ad0 s) (hno : ∀ x ∈ c.exceptionTable.toList, False) (hcd : CD ci C T N ty) (hs : mS σ q = ci) (hC : y.cls = C) {F : DX Mm} {f : Mm → DX γ} (h : db F f = some (o, CC, ZZ)) (hMc : kc + CC ≤ MC) (hMz : kz + ZZ ≤ MZ) (hz : ∀ x c1 z1, F = some (x, c1, z1) → CTXv l y (ws_ y bytes maxL ret) fr lo c1 z1 (va_rf (some q) :: As) σ x) (hmd : MD y n) (hmv : MV y bytes maxL ret) {host : String} (j : Nat) (hq : nwl[j]? = some (Cond.methodLinkNest own idx y host)) (hdg : decode cc pc = .ok (.invokevirtual idx, 3)) (hn : As.length = n) (hst : stk = As.reverse ++ va_rf (some q) :: st) (hcat : c1 st) (hst8 : st.length ≤ 8) (hrm : fr + 1 ≤ R.frames ∧ 8 + (maxL + 11) + lo ≤ R.locals) (hR1 : MC ≤ R.cells) (hR2 : MZ ≤ R.slots) (kk : ∀ σ1 c1 z1 C1 Z1, mN σ ≤ mN σ1 → f σ1 = some (o, C1, Z1) → kc + c1 + C1 ≤ MC → kz + z1 + Z1 ≤ MZ → WM p l e R s m args below meth c (vx_MQ below Qc (XQX D dA sz0 ad0 N0 o) args s MC MZ (Ab sz0)) nL D dA sz0 ad0 N0 (kc + c1) (kz + z1) σ1 ℓ (st) (pc + 3)) : WM p l e R s m args below meth c (vx_MQ below Qc (XQX D dA sz0 ad0 N0 o) args s MC MZ (Ab sz0)) nL D dA sz0 ad0 N0 kc kz σ ℓ stk pc := by
  obtain ⟨⟨x, c9, z9⟩, hm, h⟩ := Option.bind_eq_some_iff.mp h
  have hz' : ∀ x', some x = some x' → CTXv l y (ws_ y bytes maxL ret) fr lo c9 z9 (va_rf (some q) :: As) σ x' := fun x' hx => by
    cases hx
    exact hz x c9 z9 hm
  cases x with
  | inr e8 =>
    cases h
    exact wm_xcVN_v (f := fun _ => none) X hS hno hcd hs hC (F := some (.inr e8)) rfl hz' hmd hmv j hq hdg hn hst hcat hst8 hrm ⟨Nat.le_trans hMc hR1, Nat.le_trans hMz hR2⟩ hMc hMz (fun σ1 _ hf => by cases hf)
  | inl a8 =>
    obtain ⟨C1, Z1, h, hMc, hMz⟩ := pay_d h hMc hMz
    refine wm_xcVN_v (f := fun a => @ite _ (a = a8) (Classical.propDecidable _) (some o) none) X hS hno hcd hs hC (F := some (.inl a8)) (if_pos rfl) hz' hmd hmv j hq hdg hn hst hcat hst8 hrm ⟨Nat.le_trans (le_p hMc) hR1, Nat.le_trans (le_p hMz) hR2⟩ (le_p hMc) (le_p hMz) (fun σ1 hN hf => ?_)
    by_cases ha : σ1 = a8
    · rw [← ha] at h
      exact kk σ1 c9 z9 C1 Z1 hN h hMc hMz
    · rw [if_neg ha] at hf
      cases hf
theorem wm_dVN_r (X : CX p s m args meth c cc nL own) (hS : ST D dA sz0 ad0 s) (hno : ∀ x ∈ c.exceptionTable.toList, False) (hcd : CD ci C T N ty) (hs : mS σ q = ci) (hC : y.cls = C) {F : DX (Option Nat × Mm)} {f : (Option Nat × Mm) → DX γ} (h : db F f = some (o, CC, ZZ)) (hMc : kc + CC ≤ MC) (hMz : kz + ZZ ≤ MZ) (hz : ∀ x c1 z1, F = some (x, c1, z1) → CTXr l y (ws_ y bytes maxL ret) fr lo c1 z1 (va_rf (some q) :: As) σ x) (hmd : MD y n) (hmv : MV y bytes maxL ret) {host : String} (j : Nat) (hq : nwl[j]? = some (Cond.methodLinkNest own idx y host)) (hdg : decode cc pc = .ok (.invokevirtual idx, 3)) (hn : As.length = n) (hst : stk = As.reverse ++ va_rf (some q) :: st) (hcat : c1 st) (hst8 : st.length ≤ 8) (hrm : fr + 1 ≤ R.frames ∧ 8 + (maxL + 11) + lo ≤ R.locals) (hR1 : MC ≤ R.cells) (hR2 : MZ ≤ R.slots) (kk : ∀ r σ1 c1 z1 C1 Z1, mN σ ≤ mN σ1 → f (r, σ1) = some (o, C1, Z1) → kc + c1 + C1 ≤ MC → kz + z1 + Z1 ≤ MZ → WM p l e R s m args below meth c (vx_MQ below Qc (XQX D dA sz0 ad0 N0 o) args s MC MZ (Ab sz0)) nL D dA sz0 ad0 N0 (kc + c1) (kz + z1) σ1 ℓ (va_rf r :: st) (pc + 3)) : WM p l e R s m args below meth c (vx_MQ below Qc (XQX D dA sz0 ad0 N0 o) args s MC MZ (Ab sz0)) nL D dA sz0 ad0 N0 kc kz σ ℓ stk pc := by
  obtain ⟨⟨x, c9, z9⟩, hm, h⟩ := Option.bind_eq_some_iff.mp h
  have hz' : ∀ x', some x = some x' → CTXr l y (ws_ y bytes maxL ret) fr lo c9 z9 (va_rf (some q) :: As) σ x' := fun x' hx => by
    cases hx
    exact hz x c9 z9 hm
  cases x with
  | inr e8 =>
    cases h
    exact wm_xcVN_r (f := fun _ => none) X hS hno hcd hs hC (F := some (.inr e8)) rfl hz' hmd hmv j hq hdg hn hst hcat hst8 hrm ⟨Nat.le_trans hMc hR1, Nat.le_trans hMz hR2⟩ hMc hMz (fun r σ1 _ hf => by cases hf)
  | inl a8 =>
    obtain ⟨C1, Z1, h, hMc, hMz⟩ := pay_d h hMc hMz
    refine wm_xcVN_r (f := fun a => @ite _ (a = a8) (Classical.propDecidable _) (some o) none) X hS hno hcd hs hC (F := some (.inl a8)) (if_pos rfl) hz' hmd hmv j hq hdg hn hst hcat hst8 hrm ⟨Nat.le_trans (le_p hMc) hR1, Nat.le_trans (le_p hMz) hR2⟩ (le_p hMc) (le_p hMz) (fun r σ1 hN hf => ?_)
    by_cases ha : (r, σ1) = a8
    · rw [← ha] at h
      exact kk r σ1 c9 z9 C1 Z1 hN h hMc hMz
    · rw [if_neg ha] at hf
      cases hf
theorem wm_dSN_i (X : CX p s m args meth c cc nL own) (hS : ST D dA sz0 ad0 s) (hno : ∀ x ∈ c.exceptionTable.toList, False) {F : DX (Int32 × Mm)} {f : (Int32 × Mm) → DX γ} (h : db F f = some (o, CC, ZZ)) (hMc : kc + CC ≤ MC) (hMz : kz + ZZ ≤ MZ) (hz : ∀ x c1 z1, F = some (x, c1, z1) → CTXi l y (ws_ y bytes maxL ret) fr lo c1 z1 (As) σ x) (hmd : MD y n) (hmv : MS y bytes maxL ret) {host : String} (j : Nat) (hq : nwl[j]? = some (Cond.methodLinkNest own idx y host)) (hdg : decode cc pc = .ok (.invokestatic idx, 3)) (hn : As.length = n) (hst : stk = As.reverse ++ st) (hcat : c1 st) (hst8 : st.length ≤ 8) (hrm : fr + 1 ≤ R.frames ∧ 8 + (maxL + 11) + lo ≤ R.locals) (hR1 : MC ≤ R.cells) (hR2 : MZ ≤ R.slots) (kk : ∀ r σ1 c1 z1 C1 Z1, mN σ ≤ mN σ1 → f (r, σ1) = some (o, C1, Z1) → kc + c1 + C1 ≤ MC → kz + z1 + Z1 ≤ MZ → WM p l e R s m args below meth c (vx_MQ below Qc (XQX D dA sz0 ad0 N0 o) args s MC MZ (Ab sz0)) nL D dA sz0 ad0 N0 (kc + c1) (kz + z1) σ1 ℓ (.int r :: st) (pc + 3)) : WM p l e R s m args below meth c (vx_MQ below Qc (XQX D dA sz0 ad0 N0 o) args s MC MZ (Ab sz0)) nL D dA sz0 ad0 N0 kc kz σ ℓ stk pc := by
  obtain ⟨⟨x, c9, z9⟩, hm, h⟩ := Option.bind_eq_some_iff.mp h
  have hz' : ∀ x', some x = some x' → CTXi l y (ws_ y bytes maxL ret) fr lo c9 z9 (As) σ x' := fun x' hx => by
    cases hx
    exact hz x c9 z9 hm
  cases x with
  | inr e8 =>
    cases h
    exact wm_xcSN_i (f := fun _ => none) X hS hno (F := some (.inr e8)) rfl hz' hmd hmv j hq hdg hn hst hcat hst8 hrm ⟨Nat.le_trans hMc hR1, Nat.le_trans hMz hR2⟩ hMc hMz (fun r σ1 _ hf => by cases hf)
  | inl a8 =>
    obtain ⟨C1, Z1, h, hMc, hMz⟩ := pay_d h hMc hMz
    refine wm_xcSN_i (f := fun a => @ite _ (a = a8) (Classical.propDecidable _) (some o) none) X hS hno (F := some (.inl a8)) (if_pos rfl) hz' hmd hmv j hq hdg hn hst hcat hst8 hrm ⟨Nat.le_trans (le_p hMc) hR1, Nat.le_trans (le_p hMz) hR2⟩ (le_p hMc) (le_p hMz) (fun r σ1 hN hf => ?_)
    by_cases ha : (r, σ1) = a8
    · rw [← ha] at h
      exact kk r σ1 c9 z9 C1 Z1 hN h hMc hMz
    · rw [if_neg ha] at hf
      cases hf
theorem wm_dSN_v (X : CX p s m args meth c cc nL own) (hS : ST D dA sz0 ad0 s) (hno : ∀ x ∈ c.exceptionTable.toList, False) {F : DX Mm} {f : Mm → DX γ} (h : db F f = some (o, CC, ZZ)) (hMc : kc + CC ≤ MC) (hMz : kz + ZZ ≤ MZ) (hz : ∀ x c1 z1, F = some (x, c1, z1) → CTXv l y (ws_ y bytes maxL ret) fr lo c1 z1 (As) σ x) (hmd : MD y n) (hmv : MS y bytes maxL ret) {host : String} (j : Nat) (hq : nwl[j]? = some (Cond.methodLinkNest own idx y host)) (hdg : decode cc pc = .ok (.invokestatic idx, 3)) (hn : As.length = n) (hst : stk = As.reverse ++ st) (hcat : c1 st) (hst8 : st.length ≤ 8) (hrm : fr + 1 ≤ R.frames ∧ 8 + (maxL + 11) + lo ≤ R.locals) (hR1 : MC ≤ R.cells) (hR2 : MZ ≤ R.slots) (kk : ∀ σ1 c1 z1 C1 Z1, mN σ ≤ mN σ1 → f σ1 = some (o, C1, Z1) → kc + c1 + C1 ≤ MC → kz + z1 + Z1 ≤ MZ → WM p l e R s m args below meth c (vx_MQ below Qc (XQX D dA sz0 ad0 N0 o) args s MC MZ (Ab sz0)) nL D dA sz0 ad0 N0 (kc + c1) (kz + z1) σ1 ℓ (st) (pc + 3)) : WM p l e R s m args below meth c (vx_MQ below Qc (XQX D dA sz0 ad0 N0 o) args s MC MZ (Ab sz0)) nL D dA sz0 ad0 N0 kc kz σ ℓ stk pc := by
  obtain ⟨⟨x, c9, z9⟩, hm, h⟩ := Option.bind_eq_some_iff.mp h
  have hz' : ∀ x', some x = some x' → CTXv l y (ws_ y bytes maxL ret) fr lo c9 z9 (As) σ x' := fun x' hx => by
    cases hx
    exact hz x c9 z9 hm
  cases x with
  | inr e8 =>
    cases h
    exact wm_xcSN_v (f := fun _ => none) X hS hno (F := some (.inr e8)) rfl hz' hmd hmv j hq hdg hn hst hcat hst8 hrm ⟨Nat.le_trans hMc hR1, Nat.le_trans hMz hR2⟩ hMc hMz (fun σ1 _ hf => by cases hf)
  | inl a8 =>
    obtain ⟨C1, Z1, h, hMc, hMz⟩ := pay_d h hMc hMz
    refine wm_xcSN_v (f := fun a => @ite _ (a = a8) (Classical.propDecidable _) (some o) none) X hS hno (F := some (.inl a8)) (if_pos rfl) hz' hmd hmv j hq hdg hn hst hcat hst8 hrm ⟨Nat.le_trans (le_p hMc) hR1, Nat.le_trans (le_p hMz) hR2⟩ (le_p hMc) (le_p hMz) (fun σ1 hN hf => ?_)
    by_cases ha : σ1 = a8
    · rw [← ha] at h
      exact kk σ1 c9 z9 C1 Z1 hN h hMc hMz
    · rw [if_neg ha] at hf
      cases hf
theorem wm_dSN_r (X : CX p s m args meth c cc nL own) (hS : ST D dA sz0 ad0 s) (hno : ∀ x ∈ c.exceptionTable.toList, False) {F : DX (Option Nat × Mm)} {f : (Option Nat × Mm) → DX γ} (h : db F f = some (o, CC, ZZ)) (hMc : kc + CC ≤ MC) (hMz : kz + ZZ ≤ MZ) (hz : ∀ x c1 z1, F = some (x, c1, z1) → CTXr l y (ws_ y bytes maxL ret) fr lo c1 z1 (As) σ x) (hmd : MD y n) (hmv : MS y bytes maxL ret) {host : String} (j : Nat) (hq : nwl[j]? = some (Cond.methodLinkNest own idx y host)) (hdg : decode cc pc = .ok (.invokestatic idx, 3)) (hn : As.length = n) (hst : stk = As.reverse ++ st) (hcat : c1 st) (hst8 : st.length ≤ 8) (hrm : fr + 1 ≤ R.frames ∧ 8 + (maxL + 11) + lo ≤ R.locals) (hR1 : MC ≤ R.cells) (hR2 : MZ ≤ R.slots) (kk : ∀ r σ1 c1 z1 C1 Z1, mN σ ≤ mN σ1 → f (r, σ1) = some (o, C1, Z1) → kc + c1 + C1 ≤ MC → kz + z1 + Z1 ≤ MZ → WM p l e R s m args below meth c (vx_MQ below Qc (XQX D dA sz0 ad0 N0 o) args s MC MZ (Ab sz0)) nL D dA sz0 ad0 N0 (kc + c1) (kz + z1) σ1 ℓ (va_rf r :: st) (pc + 3)) : WM p l e R s m args below meth c (vx_MQ below Qc (XQX D dA sz0 ad0 N0 o) args s MC MZ (Ab sz0)) nL D dA sz0 ad0 N0 kc kz σ ℓ stk pc := by
  obtain ⟨⟨x, c9, z9⟩, hm, h⟩ := Option.bind_eq_some_iff.mp h
  have hz' : ∀ x', some x = some x' → CTXr l y (ws_ y bytes maxL ret) fr lo c9 z9 (As) σ x' := fun x' hx => by
    cases hx
    exact hz x c9 z9 hm
  cases x with
  | inr e8 =>
    cases h
    exact wm_xcSN_r (f := fun _ => none) X hS hno (F := some (.inr e8)) rfl hz' hmd hmv j hq hdg hn hst hcat hst8 hrm ⟨Nat.le_trans hMc hR1, Nat.le_trans hMz hR2⟩ hMc hMz (fun r σ1 _ hf => by cases hf)
  | inl a8 =>
    obtain ⟨C1, Z1, h, hMc, hMz⟩ := pay_d h hMc hMz
    refine wm_xcSN_r (f := fun a => @ite _ (a = a8) (Classical.propDecidable _) (some o) none) X hS hno (F := some (.inl a8)) (if_pos rfl) hz' hmd hmv j hq hdg hn hst hcat hst8 hrm ⟨Nat.le_trans (le_p hMc) hR1, Nat.le_trans (le_p hMz) hR2⟩ (le_p hMc) (le_p hMz) (fun r σ1 hN hf => ?_)
    by_cases ha : (r, σ1) = a8
    · rw [← ha] at h
      exact kk r σ1 c9 z9 C1 Z1 hN h hMc hMz
    · rw [if_neg ha] at hf
      cases hf
end R9
