/-! THE LAYER, 14: long[]; methods with handlers; what the law itself does -/
set_option maxRecDepth 100000
def sL (v : Option Nat) (i x : Int32) (σ : Mm) : Option Mm := v.bind fun p => if mS σ p = 104 ∧ ¬ (i < 0 ∨ mL σ p ≤ i.toNatClampNeg) then some (wI σ p i.toNatClampNeg x) else none
theorem sL_some {v : Option Nat} {i x : Int32} {σ σ' : Mm} (h : sL v i x σ = some σ') : ∃ q, v = some q ∧ mS σ q = 104 ∧ vp_in i (mL σ q) ∧ σ' = wI σ q i.toNatClampNeg x := by
  cases v with
  | none => cases h
  | some q =>
    simp only [sL, Option.bind_some] at h
    split at h
    next hc => exact ⟨q, rfl, hc.1, hc.2, (Option.some.inj h).symm⟩
    next => cases h
def lcx (x y : Int32) : Int32 := lg_cmp x.toInt64 y.toInt64
/-- a call within a try: goes on, or goes to the handlers -/
def dt {α β : Type} (m : DX α) (f : α → DX β) (g : Nat → Mm → DX β) : DX β := m.bind fun o => match o.1 with
  | .inl a => pay o.2.1 o.2.2 (f a)
  | .inr e => pay o.2.1 o.2.2 (g e.1 e.2)
def dn {α β : Type} (m : DX α) (f : α → DX β) : DX β := dt m f fun _ _ => none
/-- the law's script -/
def sX (L : Nat) (xs : Nat → Int32) (i : Int32) : Option Int32 := if ¬ (i < 0 ∨ L ≤ i.toNatClampNeg) then some (xs i.toNatClampNeg) else none
section R14
variable {p : Program} {l : Launch} {e : Env} {R : Room} {s : State} {m : MethodId} {args : Array Value} {below : List Frame} {meth : Method} {c : Code} {Q : State → Prop} {cc : ByteArray} {nL : Nat} {own : String} {D : va_G} {dA : Nat → ClassId} {sz0 : Nat} {ad0 : Nat → Nat} {N0 kc kz : Nat} {σ σ' : Mm} {ℓ ℓ' : List (Nat × Value)} {st : List Value} {pc : Nat} {β : Type} {o : β} {ci : Nat} {C : String} {T : u_T} {N : Nat} {ty : Nat → FieldType} {idx : Nat} {v : Option Nat} {y : MethodName} {bytes : ByteArray} {maxL fr lo mc ms n : Nat} {ret : Option FieldType} {As stk : List Value} {q : Nat}
theorem as_wL {ad : Nat → Nat} {q k : Nat} {x : Int32} (hs : mS σ q = 104) : pent dA ad (wI σ q k x) q = (ad q, .inl (dA 104, mL σ q, .inr (.inl (vp_updL (fun i => (mI σ q i).toInt64) k x.toInt64)))) := by
  rw [pent_l (σ := wI σ q k x) hs]
  have e : (fun i => (mI (wI σ q k x) q i).toInt64) = vp_updL (fun i => (mI σ q i).toInt64) k x.toInt64 := by
    funext j
    rw [show mI (wI σ q k x) q j = (if j = k then x else mI σ q j) from congrFun up2_r j]
    unfold vp_updL
    split <;> rfl
  rw [e]
  rfl
theorem wm_i2l (X : CX p s m args meth c cc nL own) {x : Int32} (hdg : decode cc pc = .ok (.i2l, 1)) (kk : WM p l e R s m args below meth c Q nL D dA sz0 ad0 N0 kc kz σ ℓ (.long x.toInt64 :: st) (pc + 1)) : WM p l e R s m args below meth c Q nL D dA sz0 ad0 N0 kc kz σ ℓ (.int x :: st) pc :=
  fun ad H locs ls h1 h2 h3 h4 hz h5 h6 h7 => lv_i2l X.1.1 X.1.2.1 hdg rfl (kk ad H locs ls h1 h2 h3 h4 hz h5 (h6.tail.cons (fun q e => by cases e)) h7)
theorem wm_lconst (X : CX p s m args meth c cc nL own) {n : Fin 2} {v : Int32} (hdg : decode cc pc = .ok (.lconst n, 1)) (hv : Int64.ofNat (n : Nat) = v.toInt64) (kk : WM p l e R s m args below meth c Q nL D dA sz0 ad0 N0 kc kz σ ℓ (.long v.toInt64 :: st) (pc + 1)) : WM p l e R s m args below meth c Q nL D dA sz0 ad0 N0 kc kz σ ℓ st pc :=
  fun ad H locs ls h1 h2 h3 h4 hz h5 h6 h7 => lv_lconst X.1.1 X.1.2.1 hdg hv (kk ad H locs ls h1 h2 h3 h4 hz h5 (h6.cons (fun q e => by cases e)) h7)
theorem wm_lcmp (X : CX p s m args meth c cc nL own) {x y : Int32} (hdg : decode cc pc = .ok (.lcmp, 1)) (kk : WM p l e R s m args below meth c Q nL D dA sz0 ad0 N0 kc kz σ ℓ (.int (lcx x y) :: st) (pc + 1)) : WM p l e R s m args below meth c Q nL D dA sz0 ad0 N0 kc kz σ ℓ (.long y.toInt64 :: .long x.toInt64 :: st) pc :=
  fun ad H locs ls h1 h2 h3 h4 hz h5 h6 h7 => W.lcmp X.1.1 X.1.2.1 hdg (kk ad H locs ls h1 h2 h3 h4 hz h5 (h6.tail.tail.cons vok_int) h7)
theorem wm_laload (X : CX p s m args meth c cc nL own) (hS : ST D dA sz0 ad0 s) {i : Int32} {f : Int32 → Option β} (h : (aI 104 v i σ).bind f = some o) (hdg : decode cc pc = .ok (.laload, 1)) (kk : ∀ x, f x = some o → WM p l e R s m args below meth c Q nL D dA sz0 ad0 N0 kc kz σ ℓ (.long x.toInt64 :: st) (pc + 1)) : WM p l e R s m args below meth c Q nL D dA sz0 ad0 N0 kc kz σ ℓ (.int i :: va_rf v :: st) pc := by
  obtain ⟨x, hx, h9⟩ := Option.bind_eq_some_iff.mp h
  obtain ⟨q, rfl, hs, hin, rfl⟩ := aI_some hx
  intro ad H locs ls h1 h2 h3 h4 hz h5 h6 h7
  exact va_lald X.1.1 X.1.2.1 hS.1 h3.1 q 4 ((h3.at hs (by omega) (by omega)).trans (congrArg some (pent_l hs))) rfl hin hdg (kk _ h9 ad H locs ls h1 h2 h3 h4 hz h5 (h6.tail.tail.cons (fun q e => by cases e)) h7)
theorem wm_lastore (X : CX p s m args meth c cc nL own) (hS : ST D dA sz0 ad0 s) {i x : Int32} {f : Mm → Option β} (h : (sL v i x σ).bind f = some o) (hdg : decode cc pc = .ok (.lastore, 1)) (kk : ∀ σ', mN σ' = mN σ → f σ' = some o → WM p l e R s m args below meth c Q nL D dA sz0 ad0 N0 kc kz σ' ℓ st (pc + 1)) : WM p l e R s m args below meth c Q nL D dA sz0 ad0 N0 kc kz σ ℓ (.long x.toInt64 :: .int i :: va_rf v :: st) pc := by
  obtain ⟨σ', hx, h⟩ := Option.bind_eq_some_iff.mp h
  obtain ⟨q, rfl, hs, hin, rfl⟩ := sL_some hx
  intro ad H locs ls h1 h2 h3 h4 hz h5 h6 h7
  refine va_last X.1.1 X.1.2.1 hS.1 h3.1 h3.2.1 h4 q 4 ((h3.at hs (by omega) (by omega)).trans (congrArg some (pent_l hs))) rfl hin hdg (fun H1 locs1 hP hD hS1 => ?_)
  exact kk (wI σ q i.toNatClampNeg x) rfl h ad H1 locs1 ls h1 h2 (PM_wI (as_wL hs) h3 (h3.lt hs (by omega) (by omega)) hP hD (Ab_S hz hS1)) hS1 hz h5 h6.tail.tail.tail h7
theorem wm_newarrL (X : CX p s m args meth c cc nL own) (hS : ST D dA sz0 ad0 s) {n : Int32} (hq : Cond.arrayClass .long ∈ lw_all) {f : Option Nat × Mm → Option β} (h : (nA 104 n σ).bind f = some o) (hdg : decode cc pc = .ok (.newarray .long, 2)) (hc : kc + 1 ≤ R.cells) {z : Nat} (hn : n.toNatClampNeg = z) (hs : kz + z ≤ R.slots) (kk : ∀ (v : Option Nat) σ', mN σ ≤ mN σ' → f (v, σ') = some o → WM p l e R s m args below meth c Q nL D dA sz0 ad0 N0 (kc + 1) (kz + z) σ' ℓ (va_rf v :: st) (pc + 2)) : WM p l e R s m args below meth c Q nL D dA sz0 ad0 N0 kc kz σ ℓ (.int n :: st) pc := by
  subst hn
  obtain ⟨x, hx, h⟩ := Option.bind_eq_some_iff.mp h
  unfold nA at hx
  split at hx
  case isFalse => cases hx
  case isTrue hB =>
  cases hx
  obtain ⟨hB, hn0, hn1⟩ := hB
  intro ad H locs ls h1 h2 h3 h4 hz h5 h6 h7
  have key : ∀ (q : Nat) (cA : ClassId) (H1 : Heap), cA = dA 104 → va_P D clT (wl dA ad σ ++ [(q, .inl (cA, n.toNatClampNeg, .inr (.inl fun _ => 0)))]) H1 → va_D (Ab sz0) (wl dA ad σ ++ [(q, .inl (cA, n.toNatClampNeg, .inr (.inl fun _ => 0)))]) → va_S (Ab sz0) s.heap H1 locs → W p l e R s m args below meth c H1 locs (kc + 1) (kz + n.toNatClampNeg) Q (F0 m (pc + 2) ls (.ref q :: sm ad st)) := by
    intro q cA H1 hcA hP hD hS1
    subst hcA
    obtain ⟨hx1, hx2⟩ := Ex_new (q := q) h1 h2 hB
    have he : pent dA (up1 ad (mN σ) q) (wN σ 104 n.toNatClampNeg) (mN σ) = (q, .inl (dA 104, n.toNatClampNeg, .inr (.inl fun _ => 0))) := by
      have e0 : mS (wN σ 104 n.toNatClampNeg) (mN σ) = 104 := if_pos rfl
      rw [pent_l e0, show up1 ad (mN σ) q (mN σ) = q from if_pos rfl, show mL (wN σ 104 n.toNatClampNeg) (mN σ) = n.toNatClampNeg from if_pos rfl, show mI (wN σ 104 n.toNatClampNeg) (mN σ) = fun _ => 0 from if_pos rfl]
      rfl
    have hk := kk (some (mN σ)) (wN σ 104 n.toNatClampNeg) (Nat.le_succ _) h (up1 ad (mN σ) q) H1 locs ls hx2 (Nat.le_trans h2 (Nat.le_succ _)) (PM_wN h3 hB (by omega) he hP hD (Ab_S hz hS1)) hS1 hz (h5.mono (Nat.le_succ _)) ((h6.tail.mono (Nat.le_succ _)).cons (vok_rf fun a ha => by cases ha; exact Or.inl (Nat.lt_succ_self _))) (by rw [hx1.lm h5]; exact h7)
    have e2 : sm (up1 ad (mN σ) q) (va_rf (some (mN σ)) :: st) = .ref q :: sm ad st := by
      show cv _ (.ref (mN σ)) :: sm _ st = _
      rw [hx1.sm h6.tail]
      exact congrArg (fun z => Value.ref z :: sm ad st) (if_pos rfl)
    rw [e2] at hk
    exact hk
  exact va_newa (atype := .long) (a0 := (n.toNatClampNeg, .inr (.inl fun _ => 0))) (ty := .long) X.1.1 X.1.2.1 (X.1.2.2.2.2 _ hq) rfl hS.1 h3.1 h3.2.1 h4 (Ab_hA hz) (fun _ => rfl) hn0 rfl (by show n.toNatClampNeg * 8 ≤ _; omega) hc hs hdg (fun q cA H1 hK hP hD hS1 => key q cA H1 (tys_at hS (k := 4) rfl (hK.2 5 (cA, .long) rfl).2 (by intro C hC; cases hC)) hP hD hS1)
/-- the script's length and its ints: the place BIG + 300 is told by 'ad0' -/
theorem wm_slen (X : CX p s m args meth c cc nL own) {b L : Nat} {xs : Nat → Int32} (hX : va_X b L xs s s.heap) (hb : ad0 (BIG + 300) = b) (hbl : b < s.heap.size) (hbA : ¬ Ab sz0 b) (hdg : decode cc pc = .ok (.arraylength, 1)) (kk : WM p l e R s m args below meth c Q nL D dA sz0 ad0 N0 kc kz σ ℓ (.int (Int32.ofNat L) :: st) (pc + 1)) : WM p l e R s m args below meth c Q nL D dA sz0 ad0 N0 kc kz σ ℓ (va_rf (some (BIG + 300)) :: st) pc := by
  subst hb
  intro ad H locs ls h1 h2 h3 h4 hz h5 h6 h7
  have e : ad (BIG + 300) = ad0 (BIG + 300) := h1 _ (Or.inr (Nat.le_add_right _ _))
  have hk := kk ad H locs ls h1 h2 h3 h4 hz h5 (h6.tail.cons vok_int) h7
  rw [show sm ad (va_rf (some (BIG + 300)) :: st) = .ref (ad0 (BIG + 300)) :: sm ad st from congrArg (fun z => Value.ref z :: sm ad st) e]
  exact va_slen X.1.1 X.1.2.1 hX hbl hbA h4 hdg hk
theorem wm_sld (X : CX p s m args meth c cc nL own) {b L : Nat} {xs : Nat → Int32} (hX : va_X b L xs s s.heap) (hb : ad0 (BIG + 300) = b) (hbl : b < s.heap.size) (hbA : ¬ Ab sz0 b) {i : Int32} {f : Int32 → Option β} (h : (sX L xs i).bind f = some o) (hdg : decode cc pc = .ok (.iaload, 1)) (kk : ∀ x, f x = some o → WM p l e R s m args below meth c Q nL D dA sz0 ad0 N0 kc kz σ ℓ (.int x :: st) (pc + 1)) : WM p l e R s m args below meth c Q nL D dA sz0 ad0 N0 kc kz σ ℓ (.int i :: va_rf (some (BIG + 300)) :: st) pc := by
  subst hb
  obtain ⟨x, hx, h9⟩ := Option.bind_eq_some_iff.mp h
  unfold sX at hx
  split at hx
  case isFalse => cases hx
  case isTrue hin =>
  cases hx
  intro ad H locs ls h1 h2 h3 h4 hz h5 h6 h7
  have e : ad (BIG + 300) = ad0 (BIG + 300) := h1 _ (Or.inr (Nat.le_add_right _ _))
  have hk := kk _ h9 ad H locs ls h1 h2 h3 h4 hz h5 (h6.tail.tail.cons vok_int) h7
  rw [show sm ad (.int i :: va_rf (some (BIG + 300)) :: st) = .int i :: .ref (ad0 (BIG + 300)) :: sm ad st from congrArg (fun z => Value.int i :: Value.ref z :: sm ad st) e]
  exact va_sld X.1.1 X.1.2.1 hX hbl hbA h4 hin hdg hk

theorem wm_pZN (X : CX p s m args meth c cc nL own) (hS : ST D dA sz0 ad0 s) (hcd : CD ci C T N ty) (k : Nat) {x : Int32} {f : Mm → Option β} (h : (pZ ci k v x σ).bind f = some o) (hdg : decode cc pc = .ok (.putfield idx, 3)) (hk : k < N) (hr : cr ci k = false) {host : String} (j : Nat) (hq : nwl[j]? = some (Cond.fieldLinkNest own idx (T k).1 (T k).2.1 (T k).2.2.1 host)) (ht : ty k = .boolean) (hf : (T k).2.2.2 = false) (kk : ∀ σ', mN σ' = mN σ → f σ' = some o → WM p l e R s m args below meth c Q nL D dA sz0 ad0 N0 kc kz σ' ℓ st (pc + 3)) : WM p l e R s m args below meth c Q nL D dA sz0 ad0 N0 kc kz σ ℓ (.int x :: va_rf v :: st) pc := by
  obtain ⟨σ', hx, h⟩ := Option.bind_eq_some_iff.mp h
  obtain ⟨hx01, q, rfl, hs, rfl⟩ := pZ_some hx
  obtain ⟨⟨hc1, hc2, hc3, hc4⟩, hin, hty, hnm, hdf⟩ := hcd
  intro ad H locs ls h1 h2 h3 h4 hz h5 h6 h7
  refine va_putN X.1.1 X.1.2.1 X.1.2.2.2.2 hin ty hty hnm X.1.2.2.2.1 hS.1 h3.1 h3.2.1 h4 q ((h3.at hs hc4 (by omega)).trans (congrArg some (pent_o hs hc3))) hc1 k hk (va_Nw.use rfl (hS.2.1 _ (List.mem_of_getElem? hq))) (fun _ h => h) hf (hty k hk) (by rw [ht]; exact nar_z hx01) (by rw [ht]; exact fit_z hx01) (by simp; omega) hdg (fun H1 locs1 hP hD hS1 => ?_)
  exact kk (wI σ q k x) rfl h ad H1 locs1 ls h1 h2 (PM_wI (fs_wI hs hc3 hr) h3 (h3.lt hs hc4 (by omega)) hP hD (Ab_S hz hS1)) hS1 hz h5 h6.tail.tail h7
end R14
section R15
variable {p : Program} {l : Launch} {e : Env} {R : Room} {s : State} {m : MethodId} {args : Array Value} {below : List Frame} {meth : Method} {c : Code} {Q : State → Prop} {cc : ByteArray} {nL : Nat} {own : String} {D : va_G} {dA : Nat → ClassId} {sz0 : Nat} {ad0 : Nat → Nat} {N0 kc kz : Nat} {σ σ' : Mm} {ℓ ℓ' : List (Nat × Value)} {st : List Value} {pc : Nat} {β γ : Type} {ci : Nat} {C : String} {T : u_T} {N : Nat} {ty : Nat → FieldType} {idx : Nat} {v : Option Nat} {y : MethodName} {bytes : ByteArray} {maxL fr lo mc ms n MC MZ : Nat} {ret : Option FieldType} {As stk : List Value} {q : Nat} {Qc : Array Value → State → Outcome → State → Prop} {o : γ ⊕ (Nat × Mm)}
theorem xw_outC {k : Nat} {σ1 : Mm} {E : String} {ce : Cell} {q : Addr} {ad : Nat → Nat} {H : Heap} {locs : List Loc} {ls : Array Slot} {rest : List Value} (X : CX p s m args meth c cc nL own) (hno : ∀ x ∈ c.exceptionTable.toList, covers x pc = false) (ho : o = .inr (k, σ1)) (hE : E = exN k) (g1 : Ex N0 ad0 ad) (g2 : N0 ≤ mN σ1) (g3 : PM D dA sz0 ad σ1 H) (g4 : va_S (Ab sz0) s.heap H locs) (hcell : H[q]? = some ce) (hv : ce.vm = .none) (hcl : s.vm.findClass E = some ce.cls) (hc : kc ≤ MC) (hs : kz ≤ MZ) : vx_W p l e R s m args below meth c H locs kc kz (vx_MQ below Qc (XQX D dA sz0 ad0 N0 o) args s MC MZ (Ab sz0)) (F0 m pc ls rest) q := by
  subst ho
  refine vx_out hno X.2 hcell hv hcl (fun t ht hA => ?_) g4.2.2 hc hs
  exact ⟨ad, ⟨g1, g2⟩, ⟨hE, by rw [ht]; exact g3⟩, g4.F ht⟩
theorem xw_run_vC {x : Mm ⊕ (Nat × Mm)} {f : Mm → Option (γ ⊕ (Nat × Mm))} {a : Array Value} {ad : Nat → Nat} {H : Heap} {locs : List Loc} {ls : Array Slot} {st0 : List Value} (X : CX p s m args meth c cc nL own) (hno : ∀ x ∈ c.exceptionTable.toList, covers x pc = false) (h : xm f x = some o) (g1 : Ex N0 ad0 ad) (g2 : N0 ≤ mN σ) (g4 : va_S (Ab sz0) s.heap H locs) (gz : sz0 ≤ s.heap.size) (g5 : LK σ ℓ) (g6 : VK σ st) (g7 : lv_has ls nL (lm ad ℓ)) (hc : kc + mc ≤ MC) (hs : kz + ms ≤ MZ) (hr : vx_Run p l e R s m args below meth c H locs kc kz mc ms (F0 m pc ls st0) (sm ad st) (XQv dA D sz0 ad (mN σ) x a) (XQX D dA sz0 ad (mN σ) x) (Ab sz0)) (kk : ∀ σ1, mN σ ≤ mN σ1 → f σ1 = some o → WM p l e R s m args below meth c (vx_MQ below Qc (XQX D dA sz0 ad0 N0 o) args s MC MZ (Ab sz0)) nL D dA sz0 ad0 N0 (kc + mc) (kz + ms) σ1 ℓ (st) (pc + 3)) : W p l e R s m args below meth c H locs kc kz (vx_MQ below Qc (XQX D dA sz0 ad0 N0 o) args s MC MZ (Ab sz0)) (F0 m pc ls st0) := by
  cases x with
  | inl y0 =>
    refine vx_callv (a := a) hr g4 (fun q _ h => h) (fun q h => h) (fun q _ h => h) (fun E ce q9 u t H1 locs1 ht hvm hp => hp.elim) (fun u t H1 locs1 ht hvm hp hB hz1 hk1 hS1 => ?_)
    obtain ⟨hE, hN⟩ := hp
    have hk := kk y0 hN h u H1 locs1 ls (g1.trans hE g2) (Nat.le_trans g2 hN) (by rw [← ht]; exact hB) hS1 gz (g5.mono hN) (g6.mono hN) (by rw [hE.lm g5]; exact g7)
    rw [hE.sm g6] at hk
    exact hk
  | inr e0 =>
    obtain ⟨k, σ1⟩ := e0
    refine vx_callv (a := a) hr g4 (fun q _ h => h) (fun q h => h) (fun q _ h => h) (fun E ce q9 u t H1 locs1 ht hvm hp hB hz1 hk1 hS1 hce hcv hcl => ?_) (fun u t H1 locs1 ht hvm hp hB hz1 hk1 hS1 => hp.elim)
    exact xw_outC X hno (Option.some.inj h).symm hB.1 (g1.trans hp.1 g2) (Nat.le_trans g2 hp.2) (by rw [← ht]; exact hB.2) hS1 hce hcv hcl hc hs
theorem wm_xcV_vC (X : CX p s m args meth c cc nL own) (hS : ST D dA sz0 ad0 s) (hno : ∀ x ∈ c.exceptionTable.toList, covers x pc = false) (hcd : CD ci C T N ty) (hs : mS σ q = ci) (hC : y.cls = C) {F : Option (Mm ⊕ (Nat × Mm))} {f : Mm → Option (γ ⊕ (Nat × Mm))} (h : xb F f = some o) (hz : ∀ x, F = some x → CTXv l y (ws_ y bytes maxL ret) fr lo mc ms (va_rf (some q) :: As) σ x) (hmd : MD y n) (hmv : MV y bytes maxL ret) (hq : Cond.methodLink own idx y ∈ lw_all) (hdg : decode cc pc = .ok (.invokevirtual idx, 3)) (hn : As.length = n) (hst : stk = As.reverse ++ va_rf (some q) :: st) (hcat : c1 st) (hst8 : st.length ≤ 8) (hrm : fr + 1 ≤ R.frames ∧ 8 + (maxL + 11) + lo ≤ R.locals) (hc : kc + mc ≤ R.cells ∧ kz + ms ≤ R.slots) (hMc : kc + mc ≤ MC) (hMs : kz + ms ≤ MZ) (kk : ∀ σ1, mN σ ≤ mN σ1 → f σ1 = some o → WM p l e R s m args below meth c (vx_MQ below Qc (XQX D dA sz0 ad0 N0 o) args s MC MZ (Ab sz0)) nL D dA sz0 ad0 N0 (kc + mc) (kz + ms) σ1 ℓ (st) (pc + 3)) : WM p l e R s m args below meth c (vx_MQ below Qc (XQX D dA sz0 ad0 N0 o) args s MC MZ (Ab sz0)) nL D dA sz0 ad0 N0 kc kz σ ℓ stk pc := by
  subst hst
  subst hC
  obtain ⟨x0, hF, h9⟩ := Option.bind_eq_some_iff.mp h
  intro ad H locs ls g1 g2 g3 g4 gz g5 g6 g7
  have hV : VK σ (va_rf (some q) :: As) := by
    intro w hw
    rcases List.mem_cons.mp hw with e | e
    · rw [e]; exact g6 _ (List.mem_append_right _ List.mem_cons_self)
    · exact g6 w (List.mem_append_left _ (List.mem_reverse.mpr e))
  have hlen : (sm ad As).length = n := by simp [sm, hn]
  have hcat' : ((sm ad st).map fun v => v.category).sum ≤ 8 := by rw [sm_cat]; exact c1_s hcat hst8
  rw [sm_stackR]
  exact xw_run_vC X hno h9 g1 g2 g4 gz g5 g6.right.tail g7 hMc hMs (vx_runV (As := sm ad As) (rest := sm ad st) X.1 (hz x0 hF D dA sz0 ad) (cwV n X.1.2.2.2.2 (lw_V hq hmv.1 hmv.2.1 hmv.2.2.1 hmv.2.2.2) rfl rfl rfl ⟨rfl, hmd.1⟩ hrm) ⟨PC_blind, wm_recv hS g3 hcd hs, fun U hU hW => ⟨rfl, ST_call hS g1 hW hU g4, by rw [hU]; exact g3, hV⟩⟩ rfl hlen g7.1 rfl (lv_room hcat') hdg hc) kk
theorem wm_throw0C {k ik ic : Nat} {names : List String} {cls : String} (X : CX p s m args meth c cc nL own) (hS : ST D dA sz0 ad0 s) (hl : l.stackTraces = false) (hno : ∀ x ∈ c.exceptionTable.toList, covers x (pc + 7) = false) (h : (some (Sum.inr (k, σ)) : Option (γ ⊕ (Nat × Mm))) = some o) (hk : exN k = cls) (hat : ∀ w ∈ vx_at0 own ic cls names, w ∈ lw_all ∨ w ∈ nwl) (q1 : Cond.classLink own ik cls ∈ lw_all) (q2 : Cond.initialized cls ∈ lw_all) (hcls : Bundle.fit cls = true) (hnames : ∀ n ∈ names, Bundle.fit n = true)
    (d0 : decode cc pc = .ok (.new ik, 3)) (d3 : decode cc (pc + 3) = .ok (.dup, 1)) (d4 : decode cc (pc + 4) = .ok (.invokespecial ic, 3)) (d7 : decode cc (pc + 7) = .ok (.athrow, 1)) (hst : c1 st) (h8 : st.length ≤ 8) (hf : names.length + 3 < R.frames) (hlo : 8 + (13 * (names.length + 1) + 42) ≤ R.locals) (hRc : kc + 1 ≤ R.cells) (hRs : kz + 6 ≤ R.slots) (hMc : kc + 1 ≤ MC) (hMs : kz + 6 ≤ MZ) : WM p l e R s m args below meth c (vx_MQ below Qc (XQX D dA sz0 ad0 N0 o) args s MC MZ (Ab sz0)) nL D dA sz0 ad0 N0 kc kz σ ℓ st pc := by
  cases h
  have hb0 : ∀ w, w ∈ lw_all ∨ w ∈ nwl → w.before args s = true := fun w hw => hw.elim (X.1.2.2.2.2 w) (fun z => va_Nw.use (nw_start w z).2 (hS.2.1 w z))
  have hg0 : ∀ w, w ∈ lw_all ∨ w ∈ nwl → vx_ot w = true := fun w hw => hw.elim (fun z => by unfold vx_ot; rw [(List.mem_filter.mp z).2]; simp) (fun z => by unfold vx_ot; rw [(nw_start w z).2]; rfl)
  intro ad H locs ls g1 g2 g3 g4 gz g5 g6 g7
  have h0 : ((sm ad st).map fun v => v.category).sum ≤ 8 := (by rw [sm_cat]; exact c1_s hst h8)
  refine vx_throw0 X.1.1 X.1.2.1 hl X.1.2.2.2.1 hcls hnames (hb0 _ (Or.inl q1)) (hb0 _ (Or.inl q2)) (fun w hw => hb0 w (hat w hw)) (fun w hw => ?_) hS.2.2.1.2.2.2.2.2.2.1 hS.2.2.1.2.2.2.2.2.2.2 g4 (g7.1.trans X.1.2.2.1.symm) d0 d3 d4 d7 hno hf (Nat.le_trans (Nat.add_le_add_right h0 _) hlo) hRc hRs X.2 (fun t hA hz hq => ?_) g4.2.2 hMc hMs
  · rcases List.mem_cons.mp hw with rfl | hw
    · exact hg0 _ (Or.inl q1)
    · rcases List.mem_cons.mp hw with rfl | hw
      · exact hg0 _ (Or.inl q2)
      · exact hg0 _ (hat w hw)
  · refine ⟨ad, ⟨g1, g2⟩, ⟨hk.symm, ?_⟩, Nat.le_trans g4.1 hz, fun q h1 h2 => (hq q (Nat.lt_of_lt_of_le h1 g4.1)).trans (g4.2.1 q h1 h2)⟩
    exact ⟨g3.1.kept (fun k q hk => hq q.1 (g3.1 k q hk).lt), g3.2.1, g3.2.2.1, Nat.le_trans g3.2.2.2.1 hz, g3.2.2.2.2⟩
end R15
section R16
variable {p : Program} {l : Launch} {e : Env} {R : Room} {s : State} {m : MethodId} {args : Array Value} {below : List Frame} {meth : Method} {c : Code} {Q : State → Prop} {cc : ByteArray} {nL : Nat} {own : String} {D : va_G} {dA : Nat → ClassId} {sz0 : Nat} {ad0 : Nat → Nat} {N0 kc kz : Nat} {σ σ' : Mm} {ℓ ℓ' : List (Nat × Value)} {st : List Value} {pc : Nat} {β γ : Type} {ci : Nat} {C : String} {T : u_T} {N : Nat} {ty : Nat → FieldType} {idx : Nat} {v : Option Nat} {y : MethodName} {bytes : ByteArray} {maxL fr lo n MC MZ CC ZZ : Nat} {ret : Option FieldType} {As stk : List Value} {q : Nat} {Qc : Array Value → State → Outcome → State → Prop} {o : γ ⊕ (Nat × Mm)}
theorem wm_dV_vC (X : CX p s m args meth c cc nL own) (hS : ST D dA sz0 ad0 s) (hno : ∀ x ∈ c.exceptionTable.toList, covers x pc = false) (hcd : CD ci C T N ty) (hs : mS σ q = ci) (hC : y.cls = C) {F : DX Mm} {f : Mm → DX γ} (h : db F f = some (o, CC, ZZ)) (hMc : kc + CC ≤ MC) (hMz : kz + ZZ ≤ MZ) (hz : ∀ x c1 z1, F = some (x, c1, z1) → CTXv l y (ws_ y bytes maxL ret) fr lo c1 z1 (va_rf (some q) :: As) σ x) (hmd : MD y n) (hmv : MV y bytes maxL ret) (hq : Cond.methodLink own idx y ∈ lw_all) (hdg : decode cc pc = .ok (.invokevirtual idx, 3)) (hn : As.length = n) (hst : stk = As.reverse ++ va_rf (some q) :: st) (hcat : c1 st) (hst8 : st.length ≤ 8) (hrm : fr + 1 ≤ R.frames ∧ 8 + (maxL + 11) + lo ≤ R.locals) (hR1 : MC ≤ R.cells) (hR2 : MZ ≤ R.slots) (kk : ∀ σ1 c1 z1 C1 Z1, mN σ ≤ mN σ1 → f σ1 = some (o, C1, Z1) → kc + c1 + C1 ≤ MC → kz + z1 + Z1 ≤ MZ → WM p l e R s m args below meth c (vx_MQ below Qc (XQX D dA sz0 ad0 N0 o) args s MC MZ (Ab sz0)) nL D dA sz0 ad0 N0 (kc + c1) (kz + z1) σ1 ℓ (st) (pc + 3)) : WM p l e R s m args below meth c (vx_MQ below Qc (XQX D dA sz0 ad0 N0 o) args s MC MZ (Ab sz0)) nL D dA sz0 ad0 N0 kc kz σ ℓ stk pc := by
  obtain ⟨⟨x, c9, z9⟩, hm, h⟩ := Option.bind_eq_some_iff.mp h
  have hz' : ∀ x', some x = some x' → CTXv l y (ws_ y bytes maxL ret) fr lo c9 z9 (va_rf (some q) :: As) σ x' := fun x' hx => by
    cases hx
    exact hz x c9 z9 hm
  cases x with
  | inr e8 =>
    cases h
    exact wm_xcV_vC (f := fun _ => none) X hS hno hcd hs hC (F := some (.inr e8)) rfl hz' hmd hmv hq hdg hn hst hcat hst8 hrm ⟨Nat.le_trans hMc hR1, Nat.le_trans hMz hR2⟩ hMc hMz (fun σ1 _ hf => by cases hf)
  | inl a8 =>
    obtain ⟨C1, Z1, h, hMc, hMz⟩ := pay_d h hMc hMz
    refine wm_xcV_vC (f := fun a => @ite _ (a = a8) (Classical.propDecidable _) (some o) none) X hS hno hcd hs hC (F := some (.inl a8)) (if_pos rfl) hz' hmd hmv hq hdg hn hst hcat hst8 hrm ⟨Nat.le_trans (le_p hMc) hR1, Nat.le_trans (le_p hMz) hR2⟩ (le_p hMc) (le_p hMz) (fun σ1 hN hf => ?_)
    by_cases ha : σ1 = a8
    · rw [← ha] at h
      exact kk σ1 c9 z9 C1 Z1 hN h hMc hMz
    · rw [if_neg ha] at hf
      cases hf
/-- the number k of an exception is in flight over this frame -/
def WX (p : Program) (l : Launch) (e : Env) (R : Room) (s : State) (m : MethodId) (args : Array Value) (below : List Frame) (meth : Method) (c : Code) (Q : State → Prop) (nL : Nat) (D : va_G) (dA : Nat → ClassId) (sz0 : Nat) (ad0 : Nat → Nat) (N0 kc kz : Nat) (σ : Mm) (ℓ : List (Nat × Value)) (pc k : Nat) : Prop :=
  ∀ (ad : Nat → Nat) (H : Heap) (locs : List Loc) (ls : Array Slot) (rest : List Value) (ce : Cell) (q9 : Nat), Ex N0 ad0 ad → N0 ≤ mN σ → PM D dA sz0 ad σ H → va_S (Ab sz0) s.heap H locs → sz0 ≤ s.heap.size → LK σ ℓ → lv_has ls nL (lm ad ℓ) → H[q9]? = some ce → ce.vm = .none → s.vm.findClass (exN k) = some ce.cls → vx_W p l e R s m args below meth c H locs kc kz Q (F0 m pc ls rest) q9
theorem lm_drop {ad : Nat → Nat} {ℓ : List (Nat × Value)} {i x : Nat} : lv_pick ((i, Value.ref x) :: (lm ad ℓ).filter (fun q => !(q.1 == i) && !(q.1 + 1 == i && q.2.category == 2))) [] = [] := rfl
/-- caught: the handler's astore lies at its begin; the locals 'ℓ' hold nothing at that number, nor a long behind it -/
theorem wx_catch (X : CX p s m args meth c cc nL own) (hS : ST D dA sz0 ad0 s) {k i len : Nat} {name : String} (pre : List ExceptionTableEntry) (x : ExceptionTableEntry) (suf : List ExceptionTableEntry) (hsplit : c.exceptionTable.toList = pre ++ x :: suf) (hpass : ∀ z ∈ pre, z.catchType ≠ 0 ∧ ∃ nm : String, Cond.classLink own z.catchType nm ∈ lw_all ∧ (exN k, nm) ∈ ncl) (hx : covers x pc = true) (h0 : x.catchType ≠ 0) (hlink : Cond.classLink own x.catchType name ∈ lw_all) (j : Nat) (hcast : nwl[j]? = some (Cond.castable (exN k) name))
    (hast : (∃ k9 : Fin 4, (k9 : Nat) = i ∧ decode cc x.handlerPc = .ok (.astore_n k9, 1) ∧ len = 1) ∨ (decode cc x.handlerPc = .ok (.astore i, 2) ∧ len = 2)) (hi : i < nL) (hfree : ∀ q ∈ ℓ, q.1 ≠ i) (kk : WM p l e R s m args below meth c Q nL D dA sz0 ad0 N0 kc kz σ ℓ [] (x.handlerPc + len)) : WX p l e R s m args below meth c Q nL D dA sz0 ad0 N0 kc kz σ ℓ pc k := by
  intro ad H locs ls rest ce q9 h1 h2 h3 h4 hz h5 h7 hce hcv hcl
  refine vx_catch (E := exN k) (name := name) X.1.2.2.2.1 pre x suf hsplit (fun z hz => Or.inr ?_) hx h0 (X.1.2.2.2.2 _ hlink) (va_Nw.use rfl (hS.2.1 _ (List.mem_of_getElem? hcast))) hce hcv hcl ?_
  · obtain ⟨a1, nm, a2, a3⟩ := hpass z hz
    exact ⟨a1, nm, X.1.2.2.2.2 _ a2, hS.2.2.2.2.1 _ a3⟩
  · have hf : (lm ad ℓ).filter (fun q => !(q.1 == i) && !(q.1 + 1 == i && q.2.category == 2)) = lm ad ℓ := by
      rw [List.filter_eq_self]
      intro q hq
      obtain ⟨q', hq', rfl⟩ := List.mem_map.mp hq
      have a1 := hfree q' hq'
      have a2 := (h5 q' hq').2
      simp [a1, cv_cat, a2]
    have hsub : ∀ ls' : Array Slot, lv_has ls' nL ((i, Value.ref q9) :: lm ad ℓ) → lv_has ls' nL (lm ad ℓ) := fun ls' h => ⟨h.1, h.2.1, fun q hq => h.2.2 q (List.mem_cons_of_mem _ hq)⟩
    rcases hast with ⟨k9, e1, e2, e3⟩ | ⟨e2, e3⟩
    · subst e3
      exact lv_astore_n X.1.1 X.1.2.1 e2 e1 h7 hi (by rw [hf]) (fun ls' h => kk ad H locs ls' h1 h2 h3 h4 hz h5 VK.nil (hsub ls' h))
    · subst e3
      exact lv_astore X.1.1 X.1.2.1 e2 h7 hi (by rw [hf]) (fun ls' h => kk ad H locs ls' h1 h2 h3 h4 hz h5 VK.nil (hsub ls' h))
theorem wm_tV_i (X : CX p s m args meth c cc nL own) (hS : ST D dA sz0 ad0 s) (hcd : CD ci C T N ty) (hs : mS σ q = ci) (hC : y.cls = C) {F : DX (Int32 × Mm)} {f : (Int32 × Mm) → DX γ} {g : Nat → Mm → DX γ} (h : dt F f g = some (o, CC, ZZ)) (hMc : kc + CC ≤ MC) (hMz : kz + ZZ ≤ MZ) (hz : ∀ x c1 z1, F = some (x, c1, z1) → CTXi l y (ws_ y bytes maxL ret) fr lo c1 z1 (va_rf (some q) :: As) σ x) (hmd : MD y n) (hmv : MV y bytes maxL ret) (hq : Cond.methodLink own idx y ∈ lw_all) (hdg : decode cc pc = .ok (.invokevirtual idx, 3)) (hn : As.length = n) (hst : stk = As.reverse ++ va_rf (some q) :: st) (hcat : c1 st) (hst8 : st.length ≤ 8) (hrm : fr + 1 ≤ R.frames ∧ 8 + (maxL + 11) + lo ≤ R.locals) (hR1 : MC ≤ R.cells) (hR2 : MZ ≤ R.slots)
    (kk : ∀ r σ1 c1 z1 C9 Z9, mN σ ≤ mN σ1 → f (r, σ1) = some (o, C9, Z9) → kc + c1 + C9 ≤ MC → kz + z1 + Z9 ≤ MZ → WM p l e R s m args below meth c Q nL D dA sz0 ad0 N0 (kc + c1) (kz + z1) σ1 ℓ (.int r :: st) (pc + 3))
    (kx : ∀ k σ1 c1 z1 C9 Z9, mN σ ≤ mN σ1 → g k σ1 = some (o, C9, Z9) → kc + c1 + C9 ≤ MC → kz + z1 + Z9 ≤ MZ → WX p l e R s m args below meth c Q nL D dA sz0 ad0 N0 (kc + c1) (kz + z1) σ1 ℓ pc k) : WM p l e R s m args below meth c Q nL D dA sz0 ad0 N0 kc kz σ ℓ stk pc := by
  subst hst
  subst hC
  obtain ⟨⟨x, c9, z9⟩, hF, h9⟩ := Option.bind_eq_some_iff.mp h
  intro ad H locs ls g1 g2 g3 g4 gz g5 g6 g7
  have hV : VK σ (va_rf (some q) :: As) := by
    intro w hw
    rcases List.mem_cons.mp hw with e | e
    · rw [e]; exact g6 _ (List.mem_append_right _ List.mem_cons_self)
    · exact g6 w (List.mem_append_left _ (List.mem_reverse.mpr e))
  have hlen : (sm ad As).length = n := by simp [sm, hn]
  have hcat' : ((sm ad st).map fun v => v.category).sum ≤ 8 := by rw [sm_cat]; exact c1_s hcat hst8
  have hcc : kc + c9 ≤ R.cells ∧ kz + z9 ≤ R.slots := by
    cases x with
    | inl y0 => obtain ⟨C1, Z1, -, a1, a2⟩ := pay_d h9 hMc hMz; exact ⟨Nat.le_trans (le_p a1) hR1, Nat.le_trans (le_p a2) hR2⟩
    | inr y0 => obtain ⟨C1, Z1, -, a1, a2⟩ := pay_d h9 hMc hMz; exact ⟨Nat.le_trans (le_p a1) hR1, Nat.le_trans (le_p a2) hR2⟩
  rw [sm_stackR]
  have hRun : vx_Run p l e R s m args below meth c H locs kc kz c9 z9 (F0 m pc ls ((sm ad As).reverse ++ .ref (ad q) :: sm ad st)) (sm ad st) (XQi dA D sz0 ad (mN σ) x (Value.ref (ad q) :: sm ad As).toArray) (XQX D dA sz0 ad (mN σ) x) (Ab sz0) := vx_runV (rest := sm ad st) (As := sm ad As) X.1 (hz x c9 z9 hF D dA sz0 ad) (cwV n X.1.2.2.2.2 (lw_V hq hmv.1 hmv.2.1 hmv.2.2.1 hmv.2.2.2) rfl rfl rfl ⟨rfl, hmd.1⟩ hrm) ⟨PC_blind, wm_recv hS g3 hcd hs, fun U hU hW => ⟨rfl, ST_call hS g1 hW hU g4, by rw [hU]; exact g3, hV⟩⟩ rfl hlen g7.1 rfl (lv_room hcat') hdg hcc
  cases x with
  | inl y0 =>
    obtain ⟨y1, y2⟩ := y0
    obtain ⟨C1, Z1, h9, hMc, hMz⟩ := pay_d h9 hMc hMz
    refine vx_calli (a := (Value.ref (ad q) :: sm ad As).toArray) hRun g4 (fun q _ h => h) (fun q h => h) (fun q _ h => h) (fun E ce q9 u t H1 locs1 ht hvm hp => hp.elim) (fun x u t H1 locs1 ht hvm hp hB hz1 hk1 hS1 => ?_)
    obtain ⟨rfl, hE, hN⟩ := hp
    have hk := kk x y2 c9 z9 C1 Z1 hN h9 hMc hMz u H1 locs1 ls (g1.trans hE g2) (Nat.le_trans g2 hN) (by rw [← ht]; exact hB) hS1 gz (g5.mono hN) ((g6.right.tail.mono hN).cons vok_int) (by rw [hE.lm g5]; exact g7)
    rw [show sm u (.int x :: st) = .int x :: sm ad st from congrArg (Value.int x :: ·) (hE.sm g6.right.tail)] at hk
    exact hk
  | inr e0 =>
    obtain ⟨k, σ1⟩ := e0
    obtain ⟨C1, Z1, h9, hMc, hMz⟩ := pay_d h9 hMc hMz
    refine vx_calli (a := (Value.ref (ad q) :: sm ad As).toArray) hRun g4 (fun q _ h => h) (fun q h => h) (fun q _ h => h) (fun E ce q9 u t H1 locs1 ht hvm hp hB hz1 hk1 hS1 hce hcv hcl => ?_) (fun x u t H1 locs1 ht hvm hp hB hz1 hk1 hS1 => hp.elim)
    have hcl : s.vm.findClass (exN k) = some ce.cls := by rw [← hB.1]; exact hcl
    exact kx k σ1 c9 z9 C1 Z1 hp.2 h9 hMc hMz u H1 locs1 ls (sm ad st) ce q9 (g1.trans hp.1 g2) (Nat.le_trans g2 hp.2) (by rw [← ht]; exact hB.2) hS1 gz (g5.mono hp.2) (by rw [hp.1.lm g5]; exact g7) hce hcv hcl
def MVW (y : MethodName) (b : ByteArray) (L : Nat) (r : Option FieldType) (hh : List (Nat × Nat × Nat × Nat)) : Prop := Cond.instanceMethod y ∈ lw_all ∧ Cond.selects y.cls y y ∈ lw_all ∧ Cond.initialized y.cls ∈ lw_all ∧ Cond.codeWith y b L r hh ∈ lw_all
def MSW (y : MethodName) (b : ByteArray) (L : Nat) (r : Option FieldType) (hh : List (Nat × Nat × Nat × Nat)) : Prop := Cond.static y ∈ lw_all ∧ Cond.initialized y.cls ∈ lw_all ∧ Cond.codeWith y b L r hh ∈ lw_all
theorem wm_tWV_i (X : CX p s m args meth c cc nL own) (hS : ST D dA sz0 ad0 s) (hcd : CD ci C T N ty) (hs : mS σ q = ci) (hC : y.cls = C) {hh : List (Nat × Nat × Nat × Nat)} {F : DX (Int32 × Mm)} {f : (Int32 × Mm) → DX γ} {g : Nat → Mm → DX γ} (h : dt F f g = some (o, CC, ZZ)) (hMc : kc + CC ≤ MC) (hMz : kz + ZZ ≤ MZ) (hz : ∀ x c1 z1, F = some (x, c1, z1) → CTXi l y (wsW_ y bytes maxL ret hh) fr lo c1 z1 (va_rf (some q) :: As) σ x) (hmd : MD y n) (hmv : MVW y bytes maxL ret hh) (hq : Cond.methodLink own idx y ∈ lw_all) (hdg : decode cc pc = .ok (.invokevirtual idx, 3)) (hn : As.length = n) (hst : stk = As.reverse ++ va_rf (some q) :: st) (hcat : c1 st) (hst8 : st.length ≤ 8) (hrm : fr + 1 ≤ R.frames ∧ 8 + (maxL + 11) + lo ≤ R.locals) (hR1 : MC ≤ R.cells) (hR2 : MZ ≤ R.slots)
    (kk : ∀ r σ1 c1 z1 C9 Z9, mN σ ≤ mN σ1 → f (r, σ1) = some (o, C9, Z9) → kc + c1 + C9 ≤ MC → kz + z1 + Z9 ≤ MZ → WM p l e R s m args below meth c Q nL D dA sz0 ad0 N0 (kc + c1) (kz + z1) σ1 ℓ (.int r :: st) (pc + 3))
    (kx : ∀ k σ1 c1 z1 C9 Z9, mN σ ≤ mN σ1 → g k σ1 = some (o, C9, Z9) → kc + c1 + C9 ≤ MC → kz + z1 + Z9 ≤ MZ → WX p l e R s m args below meth c Q nL D dA sz0 ad0 N0 (kc + c1) (kz + z1) σ1 ℓ pc k) : WM p l e R s m args below meth c Q nL D dA sz0 ad0 N0 kc kz σ ℓ stk pc := by
  subst hst
  subst hC
  obtain ⟨⟨x, c9, z9⟩, hF, h9⟩ := Option.bind_eq_some_iff.mp h
  intro ad H locs ls g1 g2 g3 g4 gz g5 g6 g7
  have hV : VK σ (va_rf (some q) :: As) := by
    intro w hw
    rcases List.mem_cons.mp hw with e | e
    · rw [e]; exact g6 _ (List.mem_append_right _ List.mem_cons_self)
    · exact g6 w (List.mem_append_left _ (List.mem_reverse.mpr e))
  have hlen : (sm ad As).length = n := by simp [sm, hn]
  have hcat' : ((sm ad st).map fun v => v.category).sum ≤ 8 := by rw [sm_cat]; exact c1_s hcat hst8
  have hcc : kc + c9 ≤ R.cells ∧ kz + z9 ≤ R.slots := by
    cases x with
    | inl y0 => obtain ⟨C1, Z1, -, a1, a2⟩ := pay_d h9 hMc hMz; exact ⟨Nat.le_trans (le_p a1) hR1, Nat.le_trans (le_p a2) hR2⟩
    | inr y0 => obtain ⟨C1, Z1, -, a1, a2⟩ := pay_d h9 hMc hMz; exact ⟨Nat.le_trans (le_p a1) hR1, Nat.le_trans (le_p a2) hR2⟩
  rw [sm_stackR]
  have hRun : vx_Run p l e R s m args below meth c H locs kc kz c9 z9 (F0 m pc ls ((sm ad As).reverse ++ .ref (ad q) :: sm ad st)) (sm ad st) (XQi dA D sz0 ad (mN σ) x (Value.ref (ad q) :: sm ad As).toArray) (XQX D dA sz0 ad (mN σ) x) (Ab sz0) := vx_runVX (rest := sm ad st) (As := sm ad As) X.1 (hz x c9 z9 hF D dA sz0 ad) (vx_cwVW n X.1.2.2.2.2 (lw_VW hq hmv.1 hmv.2.1 hmv.2.2.1 hmv.2.2.2) rfl rfl rfl ⟨rfl, hmd.1⟩ hrm) ⟨PC_blind, wm_recv hS g3 hcd hs, fun U hU hW => ⟨rfl, ST_call hS g1 hW hU g4, by rw [hU]; exact g3, hV⟩⟩ rfl hlen g7.1 rfl (lv_room hcat') hdg hcc
  cases x with
  | inl y0 =>
    obtain ⟨y1, y2⟩ := y0
    obtain ⟨C1, Z1, h9, hMc, hMz⟩ := pay_d h9 hMc hMz
    refine vx_calli (a := (Value.ref (ad q) :: sm ad As).toArray) hRun g4 (fun q _ h => h) (fun q h => h) (fun q _ h => h) (fun E ce q9 u t H1 locs1 ht hvm hp => hp.elim) (fun x u t H1 locs1 ht hvm hp hB hz1 hk1 hS1 => ?_)
    obtain ⟨rfl, hE, hN⟩ := hp
    have hk := kk x y2 c9 z9 C1 Z1 hN h9 hMc hMz u H1 locs1 ls (g1.trans hE g2) (Nat.le_trans g2 hN) (by rw [← ht]; exact hB) hS1 gz (g5.mono hN) ((g6.right.tail.mono hN).cons vok_int) (by rw [hE.lm g5]; exact g7)
    rw [show sm u (.int x :: st) = .int x :: sm ad st from congrArg (Value.int x :: ·) (hE.sm g6.right.tail)] at hk
    exact hk
  | inr e0 =>
    obtain ⟨k, σ1⟩ := e0
    obtain ⟨C1, Z1, h9, hMc, hMz⟩ := pay_d h9 hMc hMz
    refine vx_calli (a := (Value.ref (ad q) :: sm ad As).toArray) hRun g4 (fun q _ h => h) (fun q h => h) (fun q _ h => h) (fun E ce q9 u t H1 locs1 ht hvm hp hB hz1 hk1 hS1 hce hcv hcl => ?_) (fun x u t H1 locs1 ht hvm hp hB hz1 hk1 hS1 => hp.elim)
    have hcl : s.vm.findClass (exN k) = some ce.cls := by rw [← hB.1]; exact hcl
    exact kx k σ1 c9 z9 C1 Z1 hp.2 h9 hMc hMz u H1 locs1 ls (sm ad st) ce q9 (g1.trans hp.1 g2) (Nat.le_trans g2 hp.2) (by rw [← ht]; exact hB.2) hS1 gz (g5.mono hp.2) (by rw [hp.1.lm g5]; exact g7) hce hcv hcl
theorem wm_tV_v (X : CX p s m args meth c cc nL own) (hS : ST D dA sz0 ad0 s) (hcd : CD ci C T N ty) (hs : mS σ q = ci) (hC : y.cls = C) {F : DX Mm} {f : Mm → DX γ} {g : Nat → Mm → DX γ} (h : dt F f g = some (o, CC, ZZ)) (hMc : kc + CC ≤ MC) (hMz : kz + ZZ ≤ MZ) (hz : ∀ x c1 z1, F = some (x, c1, z1) → CTXv l y (ws_ y bytes maxL ret) fr lo c1 z1 (va_rf (some q) :: As) σ x) (hmd : MD y n) (hmv : MV y bytes maxL ret) (hq : Cond.methodLink own idx y ∈ lw_all) (hdg : decode cc pc = .ok (.invokevirtual idx, 3)) (hn : As.length = n) (hst : stk = As.reverse ++ va_rf (some q) :: st) (hcat : c1 st) (hst8 : st.length ≤ 8) (hrm : fr + 1 ≤ R.frames ∧ 8 + (maxL + 11) + lo ≤ R.locals) (hR1 : MC ≤ R.cells) (hR2 : MZ ≤ R.slots)
    (kk : ∀ σ1 c1 z1 C9 Z9, mN σ ≤ mN σ1 → f σ1 = some (o, C9, Z9) → kc + c1 + C9 ≤ MC → kz + z1 + Z9 ≤ MZ → WM p l e R s m args below meth c Q nL D dA sz0 ad0 N0 (kc + c1) (kz + z1) σ1 ℓ (st) (pc + 3))
    (kx : ∀ k σ1 c1 z1 C9 Z9, mN σ ≤ mN σ1 → g k σ1 = some (o, C9, Z9) → kc + c1 + C9 ≤ MC → kz + z1 + Z9 ≤ MZ → WX p l e R s m args below meth c Q nL D dA sz0 ad0 N0 (kc + c1) (kz + z1) σ1 ℓ pc k) : WM p l e R s m args below meth c Q nL D dA sz0 ad0 N0 kc kz σ ℓ stk pc := by
  subst hst
  subst hC
  obtain ⟨⟨x, c9, z9⟩, hF, h9⟩ := Option.bind_eq_some_iff.mp h
  intro ad H locs ls g1 g2 g3 g4 gz g5 g6 g7
  have hV : VK σ (va_rf (some q) :: As) := by
    intro w hw
    rcases List.mem_cons.mp hw with e | e
    · rw [e]; exact g6 _ (List.mem_append_right _ List.mem_cons_self)
    · exact g6 w (List.mem_append_left _ (List.mem_reverse.mpr e))
  have hlen : (sm ad As).length = n := by simp [sm, hn]
  have hcat' : ((sm ad st).map fun v => v.category).sum ≤ 8 := by rw [sm_cat]; exact c1_s hcat hst8
  have hcc : kc + c9 ≤ R.cells ∧ kz + z9 ≤ R.slots := by
    cases x with
    | inl y0 => obtain ⟨C1, Z1, -, a1, a2⟩ := pay_d h9 hMc hMz; exact ⟨Nat.le_trans (le_p a1) hR1, Nat.le_trans (le_p a2) hR2⟩
    | inr y0 => obtain ⟨C1, Z1, -, a1, a2⟩ := pay_d h9 hMc hMz; exact ⟨Nat.le_trans (le_p a1) hR1, Nat.le_trans (le_p a2) hR2⟩
  rw [sm_stackR]
  have hRun : vx_Run p l e R s m args below meth c H locs kc kz c9 z9 (F0 m pc ls ((sm ad As).reverse ++ .ref (ad q) :: sm ad st)) (sm ad st) (XQv dA D sz0 ad (mN σ) x (Value.ref (ad q) :: sm ad As).toArray) (XQX D dA sz0 ad (mN σ) x) (Ab sz0) := vx_runV (rest := sm ad st) (As := sm ad As) X.1 (hz x c9 z9 hF D dA sz0 ad) (cwV n X.1.2.2.2.2 (lw_V hq hmv.1 hmv.2.1 hmv.2.2.1 hmv.2.2.2) rfl rfl rfl ⟨rfl, hmd.1⟩ hrm) ⟨PC_blind, wm_recv hS g3 hcd hs, fun U hU hW => ⟨rfl, ST_call hS g1 hW hU g4, by rw [hU]; exact g3, hV⟩⟩ rfl hlen g7.1 rfl (lv_room hcat') hdg hcc
  cases x with
  | inl y0 =>
    obtain ⟨C1, Z1, h9, hMc, hMz⟩ := pay_d h9 hMc hMz
    refine vx_callv (a := (Value.ref (ad q) :: sm ad As).toArray) hRun g4 (fun q _ h => h) (fun q h => h) (fun q _ h => h) (fun E ce q9 u t H1 locs1 ht hvm hp => hp.elim) (fun u t H1 locs1 ht hvm hp hB hz1 hk1 hS1 => ?_)
    obtain ⟨hE, hN⟩ := hp
    have hk := kk y0 c9 z9 C1 Z1 hN h9 hMc hMz u H1 locs1 ls (g1.trans hE g2) (Nat.le_trans g2 hN) (by rw [← ht]; exact hB) hS1 gz (g5.mono hN) (g6.right.tail.mono hN) (by rw [hE.lm g5]; exact g7)
    rw [hE.sm g6.right.tail] at hk
    exact hk
  | inr e0 =>
    obtain ⟨k, σ1⟩ := e0
    obtain ⟨C1, Z1, h9, hMc, hMz⟩ := pay_d h9 hMc hMz
    refine vx_callv (a := (Value.ref (ad q) :: sm ad As).toArray) hRun g4 (fun q _ h => h) (fun q h => h) (fun q _ h => h) (fun E ce q9 u t H1 locs1 ht hvm hp hB hz1 hk1 hS1 hce hcv hcl => ?_) (fun u t H1 locs1 ht hvm hp hB hz1 hk1 hS1 => hp.elim)
    have hcl : s.vm.findClass (exN k) = some ce.cls := by rw [← hB.1]; exact hcl
    exact kx k σ1 c9 z9 C1 Z1 hp.2 h9 hMc hMz u H1 locs1 ls (sm ad st) ce q9 (g1.trans hp.1 g2) (Nat.le_trans g2 hp.2) (by rw [← ht]; exact hB.2) hS1 gz (g5.mono hp.2) (by rw [hp.1.lm g5]; exact g7) hce hcv hcl
theorem wm_tV_r (X : CX p s m args meth c cc nL own) (hS : ST D dA sz0 ad0 s) (hcd : CD ci C T N ty) (hs : mS σ q = ci) (hC : y.cls = C) {F : DX (Option Nat × Mm)} {f : (Option Nat × Mm) → DX γ} {g : Nat → Mm → DX γ} (h : dt F f g = some (o, CC, ZZ)) (hMc : kc + CC ≤ MC) (hMz : kz + ZZ ≤ MZ) (hz : ∀ x c1 z1, F = some (x, c1, z1) → CTXr l y (ws_ y bytes maxL ret) fr lo c1 z1 (va_rf (some q) :: As) σ x) (hmd : MD y n) (hmv : MV y bytes maxL ret) (hq : Cond.methodLink own idx y ∈ lw_all) (hdg : decode cc pc = .ok (.invokevirtual idx, 3)) (hn : As.length = n) (hst : stk = As.reverse ++ va_rf (some q) :: st) (hcat : c1 st) (hst8 : st.length ≤ 8) (hrm : fr + 1 ≤ R.frames ∧ 8 + (maxL + 11) + lo ≤ R.locals) (hR1 : MC ≤ R.cells) (hR2 : MZ ≤ R.slots)
    (kk : ∀ r σ1 c1 z1 C9 Z9, mN σ ≤ mN σ1 → f (r, σ1) = some (o, C9, Z9) → kc + c1 + C9 ≤ MC → kz + z1 + Z9 ≤ MZ → WM p l e R s m args below meth c Q nL D dA sz0 ad0 N0 (kc + c1) (kz + z1) σ1 ℓ (va_rf r :: st) (pc + 3))
    (kx : ∀ k σ1 c1 z1 C9 Z9, mN σ ≤ mN σ1 → g k σ1 = some (o, C9, Z9) → kc + c1 + C9 ≤ MC → kz + z1 + Z9 ≤ MZ → WX p l e R s m args below meth c Q nL D dA sz0 ad0 N0 (kc + c1) (kz + z1) σ1 ℓ pc k) : WM p l e R s m args below meth c Q nL D dA sz0 ad0 N0 kc kz σ ℓ stk pc := by
  subst hst
  subst hC
  obtain ⟨⟨x, c9, z9⟩, hF, h9⟩ := Option.bind_eq_some_iff.mp h
  intro ad H locs ls g1 g2 g3 g4 gz g5 g6 g7
  have hV : VK σ (va_rf (some q) :: As) := by
    intro w hw
    rcases List.mem_cons.mp hw with e | e
    · rw [e]; exact g6 _ (List.mem_append_right _ List.mem_cons_self)
    · exact g6 w (List.mem_append_left _ (List.mem_reverse.mpr e))
  have hlen : (sm ad As).length = n := by simp [sm, hn]
  have hcat' : ((sm ad st).map fun v => v.category).sum ≤ 8 := by rw [sm_cat]; exact c1_s hcat hst8
  have hcc : kc + c9 ≤ R.cells ∧ kz + z9 ≤ R.slots := by
    cases x with
    | inl y0 => obtain ⟨C1, Z1, -, a1, a2⟩ := pay_d h9 hMc hMz; exact ⟨Nat.le_trans (le_p a1) hR1, Nat.le_trans (le_p a2) hR2⟩
    | inr y0 => obtain ⟨C1, Z1, -, a1, a2⟩ := pay_d h9 hMc hMz; exact ⟨Nat.le_trans (le_p a1) hR1, Nat.le_trans (le_p a2) hR2⟩
  rw [sm_stackR]
  have hRun : vx_Run p l e R s m args below meth c H locs kc kz c9 z9 (F0 m pc ls ((sm ad As).reverse ++ .ref (ad q) :: sm ad st)) (sm ad st) (XQr dA D sz0 ad (mN σ) x (Value.ref (ad q) :: sm ad As).toArray) (XQX D dA sz0 ad (mN σ) x) (Ab sz0) := vx_runV (rest := sm ad st) (As := sm ad As) X.1 (hz x c9 z9 hF D dA sz0 ad) (cwV n X.1.2.2.2.2 (lw_V hq hmv.1 hmv.2.1 hmv.2.2.1 hmv.2.2.2) rfl rfl rfl ⟨rfl, hmd.1⟩ hrm) ⟨PC_blind, wm_recv hS g3 hcd hs, fun U hU hW => ⟨rfl, ST_call hS g1 hW hU g4, by rw [hU]; exact g3, hV⟩⟩ rfl hlen g7.1 rfl (lv_room hcat') hdg hcc
  cases x with
  | inl y0 =>
    obtain ⟨y1, y2⟩ := y0
    obtain ⟨C1, Z1, h9, hMc, hMz⟩ := pay_d h9 hMc hMz
    refine vx_callq (a := (Value.ref (ad q) :: sm ad As).toArray) hRun g4 (fun q _ h => h) (fun q h => h) (fun q _ h => h) (fun E ce q9 u t H1 locs1 ht hvm hp => hp.elim) (fun x u t H1 locs1 ht hvm hp hB hz1 hk1 hS1 => ?_)
    obtain ⟨rfl, hE, hN, hv9⟩ := hp
    have hk := kk y1 y2 c9 z9 C1 Z1 hN h9 hMc hMz u H1 locs1 ls (g1.trans hE g2) (Nat.le_trans g2 hN) (by rw [← ht]; exact hB) hS1 gz (g5.mono hN) ((g6.right.tail.mono hN).cons (vok_rf hv9)) (by rw [hE.lm g5]; exact g7)
    rw [show sm u (va_rf y1 :: st) = va_rf (y1.map u) :: sm ad st by rw [← cv_rf, ← hE.sm g6.right.tail]; rfl] at hk
    exact hk
  | inr e0 =>
    obtain ⟨k, σ1⟩ := e0
    obtain ⟨C1, Z1, h9, hMc, hMz⟩ := pay_d h9 hMc hMz
    refine vx_callq (a := (Value.ref (ad q) :: sm ad As).toArray) hRun g4 (fun q _ h => h) (fun q h => h) (fun q _ h => h) (fun E ce q9 u t H1 locs1 ht hvm hp hB hz1 hk1 hS1 hce hcv hcl => ?_) (fun x u t H1 locs1 ht hvm hp hB hz1 hk1 hS1 => hp.elim)
    have hcl : s.vm.findClass (exN k) = some ce.cls := by rw [← hB.1]; exact hcl
    exact kx k σ1 c9 z9 C1 Z1 hp.2 h9 hMc hMz u H1 locs1 ls (sm ad st) ce q9 (g1.trans hp.1 g2) (Nat.le_trans g2 hp.2) (by rw [← ht]; exact hB.2) hS1 gz (g5.mono hp.2) (by rw [hp.1.lm g5]; exact g7) hce hcv hcl
theorem ctxW_start {y : MethodName} {maxL fr lo mc ms : Nat} {ret : Option FieldType} {As : List Value} {Qc : va_G → (Nat → ClassId) → Nat → (Nat → Nat) → Array Value → State → Outcome → State → Prop} {XC : va_G → (Nat → ClassId) → Nat → (Nat → Nat) → String → State → State → Prop} {n : Nat} {hh : List (Nat × Nat × Nat × Nat)} (hy : MD y n) (hm : As.length ≤ maxL) (hc : c1 As)
    (body : ∀ (p : Program) (e : Env) (s : State) (m : MethodId) (args : Array Value) (below : List Frame) (meth : Method) (c : Code) (D : va_G) (dA : Nat → ClassId) (sz0 : Nat) (ad0 : Nat → Nat), CX p s m args meth c cc maxL y.cls → ST D dA sz0 ad0 s → meth.sig.returnType = ret → meth.name = y.name → c.exceptionTable.toList = tableOf hh → WM p l e (rmv fr lo mc ms) s m args below meth c (vx_MQ below (Qc D dA sz0 ad0) (XC D dA sz0 ad0) args s mc ms (Ab sz0)) maxL D dA sz0 ad0 (mN σ) 0 0 σ (arL 0 As) [] 0) :
    ∀ (D : va_G) (dA : Nat → ClassId) (sz0 : Nat) (ad0 : Nat → Nat), vx_Met l y (wsW_ y cc maxL ret hh) (rmv fr lo mc ms) (PC D dA sz0 ad0 As σ) (Qc D dA sz0 ad0) (XC D dA sz0 ad0) mc ms (Ab sz0) := by
  intro D dA sz0 ad0
  refine vx_ofWH (hh := hh) (cc := cc) (maxL := maxL) (ret := ret) hy.2 rfl ?_
  intro p e s m args below meth c s₁ B hml hv
  have hno : c.exceptionTable.toList = tableOf hh := vx_table (x := y) B (atoms_spec (ws := wsW_ y cc maxL ret hh) B.pre _ List.mem_cons_self)
  obtain ⟨rfl, hS, hP, hV⟩ := hv
  have hts := atoms_spec (ws := wsW_ y cc maxL ret hh) B.pre
  have hts : ∀ w ∈ lw_all, w.before _ s = true := fun w h => hts w (List.mem_cons_of_mem _ h)
  have hown : s.vm.findClass y.cls = some m.cls := findClass_of_methodNamed B.named
  rw [lg_entry_eq]
  have hl := lv_entry (sm ad0 As) (n := maxL) (by rw [lg_sl_len _ _ hc]; exact hm)
  rw [arL_eq _ _ _ hc] at hl
  exact body p e s m _ below meth c D dA sz0 ad0 ⟨⟨B.exec, B.bytes, hml, hown, hts⟩, B.notSynchronized⟩ hS B.returns (name_of_methodNamed B.named B.method).1 hno ad0 s.heap [] _ Ex.rf (Nat.le_refl _) hP va_S.rf hP.2.2.2.1 (LK_args As 0 hc hV) VK.nil hl
theorem wm_nV_i (X : CX p s m args meth c cc nL own) (hS : ST D dA sz0 ad0 s) (hcd : CD ci C T N ty) (hs : mS σ q = ci) (hC : y.cls = C) {F : DX (Int32 × Mm)} {f : (Int32 × Mm) → DX γ} (h : dn F f = some (o, CC, ZZ)) (hMc : kc + CC ≤ MC) (hMz : kz + ZZ ≤ MZ) (hz : ∀ x c1 z1, F = some (x, c1, z1) → CTXi l y (ws_ y bytes maxL ret) fr lo c1 z1 (va_rf (some q) :: As) σ x) (hmd : MD y n) (hmv : MV y bytes maxL ret) (hq : Cond.methodLink own idx y ∈ lw_all) (hdg : decode cc pc = .ok (.invokevirtual idx, 3)) (hn : As.length = n) (hst : stk = As.reverse ++ va_rf (some q) :: st) (hcat : c1 st) (hst8 : st.length ≤ 8) (hrm : fr + 1 ≤ R.frames ∧ 8 + (maxL + 11) + lo ≤ R.locals) (hR1 : MC ≤ R.cells) (hR2 : MZ ≤ R.slots)
    (kk : ∀ r σ1 c1 z1 C9 Z9, mN σ ≤ mN σ1 → f (r, σ1) = some (o, C9, Z9) → kc + c1 + C9 ≤ MC → kz + z1 + Z9 ≤ MZ → WM p l e R s m args below meth c Q nL D dA sz0 ad0 N0 (kc + c1) (kz + z1) σ1 ℓ (.int r :: st) (pc + 3)) : WM p l e R s m args below meth c Q nL D dA sz0 ad0 N0 kc kz σ ℓ stk pc := by
  subst hst
  subst hC
  obtain ⟨⟨x, c9, z9⟩, hF, h9⟩ := Option.bind_eq_some_iff.mp h
  cases x with
  | inr e0 => obtain ⟨C1, Z1, h9, -, -⟩ := pay_d h9 hMc hMz; cases h9
  | inl y0 =>
  intro ad H locs ls g1 g2 g3 g4 gz g5 g6 g7
  have hV : VK σ (va_rf (some q) :: As) := by
    intro w hw
    rcases List.mem_cons.mp hw with e | e
    · rw [e]; exact g6 _ (List.mem_append_right _ List.mem_cons_self)
    · exact g6 w (List.mem_append_left _ (List.mem_reverse.mpr e))
  have gst : VK σ st := g6.right.tail
  have hlen : (sm ad As).length = n := by simp [sm, hn]
  have hcat' : ((sm ad st).map fun v => v.category).sum ≤ 8 := by rw [sm_cat]; exact c1_s hcat hst8
  obtain ⟨C1, Z1, h9, hMc, hMz⟩ := pay_d h9 hMc hMz
  have hcc : kc + c9 ≤ R.cells ∧ kz + z9 ≤ R.slots := ⟨Nat.le_trans (le_p hMc) hR1, Nat.le_trans (le_p hMz) hR2⟩
  rw [sm_stackR]
  have hRun : vx_Run p l e R s m args below meth c H locs kc kz c9 z9 (F0 m pc ls ((sm ad As).reverse ++ .ref (ad q) :: sm ad st)) (sm ad st) (XQi dA D sz0 ad (mN σ) (.inl y0) (Value.ref (ad q) :: sm ad As).toArray) (XQX D dA sz0 ad (mN σ) (.inl y0)) (Ab sz0) := vx_runV (rest := sm ad st) (As := sm ad As) X.1 (hz (.inl y0) c9 z9 hF D dA sz0 ad) (cwV n X.1.2.2.2.2 (lw_V hq hmv.1 hmv.2.1 hmv.2.2.1 hmv.2.2.2) rfl rfl rfl ⟨rfl, hmd.1⟩ hrm) ⟨PC_blind, wm_recv hS g3 hcd hs, fun U hU hW => ⟨rfl, ST_call hS g1 hW hU g4, by rw [hU]; exact g3, hV⟩⟩ rfl hlen g7.1 rfl (lv_room hcat') hdg hcc
  obtain ⟨y1, y2⟩ := y0
  refine vx_calli (a := (Value.ref (ad q) :: sm ad As).toArray) hRun g4 (fun q _ h => h) (fun q h => h) (fun q _ h => h) (fun E ce q9 u t H1 locs1 ht hvm hp => hp.elim) (fun x u t H1 locs1 ht hvm hp hB hz1 hk1 hS1 => ?_)
  obtain ⟨rfl, hE, hN⟩ := hp
  have hk := kk x y2 c9 z9 C1 Z1 hN h9 hMc hMz u H1 locs1 ls (g1.trans hE g2) (Nat.le_trans g2 hN) (by rw [← ht]; exact hB) hS1 gz (g5.mono hN) ((gst.mono hN).cons vok_int) (by rw [hE.lm g5]; exact g7)
  rw [show sm u (.int x :: st) = .int x :: sm ad st from congrArg (Value.int x :: ·) (hE.sm gst)] at hk
  exact hk
theorem wm_nSW_i (X : CX p s m args meth c cc nL own) (hS : ST D dA sz0 ad0 s) {hh : List (Nat × Nat × Nat × Nat)} {F : DX (Int32 × Mm)} {f : (Int32 × Mm) → DX γ} (h : dn F f = some (o, CC, ZZ)) (hMc : kc + CC ≤ MC) (hMz : kz + ZZ ≤ MZ) (hz : ∀ x c1 z1, F = some (x, c1, z1) → CTXi l y (wsW_ y bytes maxL ret hh) fr lo c1 z1 As σ x) (hmd : MD y n) (hmv : MSW y bytes maxL ret hh) (hq : Cond.methodLink own idx y ∈ lw_all) (hdg : decode cc pc = .ok (.invokestatic idx, 3)) (hn : As.length = n) (hst : stk = As.reverse ++ st) (hcat : c1 st) (hst8 : st.length ≤ 8) (hrm : fr + 1 ≤ R.frames ∧ 8 + (maxL + 11) + lo ≤ R.locals) (hR1 : MC ≤ R.cells) (hR2 : MZ ≤ R.slots)
    (kk : ∀ r σ1 c1 z1 C9 Z9, mN σ ≤ mN σ1 → f (r, σ1) = some (o, C9, Z9) → kc + c1 + C9 ≤ MC → kz + z1 + Z9 ≤ MZ → WM p l e R s m args below meth c Q nL D dA sz0 ad0 N0 (kc + c1) (kz + z1) σ1 ℓ (.int r :: st) (pc + 3)) : WM p l e R s m args below meth c Q nL D dA sz0 ad0 N0 kc kz σ ℓ stk pc := by
  subst hst
  obtain ⟨⟨x, c9, z9⟩, hF, h9⟩ := Option.bind_eq_some_iff.mp h
  cases x with
  | inr e0 => obtain ⟨C1, Z1, h9, -, -⟩ := pay_d h9 hMc hMz; cases h9
  | inl y0 =>
  intro ad H locs ls g1 g2 g3 g4 gz g5 g6 g7
  have hV : VK σ As := VK_args g6
  have gst : VK σ st := g6.right
  have hlen : (sm ad As).length = n := by simp [sm, hn]
  have hcat' : ((sm ad st).map fun v => v.category).sum ≤ 8 := by rw [sm_cat]; exact c1_s hcat hst8
  obtain ⟨C1, Z1, h9, hMc, hMz⟩ := pay_d h9 hMc hMz
  have hcc : kc + c9 ≤ R.cells ∧ kz + z9 ≤ R.slots := ⟨Nat.le_trans (le_p hMc) hR1, Nat.le_trans (le_p hMz) hR2⟩
  rw [sm_stack]
  have hRun : vx_Run p l e R s m args below meth c H locs kc kz c9 z9 (F0 m pc ls ((sm ad As).reverse ++ sm ad st)) (sm ad st) (XQi dA D sz0 ad (mN σ) (.inl y0) (sm ad As).toArray) (XQX D dA sz0 ad (mN σ) (.inl y0)) (Ab sz0) := vx_runSX (rest := sm ad st) (As := sm ad As) X.1 (hz (.inl y0) c9 z9 hF D dA sz0 ad) (vx_cwSW n X.1.2.2.2.2 (lw_SW hq hmv.1 hmv.2.1 hmv.2.2) rfl rfl rfl hmd.1 hrm) ⟨PC_blind, fun U hU hW => ⟨rfl, ST_call hS g1 hW hU g4, by rw [hU]; exact g3, hV⟩⟩ rfl hlen g7.1 rfl (lv_room hcat') hdg hcc
  obtain ⟨y1, y2⟩ := y0
  refine vx_calli (a := (sm ad As).toArray) hRun g4 (fun q _ h => h) (fun q h => h) (fun q _ h => h) (fun E ce q9 u t H1 locs1 ht hvm hp => hp.elim) (fun x u t H1 locs1 ht hvm hp hB hz1 hk1 hS1 => ?_)
  obtain ⟨rfl, hE, hN⟩ := hp
  have hk := kk x y2 c9 z9 C1 Z1 hN h9 hMc hMz u H1 locs1 ls (g1.trans hE g2) (Nat.le_trans g2 hN) (by rw [← ht]; exact hB) hS1 gz (g5.mono hN) ((gst.mono hN).cons vok_int) (by rw [hE.lm g5]; exact g7)
  rw [show sm u (.int x :: st) = .int x :: sm ad st from congrArg (Value.int x :: ·) (hE.sm gst)] at hk
  exact hk
theorem wm_nV_v (X : CX p s m args meth c cc nL own) (hS : ST D dA sz0 ad0 s) (hcd : CD ci C T N ty) (hs : mS σ q = ci) (hC : y.cls = C) {F : DX Mm} {f : Mm → DX γ} (h : dn F f = some (o, CC, ZZ)) (hMc : kc + CC ≤ MC) (hMz : kz + ZZ ≤ MZ) (hz : ∀ x c1 z1, F = some (x, c1, z1) → CTXv l y (ws_ y bytes maxL ret) fr lo c1 z1 (va_rf (some q) :: As) σ x) (hmd : MD y n) (hmv : MV y bytes maxL ret) (hq : Cond.methodLink own idx y ∈ lw_all) (hdg : decode cc pc = .ok (.invokevirtual idx, 3)) (hn : As.length = n) (hst : stk = As.reverse ++ va_rf (some q) :: st) (hcat : c1 st) (hst8 : st.length ≤ 8) (hrm : fr + 1 ≤ R.frames ∧ 8 + (maxL + 11) + lo ≤ R.locals) (hR1 : MC ≤ R.cells) (hR2 : MZ ≤ R.slots)
    (kk : ∀ σ1 c1 z1 C9 Z9, mN σ ≤ mN σ1 → f σ1 = some (o, C9, Z9) → kc + c1 + C9 ≤ MC → kz + z1 + Z9 ≤ MZ → WM p l e R s m args below meth c Q nL D dA sz0 ad0 N0 (kc + c1) (kz + z1) σ1 ℓ (st) (pc + 3)) : WM p l e R s m args below meth c Q nL D dA sz0 ad0 N0 kc kz σ ℓ stk pc := by
  subst hst
  subst hC
  obtain ⟨⟨x, c9, z9⟩, hF, h9⟩ := Option.bind_eq_some_iff.mp h
  cases x with
  | inr e0 => obtain ⟨C1, Z1, h9, -, -⟩ := pay_d h9 hMc hMz; cases h9
  | inl y0 =>
  intro ad H locs ls g1 g2 g3 g4 gz g5 g6 g7
  have hV : VK σ (va_rf (some q) :: As) := by
    intro w hw
    rcases List.mem_cons.mp hw with e | e
    · rw [e]; exact g6 _ (List.mem_append_right _ List.mem_cons_self)
    · exact g6 w (List.mem_append_left _ (List.mem_reverse.mpr e))
  have gst : VK σ st := g6.right.tail
  have hlen : (sm ad As).length = n := by simp [sm, hn]
  have hcat' : ((sm ad st).map fun v => v.category).sum ≤ 8 := by rw [sm_cat]; exact c1_s hcat hst8
  obtain ⟨C1, Z1, h9, hMc, hMz⟩ := pay_d h9 hMc hMz
  have hcc : kc + c9 ≤ R.cells ∧ kz + z9 ≤ R.slots := ⟨Nat.le_trans (le_p hMc) hR1, Nat.le_trans (le_p hMz) hR2⟩
  rw [sm_stackR]
  have hRun : vx_Run p l e R s m args below meth c H locs kc kz c9 z9 (F0 m pc ls ((sm ad As).reverse ++ .ref (ad q) :: sm ad st)) (sm ad st) (XQv dA D sz0 ad (mN σ) (.inl y0) (Value.ref (ad q) :: sm ad As).toArray) (XQX D dA sz0 ad (mN σ) (.inl y0)) (Ab sz0) := vx_runV (rest := sm ad st) (As := sm ad As) X.1 (hz (.inl y0) c9 z9 hF D dA sz0 ad) (cwV n X.1.2.2.2.2 (lw_V hq hmv.1 hmv.2.1 hmv.2.2.1 hmv.2.2.2) rfl rfl rfl ⟨rfl, hmd.1⟩ hrm) ⟨PC_blind, wm_recv hS g3 hcd hs, fun U hU hW => ⟨rfl, ST_call hS g1 hW hU g4, by rw [hU]; exact g3, hV⟩⟩ rfl hlen g7.1 rfl (lv_room hcat') hdg hcc
  refine vx_callv (a := (Value.ref (ad q) :: sm ad As).toArray) hRun g4 (fun q _ h => h) (fun q h => h) (fun q _ h => h) (fun E ce q9 u t H1 locs1 ht hvm hp => hp.elim) (fun u t H1 locs1 ht hvm hp hB hz1 hk1 hS1 => ?_)
  obtain ⟨hE, hN⟩ := hp
  have hk := kk y0 c9 z9 C1 Z1 hN h9 hMc hMz u H1 locs1 ls (g1.trans hE g2) (Nat.le_trans g2 hN) (by rw [← ht]; exact hB) hS1 gz (g5.mono hN) (gst.mono hN) (by rw [hE.lm g5]; exact g7)
  rw [hE.sm gst] at hk
  exact hk
theorem wm_acmpC (X : CX p s m args meth c cc nL own) {x y : Option Nat} {off : Int} (tgt : Nat) {A : Option β} {o9 : β} (h : (if x = y then A else none) = some o9) (hdg : decode cc pc = .ok (.if_acmp .ne off, 3)) (ht : (pc : Int) + off = (tgt : Int)) (kk : A = some o9 → WM p l e R s m args below meth c Q nL D dA sz0 ad0 N0 kc kz σ ℓ st (pc + 3)) : WM p l e R s m args below meth c Q nL D dA sz0 ad0 N0 kc kz σ ℓ (va_rf y :: va_rf x :: st) pc := by
  split at h
  case isFalse => cases h
  case isTrue hc =>
  subst hc
  intro ad H locs ls h1 h2 h3 h4 hz h5 h6 h7
  rw [show sm ad (va_rf x :: va_rf x :: st) = va_rf (x.map ad) :: va_rf (x.map ad) :: sm ad st by simp [sm, cv_rf]]
  exact lv_acmp_ne X.1.1 X.1.2.1 hdg ht (fun hc => absurd rfl hc) (fun _ => kk h ad H locs ls h1 h2 h3 h4 hz h5 h6.tail.tail h7)
theorem va_ldcSW {H : Heap} {locs : List Loc} {ls : Array Slot} {rest : List Value} {kc kz : Nat} (hexec : p.tables.exec = Jvm.exec) (hb : c.code = cc) {own tx : String} {index q : Nat} (hown : s.vm.findClass own = some m.cls) (hZ : vk_R own index tx q s) (hdg : decode cc pc = .ok (.ldc_w index, 3))
    (k : W p l e R s m args below meth c H locs kc kz Q (F0 m (pc + 3) ls (.ref q :: rest))) : W p l e R s m args below meth c H locs kc kz Q (F0 m pc ls rest) := by
  intro T hT X
  obtain ⟨t, a1, b1⟩ := k T hT X
  exact ⟨t, X.ldcStringW hexec hown (text := tx) (a := q) hZ.1 hZ.2 (g := F0 m pc ls rest) rfl (by rw [hb]; exact hdg) t a1, b1⟩
theorem wm_ldcSW (X : CX p s m args meth c cc nL own) (hS : ST D dA sz0 ad0 s) (j k : Nat) {tx : String} (hj : strl[j]? = some (own, idx, tx, k)) (hdg : decode cc pc = .ok (.ldc_w idx, 3)) (kk : WM p l e R s m args below meth c Q nL D dA sz0 ad0 N0 kc kz σ ℓ (va_rf (some (BIG + 2 * k)) :: st) (pc + 3)) : WM p l e R s m args below meth c Q nL D dA sz0 ad0 N0 kc kz σ ℓ st pc := by
  intro ad H locs ls h1 h2 h3 h4 hz h5 h6 h7
  have hZ := hS.2.2.1.2.2.2.2.2.1 _ (List.mem_of_getElem? hj)
  refine va_ldcSW X.1.1 X.1.2.1 X.1.2.2.2.1 hZ hdg ?_
  have hk := kk ad H locs ls h1 h2 h3 h4 hz h5 (h6.cons (vok_rf fun a ha => by cases ha; exact Or.inr (by omega))) h7
  rw [show sm ad (va_rf (some (BIG + 2 * k)) :: st) = .ref (ad0 (BIG + 2 * k)) :: sm ad st by rw [← h1 _ (Or.inr (by omega : BIG ≤ BIG + 2 * k))]; rfl] at hk
  exact hk
end R16
