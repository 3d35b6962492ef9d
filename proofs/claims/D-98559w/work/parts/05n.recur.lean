/-! THE LAYER, 13: rooms of a recursion; Cond.holds by the class of its receiver; clone() of Fact[]; class objects -/
theorem rmf {a fr lo mc ms : Nat} (h : a ≤ fr) : a ≤ (rmv fr lo mc ms).frames := h
theorem rml {a fr lo mc ms : Nat} (h : a ≤ lo) : a ≤ (rmv fr lo mc ms).locals := h
def HOK (l : Launch) (fr lo : Nat) (Hh : Nat → Option Nat → Mm → Option (Int32 × Mm)) : Prop := ∀ (q : Nat) (x : Option Nat) (σ : Mm) (r : Int32) (σ1 : Mm), Hh q x σ = some (r, σ1) →
  (mS σ q = 12 ∧ CTi l yX12_holds (ws_ yX12_holds cX12_holds 3 (some .boolean)) fr lo 0 0 [va_rf (some q), va_rf x] σ r σ1) ∨ (mS σ q = 13 ∧ CTi l yX13_holds (ws_ yX13_holds cX13_holds 2 (some .boolean)) fr lo 0 0 [va_rf (some q), va_rf x] σ r σ1) ∨
  (mS σ q = 14 ∧ CTi l yX14_holds (ws_ yX14_holds cX14_holds 2 (some .boolean)) fr lo 0 0 [va_rf (some q), va_rf x] σ r σ1) ∨ (mS σ q = 18 ∧ CTi l yX18_holds (ws_ yX18_holds cX18_holds 2 (some .boolean)) fr lo 0 0 [va_rf (some q), va_rf x] σ r σ1)
def ifc (Hh : Nat → Option Nat → Mm → Option (Int32 × Mm)) (v x : Option Nat) (σ : Mm) : Option (Int32 × Mm) := v.bind fun q => Hh q x σ
theorem fw12 {D : va_G} {dA : Nat → ClassId} {sz0 : Nat} {ad0 : Nat → Nat} {s : State} (hS : ST D dA sz0 ad0 s) : va_Fw "HungFaces$Row" yHolds yX12_holds s := va_Fw.of (A := #[]) (va_Nw.use (A := #[]) rfl (hS.2.1 _ (List.mem_of_getElem? (rfl : nwl[124]? = some (Cond.declares yHolds))))) (va_Nw.use (A := #[]) rfl (hS.2.1 _ (List.mem_of_getElem? (rfl : nwl[136]? = some (Cond.interfaceMethod "HungFaces$Cond" "HungFaces$Cond" "holds" "(LHungFaces$Scene;)Z"))))) (va_Nw.use (A := #[]) rfl (hS.2.1 _ (List.mem_of_getElem? (rfl : nwl[129]? = some (Cond.publicMethod yX12_holds))))) (va_Nw.use (A := #[]) rfl (hS.2.1 _ (List.mem_of_getElem? (rfl : nwl[128]? = some (Cond.unhidden "HungFaces$Row" "holds" "(LHungFaces$Scene;)Z"))))) (va_Nw.use (A := #[]) rfl (hS.2.1 _ (List.mem_of_getElem? (rfl : nwl[90]? = some (Cond.castable "HungFaces$Row" "HungFaces$Cond")))))
theorem fw13 {D : va_G} {dA : Nat → ClassId} {sz0 : Nat} {ad0 : Nat → Nat} {s : State} (hS : ST D dA sz0 ad0 s) : va_Fw "HungFaces$Not" yHolds yX13_holds s := va_Fw.of (A := #[]) (va_Nw.use (A := #[]) rfl (hS.2.1 _ (List.mem_of_getElem? (rfl : nwl[124]? = some (Cond.declares yHolds))))) (va_Nw.use (A := #[]) rfl (hS.2.1 _ (List.mem_of_getElem? (rfl : nwl[136]? = some (Cond.interfaceMethod "HungFaces$Cond" "HungFaces$Cond" "holds" "(LHungFaces$Scene;)Z"))))) (va_Nw.use (A := #[]) rfl (hS.2.1 _ (List.mem_of_getElem? (rfl : nwl[131]? = some (Cond.publicMethod yX13_holds))))) (va_Nw.use (A := #[]) rfl (hS.2.1 _ (List.mem_of_getElem? (rfl : nwl[130]? = some (Cond.unhidden "HungFaces$Not" "holds" "(LHungFaces$Scene;)Z"))))) (va_Nw.use (A := #[]) rfl (hS.2.1 _ (List.mem_of_getElem? (rfl : nwl[92]? = some (Cond.castable "HungFaces$Not" "HungFaces$Cond")))))
theorem fw14 {D : va_G} {dA : Nat → ClassId} {sz0 : Nat} {ad0 : Nat → Nat} {s : State} (hS : ST D dA sz0 ad0 s) : va_Fw "HungFaces$Tag" yHolds yX14_holds s := va_Fw.of (A := #[]) (va_Nw.use (A := #[]) rfl (hS.2.1 _ (List.mem_of_getElem? (rfl : nwl[124]? = some (Cond.declares yHolds))))) (va_Nw.use (A := #[]) rfl (hS.2.1 _ (List.mem_of_getElem? (rfl : nwl[136]? = some (Cond.interfaceMethod "HungFaces$Cond" "HungFaces$Cond" "holds" "(LHungFaces$Scene;)Z"))))) (va_Nw.use (A := #[]) rfl (hS.2.1 _ (List.mem_of_getElem? (rfl : nwl[133]? = some (Cond.publicMethod yX14_holds))))) (va_Nw.use (A := #[]) rfl (hS.2.1 _ (List.mem_of_getElem? (rfl : nwl[132]? = some (Cond.unhidden "HungFaces$Tag" "holds" "(LHungFaces$Scene;)Z"))))) (va_Nw.use (A := #[]) rfl (hS.2.1 _ (List.mem_of_getElem? (rfl : nwl[96]? = some (Cond.castable "HungFaces$Tag" "HungFaces$Cond")))))
theorem fw18 {D : va_G} {dA : Nat → ClassId} {sz0 : Nat} {ad0 : Nat → Nat} {s : State} (hS : ST D dA sz0 ad0 s) : va_Fw "HungFaces$Less" yHolds yX18_holds s := va_Fw.of (A := #[]) (va_Nw.use (A := #[]) rfl (hS.2.1 _ (List.mem_of_getElem? (rfl : nwl[124]? = some (Cond.declares yHolds))))) (va_Nw.use (A := #[]) rfl (hS.2.1 _ (List.mem_of_getElem? (rfl : nwl[136]? = some (Cond.interfaceMethod "HungFaces$Cond" "HungFaces$Cond" "holds" "(LHungFaces$Scene;)Z"))))) (va_Nw.use (A := #[]) rfl (hS.2.1 _ (List.mem_of_getElem? (rfl : nwl[135]? = some (Cond.publicMethod yX18_holds))))) (va_Nw.use (A := #[]) rfl (hS.2.1 _ (List.mem_of_getElem? (rfl : nwl[134]? = some (Cond.unhidden "HungFaces$Less" "holds" "(LHungFaces$Scene;)Z"))))) (va_Nw.use (A := #[]) rfl (hS.2.1 _ (List.mem_of_getElem? (rfl : nwl[102]? = some (Cond.castable "HungFaces$Less" "HungFaces$Cond")))))
section R13
variable {p : Program} {l : Launch} {e : Env} {R : Room} {s : State} {m : MethodId} {args : Array Value} {below : List Frame} {meth : Method} {c : Code} {Q : State → Prop} {cc : ByteArray} {nL : Nat} {own : String} {D : va_G} {dA : Nat → ClassId} {sz0 : Nat} {ad0 : Nat → Nat} {N0 kc kz : Nat} {σ σ' : Mm} {ℓ ℓ' : List (Nat × Value)} {st : List Value} {pc : Nat} {β : Type} {o : β} {ci : Nat} {C : String} {T : u_T} {N : Nat} {ty : Nat → FieldType} {idx : Nat} {v : Option Nat} {y : MethodName} {bytes : ByteArray} {maxL fr lo mc ms n : Nat} {ret : Option FieldType} {As stk : List Value} {q : Nat}
theorem wm_ifH (X : CX p s m args meth c cc nL own) (hS : ST D dA sz0 ad0 s) {Hh : Nat → Option Nat → Mm → Option (Int32 × Mm)} {fr0 lo0 : Nat} (hH : HOK l fr0 lo0 Hh) {v x : Option Nat} {f : (Int32 × Mm) → Option β} (h : (ifc Hh v x σ).bind f = some o) {cnt : Nat} (hdg : decode cc pc = .ok (.invokeinterface idx cnt, 5)) (hq : Cond.methodLink own idx yHolds ∈ lw_all) (hcat : c1 st) (hst8 : st.length ≤ 8) (hrm : fr0 + 1 ≤ R.frames ∧ 22 + lo0 ≤ R.locals) (hc : kc ≤ R.cells ∧ kz ≤ R.slots) (kk : ∀ r σ1, mN σ ≤ mN σ1 → f (r, σ1) = some o → WM p l e R s m args below meth c Q nL D dA sz0 ad0 N0 kc kz σ1 ℓ (.int r :: st) (pc + 5)) : WM p l e R s m args below meth c Q nL D dA sz0 ad0 N0 kc kz σ ℓ (va_rf x :: va_rf v :: st) pc := by
  obtain ⟨⟨r, σ1⟩, hF, h9⟩ := Option.bind_eq_some_iff.mp h
  cases v with
  | none => cases hF
  | some q =>
  have hF : Hh q x σ = some (r, σ1) := hF
  have h' : (Hh q x σ).bind f = some o := by rw [hF]; exact h9
  have kk' : ∀ r σ1, mN σ ≤ mN σ1 → f (r, σ1) = some o → WM p l e R s m args below meth c Q nL D dA sz0 ad0 N0 (kc + 0) (kz + 0) σ1 ℓ (.int r :: st) (pc + 5) := kk
  rcases hH q x σ r σ1 hF with ⟨hs, hz⟩ | ⟨hs, hz⟩ | ⟨hs, hz⟩ | ⟨hs, hz⟩
  · exact wm_cF_i (mc := 0) (ms := 0) X hS cd_12 hs q1814 q1816 q159 q1818 (fw12 hS) hq (F := some (r, σ1)) h9 (fun r' σ' e => by cases e; exact hz) hdg hcat hst8 ⟨hrm.1, by omega⟩ hc kk'
  · exact wm_cF_i (mc := 0) (ms := 0) X hS cd_13 hs q1806 q1808 q160 q1810 (fw13 hS) hq (F := some (r, σ1)) h9 (fun r' σ' e => by cases e; exact hz) hdg hcat hst8 ⟨hrm.1, by omega⟩ hc kk'
  · exact wm_cF_i (mc := 0) (ms := 0) X hS cd_14 hs q1825 q1827 q161 q1829 (fw14 hS) hq (F := some (r, σ1)) h9 (fun r' σ' e => by cases e; exact hz) hdg hcat hst8 ⟨hrm.1, by omega⟩ hc kk'
  · exact wm_cF_i (mc := 0) (ms := 0) X hS cd_18 hs q1782 q1784 q166 q1786 (fw18 hS) hq (F := some (r, σ1)) h9 (fun r' σ' e => by cases e; exact hz) hdg hcat hst8 ⟨hrm.1, by omega⟩ hc kk'
theorem wm_alenF (X : CX p s m args meth c cc nL own) (hS : ST D dA sz0 ad0 s) {f : Int32 → Option β} (h : (aL 103 v σ).bind f = some o) (hdg : decode cc pc = .ok (.arraylength, 1)) (kk : ∀ x, f x = some o → WM p l e R s m args below meth c Q nL D dA sz0 ad0 N0 kc kz σ ℓ (.int x :: st) (pc + 1)) : WM p l e R s m args below meth c Q nL D dA sz0 ad0 N0 kc kz σ ℓ (va_rf v :: st) pc := by
  obtain ⟨x, hx, h⟩ := Option.bind_eq_some_iff.mp h
  obtain ⟨q, rfl, hs, rfl⟩ := aL_some hx
  intro ad H locs ls h1 h2 h3 h4 hz h5 h6 h7
  have hk := kk _ h ad H locs ls h1 h2 h3 h4 hz h5 (h6.tail.cons vok_int) h7
  exact va_alen X.1.1 X.1.2.1 hS.1 h3.1 q 3 ((h3.at hs (by omega) (by omega)).trans (congrArg some (pent_r hs (by omega)))) rfl rfl hdg hk
theorem wm_aaloadF (X : CX p s m args meth c cc nL own) (hS : ST D dA sz0 ad0 s) {i : Int32} {f : Option Nat → Option β} (h : (aR 103 v i σ).bind f = some o) (hdg : decode cc pc = .ok (.aaload, 1)) (kk : ∀ x, f x = some o → WM p l e R s m args below meth c Q nL D dA sz0 ad0 N0 kc kz σ ℓ (va_rf x :: st) (pc + 1)) : WM p l e R s m args below meth c Q nL D dA sz0 ad0 N0 kc kz σ ℓ (.int i :: va_rf v :: st) pc := by
  obtain ⟨x, hx, h9⟩ := Option.bind_eq_some_iff.mp h
  obtain ⟨q, rfl, hs, hin, rfl⟩ := aR_some hx
  intro ad H locs ls h1 h2 h3 h4 hz h5 h6 h7
  have hk := kk _ h9 ad H locs ls h1 h2 h3 h4 hz h5 (h6.tail.tail.cons (vok_rf fun a ha => h3.2.2.2.2.1 q _ a (h3.lt hs (by omega) (by omega)) ha)) h7
  rw [show sm ad (va_rf (mR σ q i.toNatClampNeg) :: st) = va_rf ((mR σ q i.toNatClampNeg).map ad) :: sm ad st by rw [← cv_rf]; rfl] at hk
  exact va_aldq X.1.1 X.1.2.1 hS.1 h3.1 q 3 ((h3.at hs (by omega) (by omega)).trans (congrArg some (pent_r hs (by omega)))) rfl hin hdg hk
theorem nameF (hS : ST D dA sz0 ad0 s) : s.vm.findClass "[LHungFaces$Fact;" = some (dA 103) := va_nmO (C := "HungFaces$Fact") (hS.1.2 3 (dA 103, .object "HungFaces$Fact") rfl).2 (by decide +kernel)
theorem wm_castF (X : CX p s m args meth c cc nL own) (hS : ST D dA sz0 ad0 s) {f : Nat → Option β} (h : (rv 103 v σ).bind f = some o) (hdg : decode cc pc = .ok (.checkcast idx, 3)) (hq : Cond.classLink own idx "[LHungFaces$Fact;" ∈ lw_all) (kk : ∀ q, v = some q → mS σ q = 103 → f q = some o → WM p l e R s m args below meth c Q nL D dA sz0 ad0 N0 kc kz σ ℓ (va_rf (some q) :: st) (pc + 3)) : WM p l e R s m args below meth c Q nL D dA sz0 ad0 N0 kc kz σ ℓ (va_rf v :: st) pc := by
  obtain ⟨q, hx, h9⟩ := Option.bind_eq_some_iff.mp h
  obtain ⟨rfl, hs⟩ := rv_some hx
  intro ad H locs ls h1 h2 h3 h4 hz h5 h6 h7
  exact va_castA X.1.1 X.1.2.1 X.1.2.2.2.1 (X.1.2.2.2.2 _ hq) h3.1 q ((h3.at hs (by omega) (by omega)).trans (congrArg some (pent_r hs (by omega)))) (nameF hS) hdg (kk q rfl hs h9 ad H locs ls h1 h2 h3 h4 hz h5 h6 h7)
def clF (v : Option Nat) (σ : Mm) : Option (Option Nat × Mm) := v.bind fun q => if q = BIG + 120 ∧ mN σ < BIG then some (some (mN σ), wB (wN σ 103 6) (mN σ) (mR σ (BIG + 120))) else none
theorem wl_clF {ad : Nat → Nat} {q n : Nat} {f : Nat → Option Nat} {σ : Mm} (hx : Ex (mN σ) ad (up1 ad (mN σ) q)) (hr : ∀ p k a, p < mN σ → mR σ p k = some a → vq σ a) : wl dA (up1 ad (mN σ) q) (wB (wN σ 103 n) (mN σ) f) = wl dA ad σ ++ [(q, .inl (dA 103, n, .inr (.inr (.inr (.inr fun i => (f i).map (up1 ad (mN σ) q))))))] := by
  have e0 : mS (wN σ 103 n) (mN σ) = 103 := if_pos rfl
  have he0 : pent dA (up1 ad (mN σ) q) (wN σ 103 n) (mN σ) = (q, .inl (dA 103, n, .inr (.inr (.inr (.inr fun _ => none))))) := by
    rw [pent_r e0 (by omega), show up1 ad (mN σ) q (mN σ) = q from if_pos rfl, show mL (wN σ 103 n) (mN σ) = n from if_pos rfl, show mR (wN σ 103 n) (mN σ) = fun _ => none from if_pos rfl]
    rfl
  have he1 : pent dA (up1 ad (mN σ) q) (wB (wN σ 103 n) (mN σ) f) (mN σ) = (q, .inl (dA 103, n, .inr (.inr (.inr (.inr fun i => (f i).map (up1 ad (mN σ) q)))))) := by
    rw [pent_r (σ := wB (wN σ 103 n) (mN σ) f) e0 (by omega), show up1 ad (mN σ) q (mN σ) = q from if_pos rfl, show mL (wB (wN σ 103 n) (mN σ) f) (mN σ) = n from if_pos rfl, show mR (wB (wN σ 103 n) (mN σ) f) (mN σ) = f from if_pos rfl]
  rw [← wl_set (σ := wN σ 103 n) (σ' := wB (wN σ 103 n) (mN σ) f) rfl he1 (fun _ h => pent_wB h), ← wl_wN hx hr he0]
  rw [List.set_append_right _ _ (by simp [wl])]
  simp [wl]
theorem PM_clF {σ : Mm} {ad : Nat → Nat} {H H1 : Heap} {n q : Nat} {f : Nat → Option Nat} (hf : ∀ k a, f k = some a → vq σ a) (h3 : PM D dA sz0 ad σ H) (hB : mN σ < BIG) (hP : va_P D clT (wl dA ad σ ++ [(q, .inl (dA 103, n, .inr (.inr (.inr (.inr fun i => (f i).map (up1 ad (mN σ) q))))))]) H1) (hD : va_D (Ab sz0) (wl dA ad σ ++ [(q, .inl (dA 103, n, .inr (.inr (.inr (.inr fun i => (f i).map (up1 ad (mN σ) q))))))])) (hz : sz0 ≤ H1.size) : PM D dA sz0 (up1 ad (mN σ) q) (wB (wN σ 103 n) (mN σ) f) H1 := by
  have hx : Ex (mN σ) ad (up1 ad (mN σ) q) := (Ex_new (Ex.rf (n := mN σ)) (Nat.le_refl _) hB).1
  rw [← wl_clF (dA := dA) (n := n) (f := f) hx h3.2.2.2.2.1] at hP hD
  refine ⟨hP, hD, fun a ha hb => ?_, hz, fun a j b ha hb => ?_, hB, SM_wB (SM_ad (ad := ad) (fun a ha => if_neg (by omega)) (SM_wN h3.2.2.2.2.2.2 hB (by omega))) hB⟩
  · show a < mN σ + 1
    by_cases hc : a = mN σ
    · omega
    · have e1 : mS (wB (wN σ 103 n) (mN σ) f) a = mS σ a := if_neg hc
      rw [e1] at ha hb
      have := h3.2.2.1 a ha hb
      omega
  · by_cases hc : a = mN σ
    · have e1 : mR (wB (wN σ 103 n) (mN σ) f) a = f := if_pos hc
      rw [e1] at hb
      exact (hf j b hb).elim (fun z => Or.inl (by show b < mN σ + 1; omega)) Or.inr
    · have e1 : mR (wB (wN σ 103 n) (mN σ) f) a = mR σ a := by
        show up1 _ _ _ a = _
        rw [show up1 (wN σ 103 n).2.2.2.1 (mN σ) f a = (wN σ 103 n).2.2.2.1 a from if_neg hc]
        exact if_neg hc
      rw [e1] at hb
      have ha : a < mN σ + 1 := ha
      exact (h3.2.2.2.2.1 a j b (by omega) hb).elim (fun z => Or.inl (by show b < mN σ + 1; omega)) Or.inr
theorem wm_cloneF (X : CX p s m args meth c cc nL own) (hS : ST D dA sz0 ad0 s) {f : Option Nat × Mm → Option β} (h : (clF v σ).bind f = some o) (hdg : decode cc pc = .ok (.invokevirtual idx, 3)) (hq : Cond.methodLink own idx (⟨"[LHungFaces$Fact;", "clone", "()Ljava/lang/Object;"⟩ : MethodName) ∈ lw_all) (hf : 1 ≤ R.frames) (hst : c1 st) (h8 : st.length ≤ 8) (hl : 60 ≤ R.locals) (hc : kc + 1 ≤ R.cells) (hs : kz + 6 ≤ R.slots) (kk : ∀ (w : Option Nat) σ', mN σ ≤ mN σ' → f (w, σ') = some o → WM p l e R s m args below meth c Q nL D dA sz0 ad0 N0 (kc + 1) (kz + 6) σ' ℓ (va_rf w :: st) (pc + 3)) : WM p l e R s m args below meth c Q nL D dA sz0 ad0 N0 kc kz σ ℓ (va_rf v :: st) pc := by
  obtain ⟨x, hx, h9⟩ := Option.bind_eq_some_iff.mp h
  cases v with
  | none => cases hx
  | some q =>
  simp only [clF, Option.bind_some] at hx
  split at hx
  case isFalse => cases hx
  case isTrue hcc =>
  cases hx
  obtain ⟨rfl, hB⟩ := hcc
  intro ad H locs ls h1 h2 h3 h4 hz h5 h6 h7
  have h0 : ((sm ad st).map fun v => v.category).sum ≤ 8 := (by rw [sm_cat]; exact c1_s hst h8)
  have hbg : BIG ≤ BIG + 120 := Nat.le_add_right _ _
  obtain ⟨cell, g1, g2, g3, g4⟩ := hS.2.2.2.2.2.2
  obtain ⟨cell', k1, k2, k3, k4, k5, k6, k7⟩ := hS.2.2.1.2.2.2.1 (BIG + 120) hbg rfl
  cases g1.symm.trans k1
  rw [nameF hS] at g3
  have g3 := Option.some.inj g3
  have hHa : H[ad (BIG + 120)]? = some cell := by rw [h1 _ (Or.inr hbg), h4.2.1 _ (Array.getElem?_eq_some_iff.mp g1).1 g4]; exact g1
  have hL6 : kL (BIG + 120) = 6 := rfl
  have hslots : cell.slots = (arrV (dA 103) 6 (fun j => va_rf ((mR σ (BIG + 120) j).map (up1 ad (mN σ) H.size)))).slots := by
    apply Array.ext_getElem?
    intro j
    by_cases hj : j < 6
    · rw [k6 j (by rw [hL6]; exact hj), arrV_read _ _ hj, (h3.2.2.2.2.2.2.2 _ hbg).2.2.2]
      have e1 : va_rf ((kR ad0 (BIG + 120) j).map ad0) = va_rf ((kR ad (BIG + 120) j).map ad) := by rw [← kR_map (fun a ha => h1 a (Or.inr ha)) hbg]
      refine Eq.trans (congrArg some e1) ?_
      cases hk : kR ad (BIG + 120) j with
      | none => rfl
      | some b =>
        have hb := kR_big hbg hk
        have e2 : up1 ad (mN σ) H.size b = ad b := if_neg (by omega)
        simp [e2]
    · rw [Array.getElem?_eq_none (by omega), Array.getElem?_eq_none (by rw [arrV_size]; omega)]
  obtain ⟨c0, t0', f1, f2, f3⟩ := Cond.castable_spec (va_Nw.use (A := args) rfl (hS.2.1 _ (List.mem_of_getElem? (rfl : nwl[122]? = some (Cond.castable "[LHungFaces$Fact;" "java/lang/Cloneable")))))
  have f1' : dA 103 = c0 := Option.some.inj ((nameF hS).symm.trans f1)
  have hfit : ∀ (i : Nat) (w : Value), cell.slots[i]? = some w → fits (.object "HungFaces$Fact") w = true := fun i w hw => by
    rw [hslots] at hw
    by_cases hi : i < 6
    · rw [arrV_read _ _ hi] at hw
      cases hw
      cases (mR σ (BIG + 120) i).map (up1 ad (mN σ) H.size) <;> rfl
    · rw [Array.getElem?_eq_none (by rw [arrV_size]; omega)] at hw
      cases hw
  have hcellE : ({ cls := cell.cls, slots := cell.slots } : Cell) = vp_cell (dA 103) (6, .inr (.inr (.inr (.inr fun i => (mR σ (BIG + 120) i).map (up1 ad (mN σ) H.size))))) := by
    rw [hslots, ← g3]
    rfl
  intro T hT Y
  have hcellT : T.heap[ad (BIG + 120)]? = some cell := by rw [hT]; exact hHa
  obtain ⟨-, kT, hkT, compT, hkindT⟩ := State.isArrayOf_alike Y.warmed.alike k2
  obtain ⟨hob, kS, hkS, compS, hkindS⟩ := k2
  obtain ⟨vm', Y', st9⟩ := Y.cloneArray X.1.1 X.1.2.2.2.1 (X.1.2.2.2.2 _ hq) (X.1.2.2.2.2 _ q1411) (X.1.2.2.2.2 _ q807) (X.1.2.2.2.2 _ q808) (X.1.2.2.2.2 _ q1412) (a := ad (BIG + 120)) (cell := cell) hcellT hob k3 (by rw [← g3]; exact nameF hS) f2 (by rw [← g3, f1']; exact f3)
    (fun i v hv => by
      have hk' : T.vm.classes[cell.cls]? = some kT := hkT
      simpa [State.fitsSlot, State.slotType?, hk', hkindT] using hfit i v hv)
    (g := F0 m pc ls (.ref (ad (BIG + 120)) :: sm ad st)) rfl (h7.1.trans X.1.2.2.1.symm) rfl (by rw [X.1.2.1]; exact hdg) hf (by show 2 * 0 + _ + 14 ≤ _; omega) hc (by rw [g2]; exact hs) (hloader := Vm.clonesLoader_of_array hkS hkindS)
  rw [hcellE, g2] at Y'
  generalize hH1 : H.push (vp_cell (dA 103) (6, .inr (.inr (.inr (.inr fun i => (mR σ (BIG + 120) i).map (up1 ad (mN σ) H.size)))))) = H1
  have z1 : H1.size = H.size + 1 := by rw [← hH1, Array.size_push]
  have e1 : H1[H.size]? = some (vp_cell (dA 103) (6, .inr (.inr (.inr (.inr fun i => (mR σ (BIG + 120) i).map (up1 ad (mN σ) H.size)))))) := by rw [← hH1, Array.getElem?_push_size]
  have o1 : ∀ q : Nat, q < H.size → H1[q]? = H[q]? := fun q hq => by rw [← hH1, Array.getElem?_push, if_neg (Nat.ne_of_lt hq)]
  have hk9 : ∀ (k : Nat) (y : Nat × va_E), (wl dA ad σ)[k]? = some y → H1[y.1]? = H[y.1]? := fun k y hy => o1 y.1 ((h3.1 k y hy).lt)
  obtain ⟨hx1, hx2⟩ := Ex_new (q := H.size) h1 h2 hB
  have hS1 : va_S (Ab sz0) s.heap H1 locs := ⟨Nat.le_trans h4.1 (by omega), fun y a1 a2 => (o1 y (Nat.lt_of_lt_of_le a1 h4.1)).trans (h4.2.1 y a1 a2), h4.2.2⟩
  have hPM : PM D dA sz0 (up1 ad (mN σ) H.size) (wB (wN σ 103 6) (mN σ) (mR σ (BIG + 120))) H1 := PM_clF (fun k a ha => by
      rw [(h3.2.2.2.2.2.2.2 _ hbg).2.2.2] at ha
      exact Or.inr (kR_big hbg ha)) h3 hB ((h3.1.kept hk9).app (fun k y hy => by
      have hz : k < 1 := (List.getElem?_eq_some_iff.mp hy).1
      rw [show k = 0 by omega] at hy
      cases hy
      exact e1)) (h3.2.1.push h3.1 rfl (Ab_hA hz _ h4.1)) (Nat.le_trans hz hS1.1)
  have hk := kk (some (mN σ)) _ (Nat.le_succ _) h9 (up1 ad (mN σ) H.size) H1 locs ls hx2 (Nat.le_trans h2 (Nat.le_succ _)) hPM hS1 hz (h5.mono (Nat.le_succ _)) ((h6.tail.mono (Nat.le_succ _)).cons (vok_rf fun a ha => by cases ha; exact Or.inl (Nat.lt_succ_self _))) (by rw [hx1.lm h5]; exact h7)
  have e2 : sm (up1 ad (mN σ) H.size) (va_rf (some (mN σ)) :: st) = .ref H.size :: sm ad st := by
    show cv _ (.ref (mN σ)) :: sm _ st = _
    rw [hx1.sm h6.tail]
    exact congrArg (fun z => Value.ref z :: sm ad st) (if_pos rfl)
  rw [e2] at hk
  obtain ⟨t, b1, b2⟩ := hk ((T.setVm vm').pushCell (vp_cell (dA 103) (6, .inr (.inr (.inr (.inr fun i => (mR σ (BIG + 120) i).map (up1 ad (mN σ) H.size))))))) (by rw [← hH1, ← hT]; rfl) Y'
  refine ⟨t, st9 t ?_, b2⟩
  rw [hcellE, hT]
  exact b1
theorem nameO (hS : ST D dA sz0 ad0 s) : s.vm.findClass "[Ljava/lang/Object;" = some (dA 102) := va_nmO (C := "java/lang/Object") (hS.1.2 2 (dA 102, .object "java/lang/Object") rfl).2 (by decide +kernel)
theorem wm_getC (X : CX p s m args meth c cc nL own) (hS : ST D dA sz0 ad0 s) {q : Nat} (hs : mS σ q = 102) (hdg : decode cc pc = .ok (.invokevirtual idx, 3)) (hq : Cond.methodLink own idx ⟨"java/lang/Object", "getClass", "()Ljava/lang/Class;"⟩ ∈ lw_all) (hf : 1 ≤ R.frames) (hst : c1 st) (h8 : st.length ≤ 8) (hl : 60 ≤ R.locals) (kk : WM p l e R s m args below meth c Q nL D dA sz0 ad0 N0 kc kz σ ℓ (va_rf (some (BIG + 302)) :: st) (pc + 3)) : WM p l e R s m args below meth c Q nL D dA sz0 ad0 N0 kc kz σ ℓ (va_rf (some q) :: st) pc := by
  intro ad H locs ls h1 h2 h3 h4 hz h5 h6 h7
  have hbg : BIG ≤ BIG + 302 := Nat.le_add_right _ _
  have hM := hS.2.2.2.2.2.1
  rw [← h1 _ (Or.inr hbg)] at hM
  have h0 : ((sm ad st).map fun v => v.category).sum ≤ 8 := (by rw [sm_cat]; exact c1_s hst h8)
  have hcell := h3.1 q _ ((h3.at hs (by omega) (by omega)).trans (congrArg some (pent_r hs (by omega))))
  exact va_getC (C := "[Ljava/lang/Object;") X.1.1 X.1.2.1 (X.1.2.2.1.trans h7.1.symm) X.1.2.2.2.1 (X.1.2.2.2.2 _ hq) (va_Nw.use rfl (hS.2.1 _ (List.mem_of_getElem? (rfl : nwl[115]? = some (Cond.declares ⟨"java/lang/Object", "getClass", "()Ljava/lang/Class;"⟩))))) (X.1.2.2.2.2 _ q2691) (X.1.2.2.2.2 _ q1438) (X.1.2.2.2.2 _ q1469) hM ⟨_, hcell, rfl, nameO hS⟩ hf (Nat.le_trans (Nat.add_le_add_right h0 14) (by omega)) hdg (kk ad H locs ls h1 h2 h3 h4 hz h5 (h6.tail.cons (vok_rf fun a ha => by cases ha; exact Or.inr hbg)) h7)
theorem wm_ldcM (X : CX p s m args meth c cc nL own) (hS : ST D dA sz0 ad0 s) (hdg : decode cc pc = .ok (.ldc idx, 2)) (hq : Cond.classLink own idx "[Ljava/lang/Object;" ∈ lw_all) (kk : WM p l e R s m args below meth c Q nL D dA sz0 ad0 N0 kc kz σ ℓ (va_rf (some (BIG + 302)) :: st) (pc + 2)) : WM p l e R s m args below meth c Q nL D dA sz0 ad0 N0 kc kz σ ℓ st pc := by
  intro ad H locs ls h1 h2 h3 h4 hz h5 h6 h7
  have hbg : BIG ≤ BIG + 302 := Nat.le_add_right _ _
  have hM := hS.2.2.2.2.2.1
  rw [← h1 _ (Or.inr hbg)] at hM
  exact va_ldcM X.1.1 X.1.2.1 X.1.2.2.2.1 (X.1.2.2.2.2 _ hq) hM hdg (kk ad H locs ls h1 h2 h3 h4 hz h5 (h6.cons (vok_rf fun a ha => by cases ha; exact Or.inr hbg)) h7)

def rvC (v : Option Nat) (σ : Mm) : Option Nat := v.bind fun p => if mS σ p = 12 ∨ mS σ p = 13 ∨ mS σ p = 14 ∨ mS σ p = 18 then some p else none
theorem wm_castI (X : CX p s m args meth c cc nL own) (hS : ST D dA sz0 ad0 s) {f : Nat → Option β} (h : (rvC v σ).bind f = some o) (hdg : decode cc pc = .ok (.checkcast idx, 3)) (hq : Cond.classLink own idx "HungFaces$Cond" ∈ lw_all) (kk : ∀ q, v = some q → f q = some o → WM p l e R s m args below meth c Q nL D dA sz0 ad0 N0 kc kz σ ℓ (va_rf (some q) :: st) (pc + 3)) : WM p l e R s m args below meth c Q nL D dA sz0 ad0 N0 kc kz σ ℓ (va_rf v :: st) pc := by
  obtain ⟨q, hx, h9⟩ := Option.bind_eq_some_iff.mp h
  cases v with
  | none => cases hx
  | some q0 =>
  simp only [rvC, Option.bind_some] at hx
  split at hx
  case isFalse => cases hx
  case isTrue hcc =>
  cases hx
  intro ad H locs ls h1 h2 h3 h4 hz h5 h6 h7
  have hk := kk q rfl h9 ad H locs ls h1 h2 h3 h4 hz h5 h6 h7
  rcases hcc with hs | hs | hs | hs
  · exact va_castY (C := "HungFaces$Row") X.1.1 X.1.2.1 X.1.2.2.2.1 (X.1.2.2.2.2 _ hq) (hS.2.1 _ (List.mem_of_getElem? (rfl : nwl[90]? = some (Cond.castable "HungFaces$Row" "HungFaces$Cond")))) (wm_recv hS h3 cd_12 hs) hdg hk
  · exact va_castY (C := "HungFaces$Not") X.1.1 X.1.2.1 X.1.2.2.2.1 (X.1.2.2.2.2 _ hq) (hS.2.1 _ (List.mem_of_getElem? (rfl : nwl[92]? = some (Cond.castable "HungFaces$Not" "HungFaces$Cond")))) (wm_recv hS h3 cd_13 hs) hdg hk
  · exact va_castY (C := "HungFaces$Tag") X.1.1 X.1.2.1 X.1.2.2.2.1 (X.1.2.2.2.2 _ hq) (hS.2.1 _ (List.mem_of_getElem? (rfl : nwl[96]? = some (Cond.castable "HungFaces$Tag" "HungFaces$Cond")))) (wm_recv hS h3 cd_14 hs) hdg hk
  · exact va_castY (C := "HungFaces$Less") X.1.1 X.1.2.1 X.1.2.2.2.1 (X.1.2.2.2.2 _ hq) (hS.2.1 _ (List.mem_of_getElem? (rfl : nwl[102]? = some (Cond.castable "HungFaces$Less" "HungFaces$Cond")))) (wm_recv hS h3 cd_18 hs) hdg hk
end R13
