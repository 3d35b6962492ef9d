/-! THE LAYER, 11: calls of inherited methods, on read-only receivers, of the superclass -/
theorem md_ord : MD yJ18_ordinal 0 := by unfold MD; decide +kernel
theorem ctJ18_ordinal (l : Launch) {ci t : Nat} (ht : t = ci + 500) (hci : ci = 21 ∨ ci = 22) {h0 : Nat} {σ : Mm} {r : Int32} (h : gI t 0 (some h0) σ = some r) : CTi l yJ18_ordinal (ws_ yJ18_ordinal cJ18_ordinal 1 (some .int)) 0 0 0 0 [va_rf (some h0)] σ r σ := by
  refine ct_start (n := 0) md_ord (Nat.le_of_ble_eq_true rfl) (c1_r c1_0) (fun p e s m args below meth c D dA sz0 ad0 X hS hr hnm => ?_)
  have X : CX p s m args meth c cJ18_ordinal 1 RJ18 := X
  generalize mN σ = N0
  have h : (gI t 0 (some h0) σ).bind (fun x => some (x, σ)) = some (r, σ) := by rw [h]; rfl
  refine wm_aload_n X 0 dJ18_ordinal_0 rfl ?_
  rcases hci with rfl | rfl
  · refine wm_gIk X hS 21 0 ht h (by decide) (by decide) rfl dJ18_ordinal_1 q2701 (fun x h => ?_)
    exact wm_iret X hr h dJ18_ordinal_4 (Nat.le_refl _) (Nat.le_refl _)
  · refine wm_gIk X hS 22 0 ht h (by decide) (by decide) rfl dJ18_ordinal_1 q2701 (fun x h => ?_)
    exact wm_iret X hr h dJ18_ordinal_4 (Nat.le_refl _) (Nat.le_refl _)
section R11
variable {p : Program} {l : Launch} {e : Env} {R : Room} {s : State} {m : MethodId} {args : Array Value} {below : List Frame} {meth : Method} {c : Code} {Q : State → Prop} {cc : ByteArray} {nL : Nat} {own : String} {D : va_G} {dA : Nat → ClassId} {sz0 : Nat} {ad0 : Nat → Nat} {N0 kc kz : Nat} {σ σ' : Mm} {ℓ ℓ' : List (Nat × Value)} {st : List Value} {pc : Nat} {β : Type} {o : β} {ci : Nat} {C : String} {T : u_T} {N : Nat} {ty : Nat → FieldType} {idx : Nat} {v : Option Nat} {y : MethodName} {bytes : ByteArray} {maxL fr lo mc ms n : Nat} {ret : Option FieldType} {As stk : List Value} {q : Nat}
theorem wm_ordW (X : CX p s m args meth c cc nL own) (hS : ST D dA sz0 ad0 s) {f : Int32 → Option β} (h : (gI 521 0 v σ).bind f = some o) (hq : Cond.methodLink own idx (⟨"HungFaces$Which", "ordinal", "()I"⟩ : MethodName) ∈ lw_all) (hdg : decode cc pc = .ok (.invokevirtual idx, 3)) (hcat : c1 st) (hst8 : st.length ≤ 8) (hrm : 1 ≤ R.frames ∧ 20 ≤ R.locals) (hc : kc ≤ R.cells ∧ kz ≤ R.slots) (kk : ∀ x, f x = some o → WM p l e R s m args below meth c Q nL D dA sz0 ad0 N0 kc kz σ ℓ (.int x :: st) (pc + 3)) : WM p l e R s m args below meth c Q nL D dA sz0 ad0 N0 kc kz σ ℓ (va_rf v :: st) pc := by
  obtain ⟨x, hx, h9⟩ := Option.bind_eq_some_iff.mp h
  have hx0 := hx
  obtain ⟨q, rfl, hs, hxx⟩ := gI_some hx
  intro ad H locs ls g1 g2 g3 g4 gz g5 g6 g7
  have hcat' : ((sm ad st).map fun v => v.category).sum ≤ 8 := by rw [sm_cat]; exact c1_s hcat hst8
  have hT : GoodIn lw_all (va_wsU own idx "HungFaces$Which" "java/lang/Enum" ⟨"HungFaces$Which", "ordinal", "()I"⟩ yJ18_ordinal (ws_ yJ18_ordinal cJ18_ordinal 1 (some .int))) := by
    refine lw_app ?_ (lw_meth q1661)
    intro w hw
    simp only [List.mem_cons, List.not_mem_nil, or_false] at hw
    rcases hw with e | e | e | e | e
    · rw [e]; exact hq
    · rw [e]; exact q1657
    · rw [e]; exact q1659
    · rw [e]; exact q1660
    · rw [e]; exact q164
  exact wm_run_i (fr := 0) (lo := 0) g1 g2 g4 gz g5 g6.tail g7 (va_runU (As := []) (b := ad q) (rest := sm ad st) X.1 (ctJ18_ordinal l rfl (Or.inl rfl) hx0 D dA sz0 ad) (va_cwU 0 X.1.2.2.2.2 hT rfl rfl rfl rfl ⟨by decide, by decide, by decide +kernel⟩ hrm) ⟨PC_blind, wm_rorecv hS g1 g3 g4 (ci := 21) hs (by decide), fun U hU hW => ⟨rfl, ST_call hS g1 hW hU g4, by rw [hU]; exact g3, fun w hw => g6 w (List.mem_cons.mpr (Or.inl (List.mem_singleton.mp hw)))⟩⟩ rfl rfl g7.1 rfl (lv_room hcat') hdg hc) (fun _ => kk x h9)
theorem wm_ordF (X : CX p s m args meth c cc nL own) (hS : ST D dA sz0 ad0 s) {f : Int32 → Option β} (h : (gI 522 0 v σ).bind f = some o) (hq : Cond.methodLink own idx (⟨"HungFaces$Fact", "ordinal", "()I"⟩ : MethodName) ∈ lw_all) (hdg : decode cc pc = .ok (.invokevirtual idx, 3)) (hcat : c1 st) (hst8 : st.length ≤ 8) (hrm : 1 ≤ R.frames ∧ 20 ≤ R.locals) (hc : kc ≤ R.cells ∧ kz ≤ R.slots) (kk : ∀ x, f x = some o → WM p l e R s m args below meth c Q nL D dA sz0 ad0 N0 kc kz σ ℓ (.int x :: st) (pc + 3)) : WM p l e R s m args below meth c Q nL D dA sz0 ad0 N0 kc kz σ ℓ (va_rf v :: st) pc := by
  obtain ⟨x, hx, h9⟩ := Option.bind_eq_some_iff.mp h
  have hx0 := hx
  obtain ⟨q, rfl, hs, hxx⟩ := gI_some hx
  intro ad H locs ls g1 g2 g3 g4 gz g5 g6 g7
  have hcat' : ((sm ad st).map fun v => v.category).sum ≤ 8 := by rw [sm_cat]; exact c1_s hcat hst8
  have hT : GoodIn lw_all (va_wsU own idx "HungFaces$Fact" "java/lang/Enum" ⟨"HungFaces$Fact", "ordinal", "()I"⟩ yJ18_ordinal (ws_ yJ18_ordinal cJ18_ordinal 1 (some .int))) := by
    refine lw_app ?_ (lw_meth q1661)
    intro w hw
    simp only [List.mem_cons, List.not_mem_nil, or_false] at hw
    rcases hw with e | e | e | e | e
    · rw [e]; exact hq
    · rw [e]; exact q1803
    · rw [e]; exact q1804
    · rw [e]; exact q1660
    · rw [e]; exact q164
  exact wm_run_i (fr := 0) (lo := 0) g1 g2 g4 gz g5 g6.tail g7 (va_runU (As := []) (b := ad q) (rest := sm ad st) X.1 (ctJ18_ordinal l rfl (Or.inr rfl) hx0 D dA sz0 ad) (va_cwU 0 X.1.2.2.2.2 hT rfl rfl rfl rfl ⟨by decide, by decide, by decide +kernel⟩ hrm) ⟨PC_blind, wm_rorecv hS g1 g3 g4 (ci := 22) hs (by decide), fun U hU hW => ⟨rfl, ST_call hS g1 hW hU g4, by rw [hU]; exact g3, fun w hw => g6 w (List.mem_cons.mpr (Or.inl (List.mem_singleton.mp hw)))⟩⟩ rfl rfl g7.1 rfl (lv_room hcat') hdg hc) (fun _ => kk x h9)
/-- selects of a superclass's private method, on a subclass's object -/
theorem sel_prv {C : String} {y z : MethodName} (hy : y.cls ≠ "java/lang/invoke/MethodHandle" ∧ y.cls ≠ "java/lang/invoke/VarHandle") (hC : (Cond.selects C z z).before args s = true) (hz : z.cls = y.cls) (hpriv : (Cond.privateMethod y).before args s = true) (hinst : (Cond.instanceMethod y).before args s = true) : (Cond.selects C y y).before args s = true := by
  obtain ⟨c2, r2, m2, q1, q2, q3, q4, kP, hkP, hkPi⟩ := Cond.selects_spec hC
  obtain ⟨mk, methM, hnamed, hmethM, -, -⟩ := Cond.instanceMethod_spec hinst
  have hfound : s.methodFound? y.cls y.name y.desc = some mk := State.methodFound?_of_named hnamed hy
  have hcls : mk.cls = m2.cls := Option.some.inj ((findClass_of_methodNamed hnamed).symm.trans ((congrArg s.vm.findClass hz).symm.trans (findClass_of_methodNamed q3)))
  have hsel : selectMethod {} s.vm c2 mk = .method mk := selectMethod_private hmethM (Cond.privateMethod_at hpriv mk methM hnamed hmethM)
  simp only [Cond.before, Cond.holds, Cond.value, q1, hfound, hnamed, hsel, hcls, hkP]
  simp; exact hkPi
theorem cU_T {own : String} {idx : Nat} {y : MethodName} {bytes : ByteArray} {maxL : Nat} {ret : Option FieldType} (h1 : Cond.methodLink own idx y ∈ lw_all) (h2 : Cond.sameMethod y.cls y.cls y.name y.desc ∈ lw_all) (h3 : Cond.superclass own y.cls ∈ lw_all) (h4 : Cond.instanceMethod y ∈ lw_all) (h5 : Cond.initialized y.cls ∈ lw_all) (h6 : Cond.code y bytes maxL ret ∈ lw_all) : GoodIn lw_all (va_wsSU own idx y (ws_ y bytes maxL ret)) := by
  refine lw_app ?_ (lw_meth h6)
  intro w hw
  simp only [List.mem_cons, List.not_mem_nil, or_false] at hw
  rcases hw with e | e | e | e | e
  · rw [e]; exact h1
  · rw [e]; exact h2
  · rw [e]; exact h3
  · rw [e]; exact h4
  · rw [e]; exact h5
theorem wm_cC_i (X : CX p s m args meth c cc nL own) (hS : ST D dA sz0 ad0 s) (hcd : CD ci C T N ty) (hs : mS σ q = ci) (hsel : (Cond.selects C y y).before args s = true) (hmi : Cond.instanceMethod y ∈ lw_all) (hini : Cond.initialized y.cls ∈ lw_all) (hco : Cond.code y bytes maxL ret ∈ lw_all) (hq : Cond.methodLink own idx y ∈ lw_all) {F : Option (Int32 × Mm)} {f : (Int32 × Mm) → Option β} (h : F.bind f = some o) (hz : ∀ r σ1, F = some (r, σ1) → CTi l y (ws_ y bytes maxL ret) fr lo mc ms (va_rf (some q) :: As) σ r σ1) (hmd : MD y n) (hdg : decode cc pc = .ok (.invokevirtual idx, 3)) (hn : As.length = n) (hst : stk = As.reverse ++ va_rf (some q) :: st) (hcat : c1 st) (hst8 : st.length ≤ 8) (hrm : fr + 1 ≤ R.frames ∧ 8 + (maxL + 11) + lo ≤ R.locals) (hc : kc + mc ≤ R.cells ∧ kz + ms ≤ R.slots) (kk : ∀ r σ1, mN σ ≤ mN σ1 → f (r, σ1) = some o → WM p l e R s m args below meth c Q nL D dA sz0 ad0 N0 (kc + mc) (kz + ms) σ1 ℓ (.int r :: st) (pc + 3)) : WM p l e R s m args below meth c Q nL D dA sz0 ad0 N0 kc kz σ ℓ stk pc := by
  subst hst
  obtain ⟨⟨r, σ1⟩, hF, h⟩ := Option.bind_eq_some_iff.mp h
  intro ad H locs ls g1 g2 g3 g4 gz g5 g6 g7
  have hV : VK σ (va_rf (some q) :: As) := by
    intro w hw
    rcases List.mem_cons.mp hw with e | e
    · rw [e]; exact g6 _ (List.mem_append_right _ List.mem_cons_self)
    · exact g6 w (List.mem_append_left _ (List.mem_reverse.mpr e))
  have hlen : (sm ad As).length = n := by simp [sm, hn]
  have hcat' : ((sm ad st).map fun v => v.category).sum ≤ 8 := by rw [sm_cat]; exact c1_s hcat hst8
  rw [sm_stackR]
  exact wm_run_i (fr := fr) (lo := lo) g1 g2 g4 gz g5 g6.right.tail g7 (va_runV (As := sm ad As) (rest := sm ad st) X.1 (hz r σ1 hF D dA sz0 ad) ⟨callB_of n X.1.2.2.2.2 (lw_meth hco) rfl rfl rfl (X.1.2.2.2.2 _ hini) (X.1.2.2.2.2 _ hq) hmd.1 hrm, X.1.2.2.2.2 _ hmi, hsel⟩ ⟨PC_blind, wm_recv hS g3 hcd hs, fun U hU hW => ⟨rfl, ST_call hS g1 hW hU g4, by rw [hU]; exact g3, hV⟩⟩ rfl hlen g7.1 rfl (lv_room hcat') hdg hc) (fun hN => kk r σ1 hN h)
theorem wm_xcC_i {γ : Type} {MC MZ : Nat} {Qc : Array Value → State → Outcome → State → Prop} {o : γ ⊕ (Nat × Mm)} (X : CX p s m args meth c cc nL own) (hS : ST D dA sz0 ad0 s) (hno : ∀ x ∈ c.exceptionTable.toList, False) (hcd : CD ci C T N ty) (hs : mS σ q = ci) (hsel : (Cond.selects C y y).before args s = true) (hmi : Cond.instanceMethod y ∈ lw_all) (hini : Cond.initialized y.cls ∈ lw_all) (hco : Cond.code y bytes maxL ret ∈ lw_all) (hq : Cond.methodLink own idx y ∈ lw_all) {F : Option ((Int32 × Mm) ⊕ (Nat × Mm))} {f : (Int32 × Mm) → Option (γ ⊕ (Nat × Mm))} (h : xb F f = some o) (hz : ∀ x, F = some x → CTXi l y (ws_ y bytes maxL ret) fr lo mc ms (va_rf (some q) :: As) σ x) (hmd : MD y n) (hdg : decode cc pc = .ok (.invokevirtual idx, 3)) (hn : As.length = n) (hst : stk = As.reverse ++ va_rf (some q) :: st) (hcat : c1 st) (hst8 : st.length ≤ 8) (hrm : fr + 1 ≤ R.frames ∧ 8 + (maxL + 11) + lo ≤ R.locals) (hc : kc + mc ≤ R.cells ∧ kz + ms ≤ R.slots) (hMc : kc + mc ≤ MC) (hMs : kz + ms ≤ MZ) (kk : ∀ r σ1, mN σ ≤ mN σ1 → f (r, σ1) = some o → WM p l e R s m args below meth c (vx_MQ below Qc (XQX D dA sz0 ad0 N0 o) args s MC MZ (Ab sz0)) nL D dA sz0 ad0 N0 (kc + mc) (kz + ms) σ1 ℓ (.int r :: st) (pc + 3)) : WM p l e R s m args below meth c (vx_MQ below Qc (XQX D dA sz0 ad0 N0 o) args s MC MZ (Ab sz0)) nL D dA sz0 ad0 N0 kc kz σ ℓ stk pc := by
  subst hst
  obtain ⟨x0, hF, h9⟩ := Option.bind_eq_some_iff.mp h
  intro ad H locs ls g1 g2 g3 g4 gz g5 g6 g7
  have hV : VK σ (va_rf (some q) :: As) := by
    intro w hw
    rcases List.mem_cons.mp hw with e | e
    · rw [e]; exact g6 _ (List.mem_append_right _ List.mem_cons_self)
    · exact g6 w (List.mem_append_left _ (List.mem_reverse.mpr e))
  have hlen : (sm ad As).length = n := by simp [sm, hn]
  have hcat' : ((sm ad st).map fun v => v.category).sum ≤ 8 := by rw [sm_cat]; exact c1_s hcat hst8
  rw [sm_stackR]
  exact xw_run_i X hno h9 g1 g2 g4 gz g5 g6.right.tail g7 hMc hMs (vx_runV (As := sm ad As) (rest := sm ad st) X.1 (hz x0 hF D dA sz0 ad) ⟨callB_of n X.1.2.2.2.2 (lw_meth hco) rfl rfl rfl (X.1.2.2.2.2 _ hini) (X.1.2.2.2.2 _ hq) hmd.1 hrm, X.1.2.2.2.2 _ hmi, hsel⟩ ⟨PC_blind, wm_recv hS g3 hcd hs, fun U hU hW => ⟨rfl, ST_call hS g1 hW hU g4, by rw [hU]; exact g3, hV⟩⟩ rfl hlen g7.1 rfl (lv_room hcat') hdg hc) kk
theorem wm_dC_i {γ : Type} {MC MZ CC ZZ : Nat} {Qc : Array Value → State → Outcome → State → Prop} {o : γ ⊕ (Nat × Mm)} (X : CX p s m args meth c cc nL own) (hS : ST D dA sz0 ad0 s) (hno : ∀ x ∈ c.exceptionTable.toList, False) (hcd : CD ci C T N ty) (hs : mS σ q = ci) (hsel : (Cond.selects C y y).before args s = true) (hmi : Cond.instanceMethod y ∈ lw_all) (hini : Cond.initialized y.cls ∈ lw_all) (hco : Cond.code y bytes maxL ret ∈ lw_all) (hq : Cond.methodLink own idx y ∈ lw_all) {F : DX (Int32 × Mm)} {f : (Int32 × Mm) → DX γ} (h : db F f = some (o, CC, ZZ)) (hMc : kc + CC ≤ MC) (hMz : kz + ZZ ≤ MZ) (hz : ∀ x c1 z1, F = some (x, c1, z1) → CTXi l y (ws_ y bytes maxL ret) fr lo c1 z1 (va_rf (some q) :: As) σ x) (hmd : MD y n) (hdg : decode cc pc = .ok (.invokevirtual idx, 3)) (hn : As.length = n) (hst : stk = As.reverse ++ va_rf (some q) :: st) (hcat : c1 st) (hst8 : st.length ≤ 8) (hrm : fr + 1 ≤ R.frames ∧ 8 + (maxL + 11) + lo ≤ R.locals) (hR1 : MC ≤ R.cells) (hR2 : MZ ≤ R.slots) (kk : ∀ r σ1 c1 z1 C1 Z1, mN σ ≤ mN σ1 → f (r, σ1) = some (o, C1, Z1) → kc + c1 + C1 ≤ MC → kz + z1 + Z1 ≤ MZ → WM p l e R s m args below meth c (vx_MQ below Qc (XQX D dA sz0 ad0 N0 o) args s MC MZ (Ab sz0)) nL D dA sz0 ad0 N0 (kc + c1) (kz + z1) σ1 ℓ (.int r :: st) (pc + 3)) : WM p l e R s m args below meth c (vx_MQ below Qc (XQX D dA sz0 ad0 N0 o) args s MC MZ (Ab sz0)) nL D dA sz0 ad0 N0 kc kz σ ℓ stk pc := by
  obtain ⟨⟨x, c9, z9⟩, hm, h⟩ := Option.bind_eq_some_iff.mp h
  have hz' : ∀ x', some x = some x' → CTXi l y (ws_ y bytes maxL ret) fr lo c9 z9 (va_rf (some q) :: As) σ x' := fun x' hx => by
    cases hx
    exact hz x c9 z9 hm
  cases x with
  | inr e8 =>
    cases h
    exact wm_xcC_i (f := fun _ => none) X hS hno hcd hs hsel hmi hini hco hq (F := some (.inr e8)) rfl hz' hmd hdg hn hst hcat hst8 hrm ⟨Nat.le_trans hMc hR1, Nat.le_trans hMz hR2⟩ hMc hMz (fun r σ1 _ hf => by cases hf)
  | inl a8 =>
    obtain ⟨C1, Z1, h, hMc, hMz⟩ := pay_d h hMc hMz
    refine wm_xcC_i (f := fun a => @ite _ (a = a8) (Classical.propDecidable _) (some o) none) X hS hno hcd hs hsel hmi hini hco hq (F := some (.inl a8)) (if_pos rfl) hz' hmd hdg hn hst hcat hst8 hrm ⟨Nat.le_trans (le_p hMc) hR1, Nat.le_trans (le_p hMz) hR2⟩ (le_p hMc) (le_p hMz) (fun r σ1 hN hf => ?_)
    by_cases ha : (r, σ1) = a8
    · rw [← ha] at h
      exact kk r σ1 c9 z9 C1 Z1 hN h hMc hMz
    · rw [if_neg ha] at hf
      cases hf
theorem wm_cC_v (X : CX p s m args meth c cc nL own) (hS : ST D dA sz0 ad0 s) (hcd : CD ci C T N ty) (hs : mS σ q = ci) (hsel : (Cond.selects C y y).before args s = true) (hmi : Cond.instanceMethod y ∈ lw_all) (hini : Cond.initialized y.cls ∈ lw_all) (hco : Cond.code y bytes maxL ret ∈ lw_all) (hq : Cond.methodLink own idx y ∈ lw_all) {F : Option Mm} {f : Mm → Option β} (h : F.bind f = some o) (hz : ∀ σ1, F = some σ1 → CTv l y (ws_ y bytes maxL ret) fr lo mc ms (va_rf (some q) :: As) σ σ1) (hmd : MD y n) (hdg : decode cc pc = .ok (.invokevirtual idx, 3)) (hn : As.length = n) (hst : stk = As.reverse ++ va_rf (some q) :: st) (hcat : c1 st) (hst8 : st.length ≤ 8) (hrm : fr + 1 ≤ R.frames ∧ 8 + (maxL + 11) + lo ≤ R.locals) (hc : kc + mc ≤ R.cells ∧ kz + ms ≤ R.slots) (kk : ∀ σ1, mN σ ≤ mN σ1 → f σ1 = some o → WM p l e R s m args below meth c Q nL D dA sz0 ad0 N0 (kc + mc) (kz + ms) σ1 ℓ (st) (pc + 3)) : WM p l e R s m args below meth c Q nL D dA sz0 ad0 N0 kc kz σ ℓ stk pc := by
  subst hst
  obtain ⟨σ1, hF, h⟩ := Option.bind_eq_some_iff.mp h
  intro ad H locs ls g1 g2 g3 g4 gz g5 g6 g7
  have hV : VK σ (va_rf (some q) :: As) := by
    intro w hw
    rcases List.mem_cons.mp hw with e | e
    · rw [e]; exact g6 _ (List.mem_append_right _ List.mem_cons_self)
    · exact g6 w (List.mem_append_left _ (List.mem_reverse.mpr e))
  have hlen : (sm ad As).length = n := by simp [sm, hn]
  have hcat' : ((sm ad st).map fun v => v.category).sum ≤ 8 := by rw [sm_cat]; exact c1_s hcat hst8
  rw [sm_stackR]
  exact wm_run_v (fr := fr) (lo := lo) g1 g2 g4 gz g5 g6.right.tail g7 (va_runV (As := sm ad As) (rest := sm ad st) X.1 (hz σ1 hF D dA sz0 ad) ⟨callB_of n X.1.2.2.2.2 (lw_meth hco) rfl rfl rfl (X.1.2.2.2.2 _ hini) (X.1.2.2.2.2 _ hq) hmd.1 hrm, X.1.2.2.2.2 _ hmi, hsel⟩ ⟨PC_blind, wm_recv hS g3 hcd hs, fun U hU hW => ⟨rfl, ST_call hS g1 hW hU g4, by rw [hU]; exact g3, hV⟩⟩ rfl hlen g7.1 rfl (lv_room hcat') hdg hc) (fun hN => kk σ1 hN h)
theorem wm_xcC_v {γ : Type} {MC MZ : Nat} {Qc : Array Value → State → Outcome → State → Prop} {o : γ ⊕ (Nat × Mm)} (X : CX p s m args meth c cc nL own) (hS : ST D dA sz0 ad0 s) (hno : ∀ x ∈ c.exceptionTable.toList, False) (hcd : CD ci C T N ty) (hs : mS σ q = ci) (hsel : (Cond.selects C y y).before args s = true) (hmi : Cond.instanceMethod y ∈ lw_all) (hini : Cond.initialized y.cls ∈ lw_all) (hco : Cond.code y bytes maxL ret ∈ lw_all) (hq : Cond.methodLink own idx y ∈ lw_all) {F : Option (Mm ⊕ (Nat × Mm))} {f : Mm → Option (γ ⊕ (Nat × Mm))} (h : xb F f = some o) (hz : ∀ x, F = some x → CTXv l y (ws_ y bytes maxL ret) fr lo mc ms (va_rf (some q) :: As) σ x) (hmd : MD y n) (hdg : decode cc pc = .ok (.invokevirtual idx, 3)) (hn : As.length = n) (hst : stk = As.reverse ++ va_rf (some q) :: st) (hcat : c1 st) (hst8 : st.length ≤ 8) (hrm : fr + 1 ≤ R.frames ∧ 8 + (maxL + 11) + lo ≤ R.locals) (hc : kc + mc ≤ R.cells ∧ kz + ms ≤ R.slots) (hMc : kc + mc ≤ MC) (hMs : kz + ms ≤ MZ) (kk : ∀ σ1, mN σ ≤ mN σ1 → f σ1 = some o → WM p l e R s m args below meth c (vx_MQ below Qc (XQX D dA sz0 ad0 N0 o) args s MC MZ (Ab sz0)) nL D dA sz0 ad0 N0 (kc + mc) (kz + ms) σ1 ℓ (st) (pc + 3)) : WM p l e R s m args below meth c (vx_MQ below Qc (XQX D dA sz0 ad0 N0 o) args s MC MZ (Ab sz0)) nL D dA sz0 ad0 N0 kc kz σ ℓ stk pc := by
  subst hst
  obtain ⟨x0, hF, h9⟩ := Option.bind_eq_some_iff.mp h
  intro ad H locs ls g1 g2 g3 g4 gz g5 g6 g7
  have hV : VK σ (va_rf (some q) :: As) := by
    intro w hw
    rcases List.mem_cons.mp hw with e | e
    · rw [e]; exact g6 _ (List.mem_append_right _ List.mem_cons_self)
    · exact g6 w (List.mem_append_left _ (List.mem_reverse.mpr e))
  have hlen : (sm ad As).length = n := by simp [sm, hn]
  have hcat' : ((sm ad st).map fun v => v.category).sum ≤ 8 := by rw [sm_cat]; exact c1_s hcat hst8
  rw [sm_stackR]
  exact xw_run_v X hno h9 g1 g2 g4 gz g5 g6.right.tail g7 hMc hMs (vx_runV (As := sm ad As) (rest := sm ad st) X.1 (hz x0 hF D dA sz0 ad) ⟨callB_of n X.1.2.2.2.2 (lw_meth hco) rfl rfl rfl (X.1.2.2.2.2 _ hini) (X.1.2.2.2.2 _ hq) hmd.1 hrm, X.1.2.2.2.2 _ hmi, hsel⟩ ⟨PC_blind, wm_recv hS g3 hcd hs, fun U hU hW => ⟨rfl, ST_call hS g1 hW hU g4, by rw [hU]; exact g3, hV⟩⟩ rfl hlen g7.1 rfl (lv_room hcat') hdg hc) kk
theorem wm_dC_v {γ : Type} {MC MZ CC ZZ : Nat} {Qc : Array Value → State → Outcome → State → Prop} {o : γ ⊕ (Nat × Mm)} (X : CX p s m args meth c cc nL own) (hS : ST D dA sz0 ad0 s) (hno : ∀ x ∈ c.exceptionTable.toList, False) (hcd : CD ci C T N ty) (hs : mS σ q = ci) (hsel : (Cond.selects C y y).before args s = true) (hmi : Cond.instanceMethod y ∈ lw_all) (hini : Cond.initialized y.cls ∈ lw_all) (hco : Cond.code y bytes maxL ret ∈ lw_all) (hq : Cond.methodLink own idx y ∈ lw_all) {F : DX Mm} {f : Mm → DX γ} (h : db F f = some (o, CC, ZZ)) (hMc : kc + CC ≤ MC) (hMz : kz + ZZ ≤ MZ) (hz : ∀ x c1 z1, F = some (x, c1, z1) → CTXv l y (ws_ y bytes maxL ret) fr lo c1 z1 (va_rf (some q) :: As) σ x) (hmd : MD y n) (hdg : decode cc pc = .ok (.invokevirtual idx, 3)) (hn : As.length = n) (hst : stk = As.reverse ++ va_rf (some q) :: st) (hcat : c1 st) (hst8 : st.length ≤ 8) (hrm : fr + 1 ≤ R.frames ∧ 8 + (maxL + 11) + lo ≤ R.locals) (hR1 : MC ≤ R.cells) (hR2 : MZ ≤ R.slots) (kk : ∀ σ1 c1 z1 C1 Z1, mN σ ≤ mN σ1 → f σ1 = some (o, C1, Z1) → kc + c1 + C1 ≤ MC → kz + z1 + Z1 ≤ MZ → WM p l e R s m args below meth c (vx_MQ below Qc (XQX D dA sz0 ad0 N0 o) args s MC MZ (Ab sz0)) nL D dA sz0 ad0 N0 (kc + c1) (kz + z1) σ1 ℓ (st) (pc + 3)) : WM p l e R s m args below meth c (vx_MQ below Qc (XQX D dA sz0 ad0 N0 o) args s MC MZ (Ab sz0)) nL D dA sz0 ad0 N0 kc kz σ ℓ stk pc := by
  obtain ⟨⟨x, c9, z9⟩, hm, h⟩ := Option.bind_eq_some_iff.mp h
  have hz' : ∀ x', some x = some x' → CTXv l y (ws_ y bytes maxL ret) fr lo c9 z9 (va_rf (some q) :: As) σ x' := fun x' hx => by
    cases hx
    exact hz x c9 z9 hm
  cases x with
  | inr e8 =>
    cases h
    exact wm_xcC_v (f := fun _ => none) X hS hno hcd hs hsel hmi hini hco hq (F := some (.inr e8)) rfl hz' hmd hdg hn hst hcat hst8 hrm ⟨Nat.le_trans hMc hR1, Nat.le_trans hMz hR2⟩ hMc hMz (fun σ1 _ hf => by cases hf)
  | inl a8 =>
    obtain ⟨C1, Z1, h, hMc, hMz⟩ := pay_d h hMc hMz
    refine wm_xcC_v (f := fun a => @ite _ (a = a8) (Classical.propDecidable _) (some o) none) X hS hno hcd hs hsel hmi hini hco hq (F := some (.inl a8)) (if_pos rfl) hz' hmd hdg hn hst hcat hst8 hrm ⟨Nat.le_trans (le_p hMc) hR1, Nat.le_trans (le_p hMz) hR2⟩ (le_p hMc) (le_p hMz) (fun σ1 hN hf => ?_)
    by_cases ha : σ1 = a8
    · rw [← ha] at h
      exact kk σ1 c9 z9 C1 Z1 hN h hMc hMz
    · rw [if_neg ha] at hf
      cases hf
theorem wm_cC_r (X : CX p s m args meth c cc nL own) (hS : ST D dA sz0 ad0 s) (hcd : CD ci C T N ty) (hs : mS σ q = ci) (hsel : (Cond.selects C y y).before args s = true) (hmi : Cond.instanceMethod y ∈ lw_all) (hini : Cond.initialized y.cls ∈ lw_all) (hco : Cond.code y bytes maxL ret ∈ lw_all) (hq : Cond.methodLink own idx y ∈ lw_all) {F : Option (Option Nat × Mm)} {f : (Option Nat × Mm) → Option β} (h : F.bind f = some o) (hz : ∀ r σ1, F = some (r, σ1) → CTr l y (ws_ y bytes maxL ret) fr lo mc ms (va_rf (some q) :: As) σ r σ1) (hmd : MD y n) (hdg : decode cc pc = .ok (.invokevirtual idx, 3)) (hn : As.length = n) (hst : stk = As.reverse ++ va_rf (some q) :: st) (hcat : c1 st) (hst8 : st.length ≤ 8) (hrm : fr + 1 ≤ R.frames ∧ 8 + (maxL + 11) + lo ≤ R.locals) (hc : kc + mc ≤ R.cells ∧ kz + ms ≤ R.slots) (kk : ∀ r σ1, mN σ ≤ mN σ1 → f (r, σ1) = some o → WM p l e R s m args below meth c Q nL D dA sz0 ad0 N0 (kc + mc) (kz + ms) σ1 ℓ (va_rf r :: st) (pc + 3)) : WM p l e R s m args below meth c Q nL D dA sz0 ad0 N0 kc kz σ ℓ stk pc := by
  subst hst
  obtain ⟨⟨r, σ1⟩, hF, h⟩ := Option.bind_eq_some_iff.mp h
  intro ad H locs ls g1 g2 g3 g4 gz g5 g6 g7
  have hV : VK σ (va_rf (some q) :: As) := by
    intro w hw
    rcases List.mem_cons.mp hw with e | e
    · rw [e]; exact g6 _ (List.mem_append_right _ List.mem_cons_self)
    · exact g6 w (List.mem_append_left _ (List.mem_reverse.mpr e))
  have hlen : (sm ad As).length = n := by simp [sm, hn]
  have hcat' : ((sm ad st).map fun v => v.category).sum ≤ 8 := by rw [sm_cat]; exact c1_s hcat hst8
  rw [sm_stackR]
  exact wm_run_r (fr := fr) (lo := lo) g1 g2 g4 gz g5 g6.right.tail g7 (va_runV (As := sm ad As) (rest := sm ad st) X.1 (hz r σ1 hF D dA sz0 ad) ⟨callB_of n X.1.2.2.2.2 (lw_meth hco) rfl rfl rfl (X.1.2.2.2.2 _ hini) (X.1.2.2.2.2 _ hq) hmd.1 hrm, X.1.2.2.2.2 _ hmi, hsel⟩ ⟨PC_blind, wm_recv hS g3 hcd hs, fun U hU hW => ⟨rfl, ST_call hS g1 hW hU g4, by rw [hU]; exact g3, hV⟩⟩ rfl hlen g7.1 rfl (lv_room hcat') hdg hc) (fun hN => kk r σ1 hN h)
theorem wm_xcC_r {γ : Type} {MC MZ : Nat} {Qc : Array Value → State → Outcome → State → Prop} {o : γ ⊕ (Nat × Mm)} (X : CX p s m args meth c cc nL own) (hS : ST D dA sz0 ad0 s) (hno : ∀ x ∈ c.exceptionTable.toList, False) (hcd : CD ci C T N ty) (hs : mS σ q = ci) (hsel : (Cond.selects C y y).before args s = true) (hmi : Cond.instanceMethod y ∈ lw_all) (hini : Cond.initialized y.cls ∈ lw_all) (hco : Cond.code y bytes maxL ret ∈ lw_all) (hq : Cond.methodLink own idx y ∈ lw_all) {F : Option ((Option Nat × Mm) ⊕ (Nat × Mm))} {f : (Option Nat × Mm) → Option (γ ⊕ (Nat × Mm))} (h : xb F f = some o) (hz : ∀ x, F = some x → CTXr l y (ws_ y bytes maxL ret) fr lo mc ms (va_rf (some q) :: As) σ x) (hmd : MD y n) (hdg : decode cc pc = .ok (.invokevirtual idx, 3)) (hn : As.length = n) (hst : stk = As.reverse ++ va_rf (some q) :: st) (hcat : c1 st) (hst8 : st.length ≤ 8) (hrm : fr + 1 ≤ R.frames ∧ 8 + (maxL + 11) + lo ≤ R.locals) (hc : kc + mc ≤ R.cells ∧ kz + ms ≤ R.slots) (hMc : kc + mc ≤ MC) (hMs : kz + ms ≤ MZ) (kk : ∀ r σ1, mN σ ≤ mN σ1 → f (r, σ1) = some o → WM p l e R s m args below meth c (vx_MQ below Qc (XQX D dA sz0 ad0 N0 o) args s MC MZ (Ab sz0)) nL D dA sz0 ad0 N0 (kc + mc) (kz + ms) σ1 ℓ (va_rf r :: st) (pc + 3)) : WM p l e R s m args below meth c (vx_MQ below Qc (XQX D dA sz0 ad0 N0 o) args s MC MZ (Ab sz0)) nL D dA sz0 ad0 N0 kc kz σ ℓ stk pc := by
  subst hst
  obtain ⟨x0, hF, h9⟩ := Option.bind_eq_some_iff.mp h
  intro ad H locs ls g1 g2 g3 g4 gz g5 g6 g7
  have hV : VK σ (va_rf (some q) :: As) := by
    intro w hw
    rcases List.mem_cons.mp hw with e | e
    · rw [e]; exact g6 _ (List.mem_append_right _ List.mem_cons_self)
    · exact g6 w (List.mem_append_left _ (List.mem_reverse.mpr e))
  have hlen : (sm ad As).length = n := by simp [sm, hn]
  have hcat' : ((sm ad st).map fun v => v.category).sum ≤ 8 := by rw [sm_cat]; exact c1_s hcat hst8
  rw [sm_stackR]
  exact xw_run_r X hno h9 g1 g2 g4 gz g5 g6.right.tail g7 hMc hMs (vx_runV (As := sm ad As) (rest := sm ad st) X.1 (hz x0 hF D dA sz0 ad) ⟨callB_of n X.1.2.2.2.2 (lw_meth hco) rfl rfl rfl (X.1.2.2.2.2 _ hini) (X.1.2.2.2.2 _ hq) hmd.1 hrm, X.1.2.2.2.2 _ hmi, hsel⟩ ⟨PC_blind, wm_recv hS g3 hcd hs, fun U hU hW => ⟨rfl, ST_call hS g1 hW hU g4, by rw [hU]; exact g3, hV⟩⟩ rfl hlen g7.1 rfl (lv_room hcat') hdg hc) kk
theorem wm_dC_r {γ : Type} {MC MZ CC ZZ : Nat} {Qc : Array Value → State → Outcome → State → Prop} {o : γ ⊕ (Nat × Mm)} (X : CX p s m args meth c cc nL own) (hS : ST D dA sz0 ad0 s) (hno : ∀ x ∈ c.exceptionTable.toList, False) (hcd : CD ci C T N ty) (hs : mS σ q = ci) (hsel : (Cond.selects C y y).before args s = true) (hmi : Cond.instanceMethod y ∈ lw_all) (hini : Cond.initialized y.cls ∈ lw_all) (hco : Cond.code y bytes maxL ret ∈ lw_all) (hq : Cond.methodLink own idx y ∈ lw_all) {F : DX (Option Nat × Mm)} {f : (Option Nat × Mm) → DX γ} (h : db F f = some (o, CC, ZZ)) (hMc : kc + CC ≤ MC) (hMz : kz + ZZ ≤ MZ) (hz : ∀ x c1 z1, F = some (x, c1, z1) → CTXr l y (ws_ y bytes maxL ret) fr lo c1 z1 (va_rf (some q) :: As) σ x) (hmd : MD y n) (hdg : decode cc pc = .ok (.invokevirtual idx, 3)) (hn : As.length = n) (hst : stk = As.reverse ++ va_rf (some q) :: st) (hcat : c1 st) (hst8 : st.length ≤ 8) (hrm : fr + 1 ≤ R.frames ∧ 8 + (maxL + 11) + lo ≤ R.locals) (hR1 : MC ≤ R.cells) (hR2 : MZ ≤ R.slots) (kk : ∀ r σ1 c1 z1 C1 Z1, mN σ ≤ mN σ1 → f (r, σ1) = some (o, C1, Z1) → kc + c1 + C1 ≤ MC → kz + z1 + Z1 ≤ MZ → WM p l e R s m args below meth c (vx_MQ below Qc (XQX D dA sz0 ad0 N0 o) args s MC MZ (Ab sz0)) nL D dA sz0 ad0 N0 (kc + c1) (kz + z1) σ1 ℓ (va_rf r :: st) (pc + 3)) : WM p l e R s m args below meth c (vx_MQ below Qc (XQX D dA sz0 ad0 N0 o) args s MC MZ (Ab sz0)) nL D dA sz0 ad0 N0 kc kz σ ℓ stk pc := by
  obtain ⟨⟨x, c9, z9⟩, hm, h⟩ := Option.bind_eq_some_iff.mp h
  have hz' : ∀ x', some x = some x' → CTXr l y (ws_ y bytes maxL ret) fr lo c9 z9 (va_rf (some q) :: As) σ x' := fun x' hx => by
    cases hx
    exact hz x c9 z9 hm
  cases x with
  | inr e8 =>
    cases h
    exact wm_xcC_r (f := fun _ => none) X hS hno hcd hs hsel hmi hini hco hq (F := some (.inr e8)) rfl hz' hmd hdg hn hst hcat hst8 hrm ⟨Nat.le_trans hMc hR1, Nat.le_trans hMz hR2⟩ hMc hMz (fun r σ1 _ hf => by cases hf)
  | inl a8 =>
    obtain ⟨C1, Z1, h, hMc, hMz⟩ := pay_d h hMc hMz
    refine wm_xcC_r (f := fun a => @ite _ (a = a8) (Classical.propDecidable _) (some o) none) X hS hno hcd hs hsel hmi hini hco hq (F := some (.inl a8)) (if_pos rfl) hz' hmd hdg hn hst hcat hst8 hrm ⟨Nat.le_trans (le_p hMc) hR1, Nat.le_trans (le_p hMz) hR2⟩ (le_p hMc) (le_p hMz) (fun r σ1 hN hf => ?_)
    by_cases ha : (r, σ1) = a8
    · rw [← ha] at h
      exact kk r σ1 c9 z9 C1 Z1 hN h hMc hMz
    · rw [if_neg ha] at hf
      cases hf
theorem wm_cU_i (X : CX p s m args meth c cc nL own) (hS : ST D dA sz0 ad0 s) (hcd : CD ci C T N ty) (hs : mS σ q = ci) (hni : y.name ≠ "<init>") (hsm : Cond.sameMethod y.cls y.cls y.name y.desc ∈ lw_all) (hsu : Cond.superclass own y.cls ∈ lw_all) (hmi : Cond.instanceMethod y ∈ lw_all) (hini : Cond.initialized y.cls ∈ lw_all) (hco : Cond.code y bytes maxL ret ∈ lw_all) (hq : Cond.methodLink own idx y ∈ lw_all) {F : Option (Int32 × Mm)} {f : (Int32 × Mm) → Option β} (h : F.bind f = some o) (hz : ∀ r σ1, F = some (r, σ1) → CTi l y (ws_ y bytes maxL ret) fr lo mc ms (va_rf (some q) :: As) σ r σ1) (hmd : MD y n) (hdg : decode cc pc = .ok (.invokespecial idx, 3)) (hn : As.length = n) (hst : stk = As.reverse ++ va_rf (some q) :: st) (hcat : c1 st) (hst8 : st.length ≤ 8) (hrm : fr + 1 ≤ R.frames ∧ 8 + (maxL + 11) + lo ≤ R.locals) (hc : kc + mc ≤ R.cells ∧ kz + ms ≤ R.slots) (kk : ∀ r σ1, mN σ ≤ mN σ1 → f (r, σ1) = some o → WM p l e R s m args below meth c Q nL D dA sz0 ad0 N0 (kc + mc) (kz + ms) σ1 ℓ (.int r :: st) (pc + 3)) : WM p l e R s m args below meth c Q nL D dA sz0 ad0 N0 kc kz σ ℓ stk pc := by
  subst hst
  obtain ⟨⟨r, σ1⟩, hF, h⟩ := Option.bind_eq_some_iff.mp h
  intro ad H locs ls g1 g2 g3 g4 gz g5 g6 g7
  have hV : VK σ (va_rf (some q) :: As) := by
    intro w hw
    rcases List.mem_cons.mp hw with e | e
    · rw [e]; exact g6 _ (List.mem_append_right _ List.mem_cons_self)
    · exact g6 w (List.mem_append_left _ (List.mem_reverse.mpr e))
  have hlen : (sm ad As).length = n := by simp [sm, hn]
  have hcat' : ((sm ad st).map fun v => v.category).sum ≤ 8 := by rw [sm_cat]; exact c1_s hcat hst8
  rw [sm_stackR]
  exact wm_run_i (fr := fr) (lo := lo) g1 g2 g4 gz g5 g6.right.tail g7 (va_runSU (As := sm ad As) (rest := sm ad st) (hS.1.1 ci _ hcd.1.1).2 X.1 (hz r σ1 hF D dA sz0 ad) (va_cwSU n X.1.2.2.2.2 (cU_T hq hsm hsu hmi hini hco) rfl rfl rfl ⟨hni, hmd.1.2.2⟩ hrm) ⟨PC_blind, wm_recv hS g3 hcd hs, fun U hU hW => ⟨rfl, ST_call hS g1 hW hU g4, by rw [hU]; exact g3, hV⟩⟩ rfl hlen g7.1 rfl (lv_room hcat') hdg hc) (fun hN => kk r σ1 hN h)
theorem wm_xcU_i {γ : Type} {MC MZ : Nat} {Qc : Array Value → State → Outcome → State → Prop} {o : γ ⊕ (Nat × Mm)} (X : CX p s m args meth c cc nL own) (hS : ST D dA sz0 ad0 s) (hno : ∀ x ∈ c.exceptionTable.toList, False) (hcd : CD ci C T N ty) (hs : mS σ q = ci) (hni : y.name ≠ "<init>") (hsm : Cond.sameMethod y.cls y.cls y.name y.desc ∈ lw_all) (hsu : Cond.superclass own y.cls ∈ lw_all) (hmi : Cond.instanceMethod y ∈ lw_all) (hini : Cond.initialized y.cls ∈ lw_all) (hco : Cond.code y bytes maxL ret ∈ lw_all) (hq : Cond.methodLink own idx y ∈ lw_all) {F : Option ((Int32 × Mm) ⊕ (Nat × Mm))} {f : (Int32 × Mm) → Option (γ ⊕ (Nat × Mm))} (h : xb F f = some o) (hz : ∀ x, F = some x → CTXi l y (ws_ y bytes maxL ret) fr lo mc ms (va_rf (some q) :: As) σ x) (hmd : MD y n) (hdg : decode cc pc = .ok (.invokespecial idx, 3)) (hn : As.length = n) (hst : stk = As.reverse ++ va_rf (some q) :: st) (hcat : c1 st) (hst8 : st.length ≤ 8) (hrm : fr + 1 ≤ R.frames ∧ 8 + (maxL + 11) + lo ≤ R.locals) (hc : kc + mc ≤ R.cells ∧ kz + ms ≤ R.slots) (hMc : kc + mc ≤ MC) (hMs : kz + ms ≤ MZ) (kk : ∀ r σ1, mN σ ≤ mN σ1 → f (r, σ1) = some o → WM p l e R s m args below meth c (vx_MQ below Qc (XQX D dA sz0 ad0 N0 o) args s MC MZ (Ab sz0)) nL D dA sz0 ad0 N0 (kc + mc) (kz + ms) σ1 ℓ (.int r :: st) (pc + 3)) : WM p l e R s m args below meth c (vx_MQ below Qc (XQX D dA sz0 ad0 N0 o) args s MC MZ (Ab sz0)) nL D dA sz0 ad0 N0 kc kz σ ℓ stk pc := by
  subst hst
  obtain ⟨x0, hF, h9⟩ := Option.bind_eq_some_iff.mp h
  intro ad H locs ls g1 g2 g3 g4 gz g5 g6 g7
  have hV : VK σ (va_rf (some q) :: As) := by
    intro w hw
    rcases List.mem_cons.mp hw with e | e
    · rw [e]; exact g6 _ (List.mem_append_right _ List.mem_cons_self)
    · exact g6 w (List.mem_append_left _ (List.mem_reverse.mpr e))
  have hlen : (sm ad As).length = n := by simp [sm, hn]
  have hcat' : ((sm ad st).map fun v => v.category).sum ≤ 8 := by rw [sm_cat]; exact c1_s hcat hst8
  rw [sm_stackR]
  exact xw_run_i X hno h9 g1 g2 g4 gz g5 g6.right.tail g7 hMc hMs (vx_runSU (As := sm ad As) (rest := sm ad st) (hS.1.1 ci _ hcd.1.1).2 X.1 (hz x0 hF D dA sz0 ad) (va_cwSU n X.1.2.2.2.2 (cU_T hq hsm hsu hmi hini hco) rfl rfl rfl ⟨hni, hmd.1.2.2⟩ hrm) ⟨PC_blind, wm_recv hS g3 hcd hs, fun U hU hW => ⟨rfl, ST_call hS g1 hW hU g4, by rw [hU]; exact g3, hV⟩⟩ rfl hlen g7.1 rfl (lv_room hcat') hdg hc) kk
theorem wm_dU_i {γ : Type} {MC MZ CC ZZ : Nat} {Qc : Array Value → State → Outcome → State → Prop} {o : γ ⊕ (Nat × Mm)} (X : CX p s m args meth c cc nL own) (hS : ST D dA sz0 ad0 s) (hno : ∀ x ∈ c.exceptionTable.toList, False) (hcd : CD ci C T N ty) (hs : mS σ q = ci) (hni : y.name ≠ "<init>") (hsm : Cond.sameMethod y.cls y.cls y.name y.desc ∈ lw_all) (hsu : Cond.superclass own y.cls ∈ lw_all) (hmi : Cond.instanceMethod y ∈ lw_all) (hini : Cond.initialized y.cls ∈ lw_all) (hco : Cond.code y bytes maxL ret ∈ lw_all) (hq : Cond.methodLink own idx y ∈ lw_all) {F : DX (Int32 × Mm)} {f : (Int32 × Mm) → DX γ} (h : db F f = some (o, CC, ZZ)) (hMc : kc + CC ≤ MC) (hMz : kz + ZZ ≤ MZ) (hz : ∀ x c1 z1, F = some (x, c1, z1) → CTXi l y (ws_ y bytes maxL ret) fr lo c1 z1 (va_rf (some q) :: As) σ x) (hmd : MD y n) (hdg : decode cc pc = .ok (.invokespecial idx, 3)) (hn : As.length = n) (hst : stk = As.reverse ++ va_rf (some q) :: st) (hcat : c1 st) (hst8 : st.length ≤ 8) (hrm : fr + 1 ≤ R.frames ∧ 8 + (maxL + 11) + lo ≤ R.locals) (hR1 : MC ≤ R.cells) (hR2 : MZ ≤ R.slots) (kk : ∀ r σ1 c1 z1 C1 Z1, mN σ ≤ mN σ1 → f (r, σ1) = some (o, C1, Z1) → kc + c1 + C1 ≤ MC → kz + z1 + Z1 ≤ MZ → WM p l e R s m args below meth c (vx_MQ below Qc (XQX D dA sz0 ad0 N0 o) args s MC MZ (Ab sz0)) nL D dA sz0 ad0 N0 (kc + c1) (kz + z1) σ1 ℓ (.int r :: st) (pc + 3)) : WM p l e R s m args below meth c (vx_MQ below Qc (XQX D dA sz0 ad0 N0 o) args s MC MZ (Ab sz0)) nL D dA sz0 ad0 N0 kc kz σ ℓ stk pc := by
  obtain ⟨⟨x, c9, z9⟩, hm, h⟩ := Option.bind_eq_some_iff.mp h
  have hz' : ∀ x', some x = some x' → CTXi l y (ws_ y bytes maxL ret) fr lo c9 z9 (va_rf (some q) :: As) σ x' := fun x' hx => by
    cases hx
    exact hz x c9 z9 hm
  cases x with
  | inr e8 =>
    cases h
    exact wm_xcU_i (f := fun _ => none) X hS hno hcd hs hni hsm hsu hmi hini hco hq (F := some (.inr e8)) rfl hz' hmd hdg hn hst hcat hst8 hrm ⟨Nat.le_trans hMc hR1, Nat.le_trans hMz hR2⟩ hMc hMz (fun r σ1 _ hf => by cases hf)
  | inl a8 =>
    obtain ⟨C1, Z1, h, hMc, hMz⟩ := pay_d h hMc hMz
    refine wm_xcU_i (f := fun a => @ite _ (a = a8) (Classical.propDecidable _) (some o) none) X hS hno hcd hs hni hsm hsu hmi hini hco hq (F := some (.inl a8)) (if_pos rfl) hz' hmd hdg hn hst hcat hst8 hrm ⟨Nat.le_trans (le_p hMc) hR1, Nat.le_trans (le_p hMz) hR2⟩ (le_p hMc) (le_p hMz) (fun r σ1 hN hf => ?_)
    by_cases ha : (r, σ1) = a8
    · rw [← ha] at h
      exact kk r σ1 c9 z9 C1 Z1 hN h hMc hMz
    · rw [if_neg ha] at hf
      cases hf
theorem wm_cU_v (X : CX p s m args meth c cc nL own) (hS : ST D dA sz0 ad0 s) (hcd : CD ci C T N ty) (hs : mS σ q = ci) (hni : y.name ≠ "<init>") (hsm : Cond.sameMethod y.cls y.cls y.name y.desc ∈ lw_all) (hsu : Cond.superclass own y.cls ∈ lw_all) (hmi : Cond.instanceMethod y ∈ lw_all) (hini : Cond.initialized y.cls ∈ lw_all) (hco : Cond.code y bytes maxL ret ∈ lw_all) (hq : Cond.methodLink own idx y ∈ lw_all) {F : Option Mm} {f : Mm → Option β} (h : F.bind f = some o) (hz : ∀ σ1, F = some σ1 → CTv l y (ws_ y bytes maxL ret) fr lo mc ms (va_rf (some q) :: As) σ σ1) (hmd : MD y n) (hdg : decode cc pc = .ok (.invokespecial idx, 3)) (hn : As.length = n) (hst : stk = As.reverse ++ va_rf (some q) :: st) (hcat : c1 st) (hst8 : st.length ≤ 8) (hrm : fr + 1 ≤ R.frames ∧ 8 + (maxL + 11) + lo ≤ R.locals) (hc : kc + mc ≤ R.cells ∧ kz + ms ≤ R.slots) (kk : ∀ σ1, mN σ ≤ mN σ1 → f σ1 = some o → WM p l e R s m args below meth c Q nL D dA sz0 ad0 N0 (kc + mc) (kz + ms) σ1 ℓ (st) (pc + 3)) : WM p l e R s m args below meth c Q nL D dA sz0 ad0 N0 kc kz σ ℓ stk pc := by
  subst hst
  obtain ⟨σ1, hF, h⟩ := Option.bind_eq_some_iff.mp h
  intro ad H locs ls g1 g2 g3 g4 gz g5 g6 g7
  have hV : VK σ (va_rf (some q) :: As) := by
    intro w hw
    rcases List.mem_cons.mp hw with e | e
    · rw [e]; exact g6 _ (List.mem_append_right _ List.mem_cons_self)
    · exact g6 w (List.mem_append_left _ (List.mem_reverse.mpr e))
  have hlen : (sm ad As).length = n := by simp [sm, hn]
  have hcat' : ((sm ad st).map fun v => v.category).sum ≤ 8 := by rw [sm_cat]; exact c1_s hcat hst8
  rw [sm_stackR]
  exact wm_run_v (fr := fr) (lo := lo) g1 g2 g4 gz g5 g6.right.tail g7 (va_runSU (As := sm ad As) (rest := sm ad st) (hS.1.1 ci _ hcd.1.1).2 X.1 (hz σ1 hF D dA sz0 ad) (va_cwSU n X.1.2.2.2.2 (cU_T hq hsm hsu hmi hini hco) rfl rfl rfl ⟨hni, hmd.1.2.2⟩ hrm) ⟨PC_blind, wm_recv hS g3 hcd hs, fun U hU hW => ⟨rfl, ST_call hS g1 hW hU g4, by rw [hU]; exact g3, hV⟩⟩ rfl hlen g7.1 rfl (lv_room hcat') hdg hc) (fun hN => kk σ1 hN h)
theorem wm_xcU_v {γ : Type} {MC MZ : Nat} {Qc : Array Value → State → Outcome → State → Prop} {o : γ ⊕ (Nat × Mm)} (X : CX p s m args meth c cc nL own) (hS : ST D dA sz0 ad0 s) (hno : ∀ x ∈ c.exceptionTable.toList, False) (hcd : CD ci C T N ty) (hs : mS σ q = ci) (hni : y.name ≠ "<init>") (hsm : Cond.sameMethod y.cls y.cls y.name y.desc ∈ lw_all) (hsu : Cond.superclass own y.cls ∈ lw_all) (hmi : Cond.instanceMethod y ∈ lw_all) (hini : Cond.initialized y.cls ∈ lw_all) (hco : Cond.code y bytes maxL ret ∈ lw_all) (hq : Cond.methodLink own idx y ∈ lw_all) {F : Option (Mm ⊕ (Nat × Mm))} {f : Mm → Option (γ ⊕ (Nat × Mm))} (h : xb F f = some o) (hz : ∀ x, F = some x → CTXv l y (ws_ y bytes maxL ret) fr lo mc ms (va_rf (some q) :: As) σ x) (hmd : MD y n) (hdg : decode cc pc = .ok (.invokespecial idx, 3)) (hn : As.length = n) (hst : stk = As.reverse ++ va_rf (some q) :: st) (hcat : c1 st) (hst8 : st.length ≤ 8) (hrm : fr + 1 ≤ R.frames ∧ 8 + (maxL + 11) + lo ≤ R.locals) (hc : kc + mc ≤ R.cells ∧ kz + ms ≤ R.slots) (hMc : kc + mc ≤ MC) (hMs : kz + ms ≤ MZ) (kk : ∀ σ1, mN σ ≤ mN σ1 → f σ1 = some o → WM p l e R s m args below meth c (vx_MQ below Qc (XQX D dA sz0 ad0 N0 o) args s MC MZ (Ab sz0)) nL D dA sz0 ad0 N0 (kc + mc) (kz + ms) σ1 ℓ (st) (pc + 3)) : WM p l e R s m args below meth c (vx_MQ below Qc (XQX D dA sz0 ad0 N0 o) args s MC MZ (Ab sz0)) nL D dA sz0 ad0 N0 kc kz σ ℓ stk pc := by
  subst hst
  obtain ⟨x0, hF, h9⟩ := Option.bind_eq_some_iff.mp h
  intro ad H locs ls g1 g2 g3 g4 gz g5 g6 g7
  have hV : VK σ (va_rf (some q) :: As) := by
    intro w hw
    rcases List.mem_cons.mp hw with e | e
    · rw [e]; exact g6 _ (List.mem_append_right _ List.mem_cons_self)
    · exact g6 w (List.mem_append_left _ (List.mem_reverse.mpr e))
  have hlen : (sm ad As).length = n := by simp [sm, hn]
  have hcat' : ((sm ad st).map fun v => v.category).sum ≤ 8 := by rw [sm_cat]; exact c1_s hcat hst8
  rw [sm_stackR]
  exact xw_run_v X hno h9 g1 g2 g4 gz g5 g6.right.tail g7 hMc hMs (vx_runSU (As := sm ad As) (rest := sm ad st) (hS.1.1 ci _ hcd.1.1).2 X.1 (hz x0 hF D dA sz0 ad) (va_cwSU n X.1.2.2.2.2 (cU_T hq hsm hsu hmi hini hco) rfl rfl rfl ⟨hni, hmd.1.2.2⟩ hrm) ⟨PC_blind, wm_recv hS g3 hcd hs, fun U hU hW => ⟨rfl, ST_call hS g1 hW hU g4, by rw [hU]; exact g3, hV⟩⟩ rfl hlen g7.1 rfl (lv_room hcat') hdg hc) kk
theorem wm_dU_v {γ : Type} {MC MZ CC ZZ : Nat} {Qc : Array Value → State → Outcome → State → Prop} {o : γ ⊕ (Nat × Mm)} (X : CX p s m args meth c cc nL own) (hS : ST D dA sz0 ad0 s) (hno : ∀ x ∈ c.exceptionTable.toList, False) (hcd : CD ci C T N ty) (hs : mS σ q = ci) (hni : y.name ≠ "<init>") (hsm : Cond.sameMethod y.cls y.cls y.name y.desc ∈ lw_all) (hsu : Cond.superclass own y.cls ∈ lw_all) (hmi : Cond.instanceMethod y ∈ lw_all) (hini : Cond.initialized y.cls ∈ lw_all) (hco : Cond.code y bytes maxL ret ∈ lw_all) (hq : Cond.methodLink own idx y ∈ lw_all) {F : DX Mm} {f : Mm → DX γ} (h : db F f = some (o, CC, ZZ)) (hMc : kc + CC ≤ MC) (hMz : kz + ZZ ≤ MZ) (hz : ∀ x c1 z1, F = some (x, c1, z1) → CTXv l y (ws_ y bytes maxL ret) fr lo c1 z1 (va_rf (some q) :: As) σ x) (hmd : MD y n) (hdg : decode cc pc = .ok (.invokespecial idx, 3)) (hn : As.length = n) (hst : stk = As.reverse ++ va_rf (some q) :: st) (hcat : c1 st) (hst8 : st.length ≤ 8) (hrm : fr + 1 ≤ R.frames ∧ 8 + (maxL + 11) + lo ≤ R.locals) (hR1 : MC ≤ R.cells) (hR2 : MZ ≤ R.slots) (kk : ∀ σ1 c1 z1 C1 Z1, mN σ ≤ mN σ1 → f σ1 = some (o, C1, Z1) → kc + c1 + C1 ≤ MC → kz + z1 + Z1 ≤ MZ → WM p l e R s m args below meth c (vx_MQ below Qc (XQX D dA sz0 ad0 N0 o) args s MC MZ (Ab sz0)) nL D dA sz0 ad0 N0 (kc + c1) (kz + z1) σ1 ℓ (st) (pc + 3)) : WM p l e R s m args below meth c (vx_MQ below Qc (XQX D dA sz0 ad0 N0 o) args s MC MZ (Ab sz0)) nL D dA sz0 ad0 N0 kc kz σ ℓ stk pc := by
  obtain ⟨⟨x, c9, z9⟩, hm, h⟩ := Option.bind_eq_some_iff.mp h
  have hz' : ∀ x', some x = some x' → CTXv l y (ws_ y bytes maxL ret) fr lo c9 z9 (va_rf (some q) :: As) σ x' := fun x' hx => by
    cases hx
    exact hz x c9 z9 hm
  cases x with
  | inr e8 =>
    cases h
    exact wm_xcU_v (f := fun _ => none) X hS hno hcd hs hni hsm hsu hmi hini hco hq (F := some (.inr e8)) rfl hz' hmd hdg hn hst hcat hst8 hrm ⟨Nat.le_trans hMc hR1, Nat.le_trans hMz hR2⟩ hMc hMz (fun σ1 _ hf => by cases hf)
  | inl a8 =>
    obtain ⟨C1, Z1, h, hMc, hMz⟩ := pay_d h hMc hMz
    refine wm_xcU_v (f := fun a => @ite _ (a = a8) (Classical.propDecidable _) (some o) none) X hS hno hcd hs hni hsm hsu hmi hini hco hq (F := some (.inl a8)) (if_pos rfl) hz' hmd hdg hn hst hcat hst8 hrm ⟨Nat.le_trans (le_p hMc) hR1, Nat.le_trans (le_p hMz) hR2⟩ (le_p hMc) (le_p hMz) (fun σ1 hN hf => ?_)
    by_cases ha : σ1 = a8
    · rw [← ha] at h
      exact kk σ1 c9 z9 C1 Z1 hN h hMc hMz
    · rw [if_neg ha] at hf
      cases hf
theorem wm_cU_r (X : CX p s m args meth c cc nL own) (hS : ST D dA sz0 ad0 s) (hcd : CD ci C T N ty) (hs : mS σ q = ci) (hni : y.name ≠ "<init>") (hsm : Cond.sameMethod y.cls y.cls y.name y.desc ∈ lw_all) (hsu : Cond.superclass own y.cls ∈ lw_all) (hmi : Cond.instanceMethod y ∈ lw_all) (hini : Cond.initialized y.cls ∈ lw_all) (hco : Cond.code y bytes maxL ret ∈ lw_all) (hq : Cond.methodLink own idx y ∈ lw_all) {F : Option (Option Nat × Mm)} {f : (Option Nat × Mm) → Option β} (h : F.bind f = some o) (hz : ∀ r σ1, F = some (r, σ1) → CTr l y (ws_ y bytes maxL ret) fr lo mc ms (va_rf (some q) :: As) σ r σ1) (hmd : MD y n) (hdg : decode cc pc = .ok (.invokespecial idx, 3)) (hn : As.length = n) (hst : stk = As.reverse ++ va_rf (some q) :: st) (hcat : c1 st) (hst8 : st.length ≤ 8) (hrm : fr + 1 ≤ R.frames ∧ 8 + (maxL + 11) + lo ≤ R.locals) (hc : kc + mc ≤ R.cells ∧ kz + ms ≤ R.slots) (kk : ∀ r σ1, mN σ ≤ mN σ1 → f (r, σ1) = some o → WM p l e R s m args below meth c Q nL D dA sz0 ad0 N0 (kc + mc) (kz + ms) σ1 ℓ (va_rf r :: st) (pc + 3)) : WM p l e R s m args below meth c Q nL D dA sz0 ad0 N0 kc kz σ ℓ stk pc := by
  subst hst
  obtain ⟨⟨r, σ1⟩, hF, h⟩ := Option.bind_eq_some_iff.mp h
  intro ad H locs ls g1 g2 g3 g4 gz g5 g6 g7
  have hV : VK σ (va_rf (some q) :: As) := by
    intro w hw
    rcases List.mem_cons.mp hw with e | e
    · rw [e]; exact g6 _ (List.mem_append_right _ List.mem_cons_self)
    · exact g6 w (List.mem_append_left _ (List.mem_reverse.mpr e))
  have hlen : (sm ad As).length = n := by simp [sm, hn]
  have hcat' : ((sm ad st).map fun v => v.category).sum ≤ 8 := by rw [sm_cat]; exact c1_s hcat hst8
  rw [sm_stackR]
  exact wm_run_r (fr := fr) (lo := lo) g1 g2 g4 gz g5 g6.right.tail g7 (va_runSU (As := sm ad As) (rest := sm ad st) (hS.1.1 ci _ hcd.1.1).2 X.1 (hz r σ1 hF D dA sz0 ad) (va_cwSU n X.1.2.2.2.2 (cU_T hq hsm hsu hmi hini hco) rfl rfl rfl ⟨hni, hmd.1.2.2⟩ hrm) ⟨PC_blind, wm_recv hS g3 hcd hs, fun U hU hW => ⟨rfl, ST_call hS g1 hW hU g4, by rw [hU]; exact g3, hV⟩⟩ rfl hlen g7.1 rfl (lv_room hcat') hdg hc) (fun hN => kk r σ1 hN h)
theorem wm_xcU_r {γ : Type} {MC MZ : Nat} {Qc : Array Value → State → Outcome → State → Prop} {o : γ ⊕ (Nat × Mm)} (X : CX p s m args meth c cc nL own) (hS : ST D dA sz0 ad0 s) (hno : ∀ x ∈ c.exceptionTable.toList, False) (hcd : CD ci C T N ty) (hs : mS σ q = ci) (hni : y.name ≠ "<init>") (hsm : Cond.sameMethod y.cls y.cls y.name y.desc ∈ lw_all) (hsu : Cond.superclass own y.cls ∈ lw_all) (hmi : Cond.instanceMethod y ∈ lw_all) (hini : Cond.initialized y.cls ∈ lw_all) (hco : Cond.code y bytes maxL ret ∈ lw_all) (hq : Cond.methodLink own idx y ∈ lw_all) {F : Option ((Option Nat × Mm) ⊕ (Nat × Mm))} {f : (Option Nat × Mm) → Option (γ ⊕ (Nat × Mm))} (h : xb F f = some o) (hz : ∀ x, F = some x → CTXr l y (ws_ y bytes maxL ret) fr lo mc ms (va_rf (some q) :: As) σ x) (hmd : MD y n) (hdg : decode cc pc = .ok (.invokespecial idx, 3)) (hn : As.length = n) (hst : stk = As.reverse ++ va_rf (some q) :: st) (hcat : c1 st) (hst8 : st.length ≤ 8) (hrm : fr + 1 ≤ R.frames ∧ 8 + (maxL + 11) + lo ≤ R.locals) (hc : kc + mc ≤ R.cells ∧ kz + ms ≤ R.slots) (hMc : kc + mc ≤ MC) (hMs : kz + ms ≤ MZ) (kk : ∀ r σ1, mN σ ≤ mN σ1 → f (r, σ1) = some o → WM p l e R s m args below meth c (vx_MQ below Qc (XQX D dA sz0 ad0 N0 o) args s MC MZ (Ab sz0)) nL D dA sz0 ad0 N0 (kc + mc) (kz + ms) σ1 ℓ (va_rf r :: st) (pc + 3)) : WM p l e R s m args below meth c (vx_MQ below Qc (XQX D dA sz0 ad0 N0 o) args s MC MZ (Ab sz0)) nL D dA sz0 ad0 N0 kc kz σ ℓ stk pc := by
  subst hst
  obtain ⟨x0, hF, h9⟩ := Option.bind_eq_some_iff.mp h
  intro ad H locs ls g1 g2 g3 g4 gz g5 g6 g7
  have hV : VK σ (va_rf (some q) :: As) := by
    intro w hw
    rcases List.mem_cons.mp hw with e | e
    · rw [e]; exact g6 _ (List.mem_append_right _ List.mem_cons_self)
    · exact g6 w (List.mem_append_left _ (List.mem_reverse.mpr e))
  have hlen : (sm ad As).length = n := by simp [sm, hn]
  have hcat' : ((sm ad st).map fun v => v.category).sum ≤ 8 := by rw [sm_cat]; exact c1_s hcat hst8
  rw [sm_stackR]
  exact xw_run_r X hno h9 g1 g2 g4 gz g5 g6.right.tail g7 hMc hMs (vx_runSU (As := sm ad As) (rest := sm ad st) (hS.1.1 ci _ hcd.1.1).2 X.1 (hz x0 hF D dA sz0 ad) (va_cwSU n X.1.2.2.2.2 (cU_T hq hsm hsu hmi hini hco) rfl rfl rfl ⟨hni, hmd.1.2.2⟩ hrm) ⟨PC_blind, wm_recv hS g3 hcd hs, fun U hU hW => ⟨rfl, ST_call hS g1 hW hU g4, by rw [hU]; exact g3, hV⟩⟩ rfl hlen g7.1 rfl (lv_room hcat') hdg hc) kk
theorem wm_dU_r {γ : Type} {MC MZ CC ZZ : Nat} {Qc : Array Value → State → Outcome → State → Prop} {o : γ ⊕ (Nat × Mm)} (X : CX p s m args meth c cc nL own) (hS : ST D dA sz0 ad0 s) (hno : ∀ x ∈ c.exceptionTable.toList, False) (hcd : CD ci C T N ty) (hs : mS σ q = ci) (hni : y.name ≠ "<init>") (hsm : Cond.sameMethod y.cls y.cls y.name y.desc ∈ lw_all) (hsu : Cond.superclass own y.cls ∈ lw_all) (hmi : Cond.instanceMethod y ∈ lw_all) (hini : Cond.initialized y.cls ∈ lw_all) (hco : Cond.code y bytes maxL ret ∈ lw_all) (hq : Cond.methodLink own idx y ∈ lw_all) {F : DX (Option Nat × Mm)} {f : (Option Nat × Mm) → DX γ} (h : db F f = some (o, CC, ZZ)) (hMc : kc + CC ≤ MC) (hMz : kz + ZZ ≤ MZ) (hz : ∀ x c1 z1, F = some (x, c1, z1) → CTXr l y (ws_ y bytes maxL ret) fr lo c1 z1 (va_rf (some q) :: As) σ x) (hmd : MD y n) (hdg : decode cc pc = .ok (.invokespecial idx, 3)) (hn : As.length = n) (hst : stk = As.reverse ++ va_rf (some q) :: st) (hcat : c1 st) (hst8 : st.length ≤ 8) (hrm : fr + 1 ≤ R.frames ∧ 8 + (maxL + 11) + lo ≤ R.locals) (hR1 : MC ≤ R.cells) (hR2 : MZ ≤ R.slots) (kk : ∀ r σ1 c1 z1 C1 Z1, mN σ ≤ mN σ1 → f (r, σ1) = some (o, C1, Z1) → kc + c1 + C1 ≤ MC → kz + z1 + Z1 ≤ MZ → WM p l e R s m args below meth c (vx_MQ below Qc (XQX D dA sz0 ad0 N0 o) args s MC MZ (Ab sz0)) nL D dA sz0 ad0 N0 (kc + c1) (kz + z1) σ1 ℓ (va_rf r :: st) (pc + 3)) : WM p l e R s m args below meth c (vx_MQ below Qc (XQX D dA sz0 ad0 N0 o) args s MC MZ (Ab sz0)) nL D dA sz0 ad0 N0 kc kz σ ℓ stk pc := by
  obtain ⟨⟨x, c9, z9⟩, hm, h⟩ := Option.bind_eq_some_iff.mp h
  have hz' : ∀ x', some x = some x' → CTXr l y (ws_ y bytes maxL ret) fr lo c9 z9 (va_rf (some q) :: As) σ x' := fun x' hx => by
    cases hx
    exact hz x c9 z9 hm
  cases x with
  | inr e8 =>
    cases h
    exact wm_xcU_r (f := fun _ => none) X hS hno hcd hs hni hsm hsu hmi hini hco hq (F := some (.inr e8)) rfl hz' hmd hdg hn hst hcat hst8 hrm ⟨Nat.le_trans hMc hR1, Nat.le_trans hMz hR2⟩ hMc hMz (fun r σ1 _ hf => by cases hf)
  | inl a8 =>
    obtain ⟨C1, Z1, h, hMc, hMz⟩ := pay_d h hMc hMz
    refine wm_xcU_r (f := fun a => @ite _ (a = a8) (Classical.propDecidable _) (some o) none) X hS hno hcd hs hni hsm hsu hmi hini hco hq (F := some (.inl a8)) (if_pos rfl) hz' hmd hdg hn hst hcat hst8 hrm ⟨Nat.le_trans (le_p hMc) hR1, Nat.le_trans (le_p hMz) hR2⟩ (le_p hMc) (le_p hMz) (fun r σ1 hN hf => ?_)
    by_cases ha : (r, σ1) = a8
    · rw [← ha] at h
      exact kk r σ1 c9 z9 C1 Z1 hN h hMc hMz
    · rw [if_neg ha] at hf
      cases hf
theorem wm_cK_i (X : CX p s m args meth c cc nL own) (hS : ST D dA sz0 ad0 s) (hs : mS σ q = 520) (hC : y.cls = roC 20) (hmv : MV y bytes maxL ret) (hq : Cond.methodLink own idx y ∈ lw_all) {F : Option (Int32 × Mm)} {f : (Int32 × Mm) → Option β} (h : F.bind f = some o) (hz : ∀ r σ1, F = some (r, σ1) → CTi l y (ws_ y bytes maxL ret) fr lo mc ms (va_rf (some q) :: As) σ r σ1) (hmd : MD y n) (hdg : decode cc pc = .ok (.invokevirtual idx, 3)) (hn : As.length = n) (hst : stk = As.reverse ++ va_rf (some q) :: st) (hcat : c1 st) (hst8 : st.length ≤ 8) (hrm : fr + 1 ≤ R.frames ∧ 8 + (maxL + 11) + lo ≤ R.locals) (hc : kc + mc ≤ R.cells ∧ kz + ms ≤ R.slots) (kk : ∀ r σ1, mN σ ≤ mN σ1 → f (r, σ1) = some o → WM p l e R s m args below meth c Q nL D dA sz0 ad0 N0 (kc + mc) (kz + ms) σ1 ℓ (.int r :: st) (pc + 3)) : WM p l e R s m args below meth c Q nL D dA sz0 ad0 N0 kc kz σ ℓ stk pc := by
  subst hst
  obtain ⟨⟨r, σ1⟩, hF, h⟩ := Option.bind_eq_some_iff.mp h
  intro ad H locs ls g1 g2 g3 g4 gz g5 g6 g7
  have hV : VK σ (va_rf (some q) :: As) := by
    intro w hw
    rcases List.mem_cons.mp hw with e | e
    · rw [e]; exact g6 _ (List.mem_append_right _ List.mem_cons_self)
    · exact g6 w (List.mem_append_left _ (List.mem_reverse.mpr e))
  have hlen : (sm ad As).length = n := by simp [sm, hn]
  have hcat' : ((sm ad st).map fun v => v.category).sum ≤ 8 := by rw [sm_cat]; exact c1_s hcat hst8
  rw [sm_stackR]
  exact wm_run_i (fr := fr) (lo := lo) g1 g2 g4 gz g5 g6.right.tail g7 (va_runV (As := sm ad As) (rest := sm ad st) X.1 (hz r σ1 hF D dA sz0 ad) (cwV n X.1.2.2.2.2 (lw_V hq hmv.1 hmv.2.1 hmv.2.2.1 hmv.2.2.2) rfl rfl rfl ⟨rfl, hmd.1⟩ hrm) ⟨PC_blind, hC ▸ wm_rorecv hS g1 g3 g4 (ci := 20) hs (by decide), fun U hU hW => ⟨rfl, ST_call hS g1 hW hU g4, by rw [hU]; exact g3, hV⟩⟩ rfl hlen g7.1 rfl (lv_room hcat') hdg hc) (fun hN => kk r σ1 hN h)
theorem wm_cK_v (X : CX p s m args meth c cc nL own) (hS : ST D dA sz0 ad0 s) (hs : mS σ q = 520) (hC : y.cls = roC 20) (hmv : MV y bytes maxL ret) (hq : Cond.methodLink own idx y ∈ lw_all) {F : Option Mm} {f : Mm → Option β} (h : F.bind f = some o) (hz : ∀ σ1, F = some σ1 → CTv l y (ws_ y bytes maxL ret) fr lo mc ms (va_rf (some q) :: As) σ σ1) (hmd : MD y n) (hdg : decode cc pc = .ok (.invokevirtual idx, 3)) (hn : As.length = n) (hst : stk = As.reverse ++ va_rf (some q) :: st) (hcat : c1 st) (hst8 : st.length ≤ 8) (hrm : fr + 1 ≤ R.frames ∧ 8 + (maxL + 11) + lo ≤ R.locals) (hc : kc + mc ≤ R.cells ∧ kz + ms ≤ R.slots) (kk : ∀ σ1, mN σ ≤ mN σ1 → f σ1 = some o → WM p l e R s m args below meth c Q nL D dA sz0 ad0 N0 (kc + mc) (kz + ms) σ1 ℓ (st) (pc + 3)) : WM p l e R s m args below meth c Q nL D dA sz0 ad0 N0 kc kz σ ℓ stk pc := by
  subst hst
  obtain ⟨σ1, hF, h⟩ := Option.bind_eq_some_iff.mp h
  intro ad H locs ls g1 g2 g3 g4 gz g5 g6 g7
  have hV : VK σ (va_rf (some q) :: As) := by
    intro w hw
    rcases List.mem_cons.mp hw with e | e
    · rw [e]; exact g6 _ (List.mem_append_right _ List.mem_cons_self)
    · exact g6 w (List.mem_append_left _ (List.mem_reverse.mpr e))
  have hlen : (sm ad As).length = n := by simp [sm, hn]
  have hcat' : ((sm ad st).map fun v => v.category).sum ≤ 8 := by rw [sm_cat]; exact c1_s hcat hst8
  rw [sm_stackR]
  exact wm_run_v (fr := fr) (lo := lo) g1 g2 g4 gz g5 g6.right.tail g7 (va_runV (As := sm ad As) (rest := sm ad st) X.1 (hz σ1 hF D dA sz0 ad) (cwV n X.1.2.2.2.2 (lw_V hq hmv.1 hmv.2.1 hmv.2.2.1 hmv.2.2.2) rfl rfl rfl ⟨rfl, hmd.1⟩ hrm) ⟨PC_blind, hC ▸ wm_rorecv hS g1 g3 g4 (ci := 20) hs (by decide), fun U hU hW => ⟨rfl, ST_call hS g1 hW hU g4, by rw [hU]; exact g3, hV⟩⟩ rfl hlen g7.1 rfl (lv_room hcat') hdg hc) (fun hN => kk σ1 hN h)
theorem wm_cK_r (X : CX p s m args meth c cc nL own) (hS : ST D dA sz0 ad0 s) (hs : mS σ q = 520) (hC : y.cls = roC 20) (hmv : MV y bytes maxL ret) (hq : Cond.methodLink own idx y ∈ lw_all) {F : Option (Option Nat × Mm)} {f : (Option Nat × Mm) → Option β} (h : F.bind f = some o) (hz : ∀ r σ1, F = some (r, σ1) → CTr l y (ws_ y bytes maxL ret) fr lo mc ms (va_rf (some q) :: As) σ r σ1) (hmd : MD y n) (hdg : decode cc pc = .ok (.invokevirtual idx, 3)) (hn : As.length = n) (hst : stk = As.reverse ++ va_rf (some q) :: st) (hcat : c1 st) (hst8 : st.length ≤ 8) (hrm : fr + 1 ≤ R.frames ∧ 8 + (maxL + 11) + lo ≤ R.locals) (hc : kc + mc ≤ R.cells ∧ kz + ms ≤ R.slots) (kk : ∀ r σ1, mN σ ≤ mN σ1 → f (r, σ1) = some o → WM p l e R s m args below meth c Q nL D dA sz0 ad0 N0 (kc + mc) (kz + ms) σ1 ℓ (va_rf r :: st) (pc + 3)) : WM p l e R s m args below meth c Q nL D dA sz0 ad0 N0 kc kz σ ℓ stk pc := by
  subst hst
  obtain ⟨⟨r, σ1⟩, hF, h⟩ := Option.bind_eq_some_iff.mp h
  intro ad H locs ls g1 g2 g3 g4 gz g5 g6 g7
  have hV : VK σ (va_rf (some q) :: As) := by
    intro w hw
    rcases List.mem_cons.mp hw with e | e
    · rw [e]; exact g6 _ (List.mem_append_right _ List.mem_cons_self)
    · exact g6 w (List.mem_append_left _ (List.mem_reverse.mpr e))
  have hlen : (sm ad As).length = n := by simp [sm, hn]
  have hcat' : ((sm ad st).map fun v => v.category).sum ≤ 8 := by rw [sm_cat]; exact c1_s hcat hst8
  rw [sm_stackR]
  exact wm_run_r (fr := fr) (lo := lo) g1 g2 g4 gz g5 g6.right.tail g7 (va_runV (As := sm ad As) (rest := sm ad st) X.1 (hz r σ1 hF D dA sz0 ad) (cwV n X.1.2.2.2.2 (lw_V hq hmv.1 hmv.2.1 hmv.2.2.1 hmv.2.2.2) rfl rfl rfl ⟨rfl, hmd.1⟩ hrm) ⟨PC_blind, hC ▸ wm_rorecv hS g1 g3 g4 (ci := 20) hs (by decide), fun U hU hW => ⟨rfl, ST_call hS g1 hW hU g4, by rw [hU]; exact g3, hV⟩⟩ rfl hlen g7.1 rfl (lv_room hcat') hdg hc) (fun hN => kk r σ1 hN h)
theorem wm_xcI_v {γ : Type} {MC MZ : Nat} {Qc : Array Value → State → Outcome → State → Prop} {o : γ ⊕ (Nat × Mm)} (X : CX p s m args meth c cc nL own) (hS : ST D dA sz0 ad0 s) (hno : ∀ x ∈ c.exceptionTable.toList, False) (hmv : MI y bytes maxL) (hq : Cond.methodLink own idx y ∈ lw_all) {F : Option (Mm ⊕ (Nat × Mm))} {f : Mm → Option (γ ⊕ (Nat × Mm))} (h : xb F f = some o) (hz : ∀ x, F = some x → CTXv l y (ws_ y bytes maxL none) fr lo mc ms (va_rf (some q) :: As) σ x) (hmd : MD y n) (hdg : decode cc pc = .ok (.invokespecial idx, 3)) (hn : As.length = n) (hst : stk = As.reverse ++ va_rf (some q) :: st) (hcat : c1 st) (hst8 : st.length ≤ 8) (hrm : fr + 1 ≤ R.frames ∧ 8 + (maxL + 11) + lo ≤ R.locals) (hc : kc + mc ≤ R.cells ∧ kz + ms ≤ R.slots) (hMc : kc + mc ≤ MC) (hMs : kz + ms ≤ MZ) (kk : ∀ σ1, mN σ ≤ mN σ1 → f σ1 = some o → WM p l e R s m args below meth c (vx_MQ below Qc (XQX D dA sz0 ad0 N0 o) args s MC MZ (Ab sz0)) nL D dA sz0 ad0 N0 (kc + mc) (kz + ms) σ1 ℓ (st) (pc + 3)) : WM p l e R s m args below meth c (vx_MQ below Qc (XQX D dA sz0 ad0 N0 o) args s MC MZ (Ab sz0)) nL D dA sz0 ad0 N0 kc kz σ ℓ stk pc := by
  subst hst
  obtain ⟨x0, hF, h9⟩ := Option.bind_eq_some_iff.mp h
  intro ad H locs ls g1 g2 g3 g4 gz g5 g6 g7
  have hV : VK σ (va_rf (some q) :: As) := by
    intro w hw
    rcases List.mem_cons.mp hw with e | e
    · rw [e]; exact g6 _ (List.mem_append_right _ List.mem_cons_self)
    · exact g6 w (List.mem_append_left _ (List.mem_reverse.mpr e))
  have hlen : (sm ad As).length = n := by simp [sm, hn]
  have hcat' : ((sm ad st).map fun v => v.category).sum ≤ 8 := by rw [sm_cat]; exact c1_s hcat hst8
  rw [sm_stackR]
  exact xw_run_v X hno h9 g1 g2 g4 gz g5 g6.right.tail g7 hMc hMs (vx_runI (As := sm ad As) (rest := sm ad st) X.1 (hz x0 hF D dA sz0 ad) (cwI n X.1.2.2.2.2 (lw_meth hmv.2.2.1) rfl rfl rfl (X.1.2.2.2.2 _ hmv.2.1) (X.1.2.2.2.2 _ hq) (X.1.2.2.2.2 _ hmv.1) hmv.2.2.2 hmd.1 hrm) ⟨PC_blind, fun U hU hW => ⟨rfl, ST_call hS g1 hW hU g4, by rw [hU]; exact g3, hV⟩⟩ rfl hlen g7.1 rfl (lv_room hcat') hdg hc) kk
theorem wm_dI_v {γ : Type} {MC MZ CC ZZ : Nat} {Qc : Array Value → State → Outcome → State → Prop} {o : γ ⊕ (Nat × Mm)} (X : CX p s m args meth c cc nL own) (hS : ST D dA sz0 ad0 s) (hno : ∀ x ∈ c.exceptionTable.toList, False) (hmv : MI y bytes maxL) (hq : Cond.methodLink own idx y ∈ lw_all) {F : DX Mm} {f : Mm → DX γ} (h : db F f = some (o, CC, ZZ)) (hMc : kc + CC ≤ MC) (hMz : kz + ZZ ≤ MZ) (hz : ∀ x c1 z1, F = some (x, c1, z1) → CTXv l y (ws_ y bytes maxL none) fr lo c1 z1 (va_rf (some q) :: As) σ x) (hmd : MD y n) (hdg : decode cc pc = .ok (.invokespecial idx, 3)) (hn : As.length = n) (hst : stk = As.reverse ++ va_rf (some q) :: st) (hcat : c1 st) (hst8 : st.length ≤ 8) (hrm : fr + 1 ≤ R.frames ∧ 8 + (maxL + 11) + lo ≤ R.locals) (hR1 : MC ≤ R.cells) (hR2 : MZ ≤ R.slots) (kk : ∀ σ1 c1 z1 C1 Z1, mN σ ≤ mN σ1 → f σ1 = some (o, C1, Z1) → kc + c1 + C1 ≤ MC → kz + z1 + Z1 ≤ MZ → WM p l e R s m args below meth c (vx_MQ below Qc (XQX D dA sz0 ad0 N0 o) args s MC MZ (Ab sz0)) nL D dA sz0 ad0 N0 (kc + c1) (kz + z1) σ1 ℓ (st) (pc + 3)) : WM p l e R s m args below meth c (vx_MQ below Qc (XQX D dA sz0 ad0 N0 o) args s MC MZ (Ab sz0)) nL D dA sz0 ad0 N0 kc kz σ ℓ stk pc := by
  obtain ⟨⟨x, c9, z9⟩, hm, h⟩ := Option.bind_eq_some_iff.mp h
  have hz' : ∀ x', some x = some x' → CTXv l y (ws_ y bytes maxL none) fr lo c9 z9 (va_rf (some q) :: As) σ x' := fun x' hx => by
    cases hx
    exact hz x c9 z9 hm
  cases x with
  | inr e8 =>
    cases h
    exact wm_xcI_v (f := fun _ => none) X hS hno hmv hq (F := some (.inr e8)) rfl hz' hmd hdg hn hst hcat hst8 hrm ⟨Nat.le_trans hMc hR1, Nat.le_trans hMz hR2⟩ hMc hMz (fun σ1 _ hf => by cases hf)
  | inl a8 =>
    obtain ⟨C1, Z1, h, hMc, hMz⟩ := pay_d h hMc hMz
    refine wm_xcI_v (f := fun a => @ite _ (a = a8) (Classical.propDecidable _) (some o) none) X hS hno hmv hq (F := some (.inl a8)) (if_pos rfl) hz' hmd hdg hn hst hcat hst8 hrm ⟨Nat.le_trans (le_p hMc) hR1, Nat.le_trans (le_p hMz) hR2⟩ (le_p hMc) (le_p hMz) (fun σ1 hN hf => ?_)
    by_cases ha : σ1 = a8
    · rw [← ha] at h
      exact kk σ1 c9 z9 C1 Z1 hN h hMc hMz
    · rw [if_neg ha] at hf
      cases hf
/-- AbstractStringBuilder.length(), overridden by StringBuilder -/
abbrev yASBl : MethodName := ⟨"java/lang/AbstractStringBuilder", "length", "()I"⟩
theorem wm_lenSB (X : CX p s m args meth c cc nL own) (hS : ST D dA sz0 ad0 s) (hs : mS σ q = 19) {F : Option (Int32 × Mm)} {f : (Int32 × Mm) → Option β} (h : F.bind f = some o) (hz : ∀ r σ1, F = some (r, σ1) → CTi l yJ5_length (ws_ yJ5_length cJ5_length 1 (some .int)) fr lo mc ms [va_rf (some q)] σ r σ1) (hq : Cond.methodLink own idx yASBl ∈ lw_all) (hdg : decode cc pc = .ok (.invokevirtual idx, 3)) (hst : stk = va_rf (some q) :: st) (hcat : c1 st) (hst8 : st.length ≤ 8) (hrm : fr + 1 ≤ R.frames ∧ 8 + (1 + 11) + lo ≤ R.locals) (hc : kc + mc ≤ R.cells ∧ kz + ms ≤ R.slots) (kk : ∀ r σ1, mN σ ≤ mN σ1 → f (r, σ1) = some o → WM p l e R s m args below meth c Q nL D dA sz0 ad0 N0 (kc + mc) (kz + ms) σ1 ℓ (.int r :: st) (pc + 3)) : WM p l e R s m args below meth c Q nL D dA sz0 ad0 N0 kc kz σ ℓ stk pc := by
  subst hst
  obtain ⟨⟨r, σ1⟩, hF, h⟩ := Option.bind_eq_some_iff.mp h
  intro ad H locs ls g1 g2 g3 g4 gz g5 g6 g7
  have hcat' : ((sm ad st).map fun v => v.category).sum ≤ 8 := by rw [sm_cat]; exact c1_s hcat hst8
  have hT : GoodIn lw_all (va_wsO own idx "java/lang/StringBuilder" "java/lang/AbstractStringBuilder" yASBl yJ5_length (ws_ yJ5_length cJ5_length 1 (some .int))) := by
    refine lw_app ?_ (lw_meth q888)
    intro w hw
    simp only [List.mem_cons, List.not_mem_nil, or_false] at hw
    rcases hw with e | e | e | e | e | e
    · rw [e]; exact hq
    · rw [e]; exact q885
    · rw [e]; exact q884
    · rw [e]; exact q886
    · rw [e]; exact q887
    · rw [e]; exact q142
  exact wm_run_i (fr := fr) (lo := lo) g1 g2 g4 gz g5 g6.tail g7 (va_runU (As := []) (b := ad q) (rest := sm ad st) X.1 (hz r σ1 hF D dA sz0 ad) (va_cwO 0 X.1.2.2.2.2 hT rfl rfl rfl q890 ⟨by decide, by decide, by decide +kernel⟩ hrm) ⟨PC_blind, wm_recv hS g3 cd_19 hs, fun U hU hW => ⟨rfl, ST_call hS g1 hW hU g4, by rw [hU]; exact g3, fun w hw => g6 w (List.mem_cons.mpr (Or.inl (List.mem_singleton.mp hw)))⟩⟩ rfl rfl g7.1 rfl (lv_room hcat') hdg hc) (fun hN => kk r σ1 hN h)
end R11
