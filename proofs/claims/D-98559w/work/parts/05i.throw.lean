/-! THE LAYER, 8: methods that return or throw -/
def exN (k : Nat) : String := if k = 1 then "HungFaces$Wrong" else if k = 2 then "java/lang/IndexOutOfBoundsException" else if k = 3 then "java/lang/IllegalArgumentException" else if k = 4 then "java/lang/IllegalStateException" else if k = 5 then "java/util/NoSuchElementException" else "java/lang/UnsupportedOperationException"
/-- what such a method leaves: an answer, or the number of an exception and the memory -/
def xm {α β : Type} (f : α → Option (β ⊕ (Nat × Mm))) (o : α ⊕ (Nat × Mm)) : Option (β ⊕ (Nat × Mm)) := match o with
  | .inl x => f x
  | .inr e => some (.inr e)
def xb {α β : Type} (m : Option (α ⊕ (Nat × Mm))) (f : α → Option (β ⊕ (Nat × Mm))) : Option (β ⊕ (Nat × Mm)) := m.bind (xm f)
def rZx {β : Type} (x : Int32) (r : β) : Option ((Int32 × β) ⊕ (Nat × Mm)) := if x = 0 ∨ x = 1 then some (.inl (x, r)) else none
def thr {β : Type} (v : Option Nat) (σ : Mm) : Option (β ⊕ (Nat × Mm)) := v.bind fun p => if mS σ p = 9 then some (.inr (1, σ)) else none
def XN (sz0 : Nat) : String → State → State → Prop := vx_X (S := Unit) (fun _ => False) (fun _ _ _ => True) (Ab sz0)
def XB (D : va_G) (dA : Nat → ClassId) (sz0 : Nat) (ad0 : Nat → Nat) (n0 : Nat) (x : Nat × Mm) : String → State → State → Prop := vx_X (fun (ad : Nat → Nat) => Ex n0 ad0 ad ∧ n0 ≤ mN x.2) (fun E ad t => E = exN x.1 ∧ PM D dA sz0 ad x.2 t.heap) (Ab sz0)
def XQX (D : va_G) (dA : Nat → ClassId) (sz0 : Nat) (ad0 : Nat → Nat) (n0 : Nat) {α : Type} (x : α ⊕ (Nat × Mm)) : String → State → State → Prop := match x with
  | .inl _ => XN sz0
  | .inr y => XB D dA sz0 ad0 n0 y
def XQi (dA : Nat → ClassId) (D : va_G) (sz0 : Nat) (ad0 : Nat → Nat) (n0 : Nat) (x : (Int32 × Mm) ⊕ (Nat × Mm)) : Array Value → State → Outcome → State → Prop := match x with
  | .inl y => QI dA D sz0 ad0 n0 y.1 y.2
  | .inr _ => va_Qi (S := Unit) (fun _ _ => False) (fun _ _ => True) (Ab sz0)
def XQv (dA : Nat → ClassId) (D : va_G) (sz0 : Nat) (ad0 : Nat → Nat) (n0 : Nat) (x : Mm ⊕ (Nat × Mm)) : Array Value → State → Outcome → State → Prop := match x with
  | .inl y => QV dA D sz0 ad0 n0 y
  | .inr _ => va_Qv (S := Unit) (fun _ => False) (fun _ _ => True) (Ab sz0)
def XQr (dA : Nat → ClassId) (D : va_G) (sz0 : Nat) (ad0 : Nat → Nat) (n0 : Nat) (x : (Option Nat × Mm) ⊕ (Nat × Mm)) : Array Value → State → Outcome → State → Prop := match x with
  | .inl y => QR dA D sz0 ad0 n0 y.1 y.2
  | .inr _ => va_Qq (S := Unit) (fun _ _ => False) (fun _ _ => True) (Ab sz0)
def CTXi (l : Launch) (y : MethodName) (ws : List Cond) (fr lo mc ms : Nat) (As : List Value) (σ : Mm) (x : (Int32 × Mm) ⊕ (Nat × Mm)) : Prop := ∀ (D : va_G) (dA : Nat → ClassId) (sz0 : Nat) (ad0 : Nat → Nat), vx_Met l y ws (rmv fr lo mc ms) (PC D dA sz0 ad0 As σ) (XQi dA D sz0 ad0 (mN σ) x) (XQX D dA sz0 ad0 (mN σ) x) mc ms (Ab sz0)
abbrev WMxi (p : Program) (l : Launch) (e : Env) (s : State) (m : MethodId) (args : Array Value) (below : List Frame) (meth : Method) (c : Code) (fr lo mc ms nL : Nat) (D : va_G) (dA : Nat → ClassId) (sz0 : Nat) (ad0 : Nat → Nat) (N0 : Nat) (xo : (Int32 × Mm) ⊕ (Nat × Mm)) (kc kz : Nat) (σ : Mm) (ℓ : List (Nat × Value)) (st : List Value) (pc : Nat) : Prop := WM p l e (rmv fr lo mc ms) s m args below meth c (vx_MQ below (XQi dA D sz0 ad0 N0 xo) (XQX D dA sz0 ad0 N0 xo) args s mc ms (Ab sz0)) nL D dA sz0 ad0 N0 kc kz σ ℓ st pc
def CTXv (l : Launch) (y : MethodName) (ws : List Cond) (fr lo mc ms : Nat) (As : List Value) (σ : Mm) (x : Mm ⊕ (Nat × Mm)) : Prop := ∀ (D : va_G) (dA : Nat → ClassId) (sz0 : Nat) (ad0 : Nat → Nat), vx_Met l y ws (rmv fr lo mc ms) (PC D dA sz0 ad0 As σ) (XQv dA D sz0 ad0 (mN σ) x) (XQX D dA sz0 ad0 (mN σ) x) mc ms (Ab sz0)
abbrev WMxv (p : Program) (l : Launch) (e : Env) (s : State) (m : MethodId) (args : Array Value) (below : List Frame) (meth : Method) (c : Code) (fr lo mc ms nL : Nat) (D : va_G) (dA : Nat → ClassId) (sz0 : Nat) (ad0 : Nat → Nat) (N0 : Nat) (xo : Mm ⊕ (Nat × Mm)) (kc kz : Nat) (σ : Mm) (ℓ : List (Nat × Value)) (st : List Value) (pc : Nat) : Prop := WM p l e (rmv fr lo mc ms) s m args below meth c (vx_MQ below (XQv dA D sz0 ad0 N0 xo) (XQX D dA sz0 ad0 N0 xo) args s mc ms (Ab sz0)) nL D dA sz0 ad0 N0 kc kz σ ℓ st pc
def CTXr (l : Launch) (y : MethodName) (ws : List Cond) (fr lo mc ms : Nat) (As : List Value) (σ : Mm) (x : (Option Nat × Mm) ⊕ (Nat × Mm)) : Prop := ∀ (D : va_G) (dA : Nat → ClassId) (sz0 : Nat) (ad0 : Nat → Nat), vx_Met l y ws (rmv fr lo mc ms) (PC D dA sz0 ad0 As σ) (XQr dA D sz0 ad0 (mN σ) x) (XQX D dA sz0 ad0 (mN σ) x) mc ms (Ab sz0)
abbrev WMxr (p : Program) (l : Launch) (e : Env) (s : State) (m : MethodId) (args : Array Value) (below : List Frame) (meth : Method) (c : Code) (fr lo mc ms nL : Nat) (D : va_G) (dA : Nat → ClassId) (sz0 : Nat) (ad0 : Nat → Nat) (N0 : Nat) (xo : (Option Nat × Mm) ⊕ (Nat × Mm)) (kc kz : Nat) (σ : Mm) (ℓ : List (Nat × Value)) (st : List Value) (pc : Nat) : Prop := WM p l e (rmv fr lo mc ms) s m args below meth c (vx_MQ below (XQr dA D sz0 ad0 N0 xo) (XQX D dA sz0 ad0 N0 xo) args s mc ms (Ab sz0)) nL D dA sz0 ad0 N0 kc kz σ ℓ st pc
section R8
variable {p : Program} {l : Launch} {e : Env} {R : Room} {s : State} {m : MethodId} {args : Array Value} {below : List Frame} {meth : Method} {c : Code} {Q : State → Prop} {cc : ByteArray} {nL : Nat} {own : String} {D : va_G} {dA : Nat → ClassId} {sz0 : Nat} {ad0 : Nat → Nat} {N0 kc kz : Nat} {σ σ' : Mm} {ℓ ℓ' : List (Nat × Value)} {st : List Value} {pc : Nat} {β γ : Type} {ci : Nat} {C : String} {T : u_T} {N : Nat} {ty : Nat → FieldType} {idx : Nat} {v : Option Nat} {y : MethodName} {bytes : ByteArray} {maxL fr lo mc ms n MC MZ : Nat} {ret : Option FieldType} {As stk : List Value} {q : Nat} {Qc : Array Value → State → Outcome → State → Prop} {o : γ ⊕ (Nat × Mm)}
theorem ctx_start {y : MethodName} {maxL fr lo mc ms : Nat} {ret : Option FieldType} {As : List Value} {Qc : va_G → (Nat → ClassId) → Nat → (Nat → Nat) → Array Value → State → Outcome → State → Prop} {XC : va_G → (Nat → ClassId) → Nat → (Nat → Nat) → String → State → State → Prop} {n : Nat} (hy : MD y n) (hm : As.length ≤ maxL) (hc : c1 As)
    (body : ∀ (p : Program) (e : Env) (s : State) (m : MethodId) (args : Array Value) (below : List Frame) (meth : Method) (c : Code) (D : va_G) (dA : Nat → ClassId) (sz0 : Nat) (ad0 : Nat → Nat), CX p s m args meth c cc maxL y.cls → ST D dA sz0 ad0 s → meth.sig.returnType = ret → meth.name = y.name → (∀ x ∈ c.exceptionTable.toList, False) → WM p l e (rmv fr lo mc ms) s m args below meth c (vx_MQ below (Qc D dA sz0 ad0) (XC D dA sz0 ad0) args s mc ms (Ab sz0)) maxL D dA sz0 ad0 (mN σ) 0 0 σ (arL 0 As) [] 0) :
    ∀ (D : va_G) (dA : Nat → ClassId) (sz0 : Nat) (ad0 : Nat → Nat), vx_Met l y (ws_ y cc maxL ret) (rmv fr lo mc ms) (PC D dA sz0 ad0 As σ) (Qc D dA sz0 ad0) (XC D dA sz0 ad0) mc ms (Ab sz0) := by
  intro D dA sz0 ad0
  refine vx_ofW (cc := cc) (maxL := maxL) (ret := ret) hy.2 rfl ?_
  intro p e s m args below meth c s₁ B hml hno hv
  obtain ⟨rfl, hS, hP, hV⟩ := hv
  have hts := atoms_spec (ws := ws_ y cc maxL ret) B.pre
  have hts : ∀ w ∈ lw_all, w.before _ s = true := fun w h => hts w (List.mem_cons_of_mem _ h)
  have hown : s.vm.findClass y.cls = some m.cls := findClass_of_methodNamed B.named
  rw [lg_entry_eq]
  have hl := lv_entry (sm ad0 As) (n := maxL) (by rw [lg_sl_len _ _ hc]; exact hm)
  rw [arL_eq _ _ _ hc] at hl
  exact body p e s m _ below meth c D dA sz0 ad0 ⟨⟨B.exec, B.bytes, hml, hown, hts⟩, B.notSynchronized⟩ hS B.returns (name_of_methodNamed B.named B.method).1 hno ad0 s.heap [] _ Ex.rf (Nat.le_refl _) hP va_S.rf hP.2.2.2.1 (LK_args As 0 hc hV) VK.nil hl
theorem wm_xiret {mc ms : Nat} {x : Int32} {o : (Int32 × Mm) ⊕ (Nat × Mm)} (X : CX p s m args meth c cc nL own) (hr : meth.sig.returnType = some .int) (h : (some (Sum.inl (x, σ)) : Option ((Int32 × Mm) ⊕ (Nat × Mm))) = some o) (hdg : decode cc pc = .ok (.ireturn, 1)) (h1 : kc ≤ mc) (h2 : kz ≤ ms) : WM p l e R s m args below meth c (vx_MQ below (XQi dA D sz0 ad0 N0 o) (XQX D dA sz0 ad0 N0 o) args s mc ms (Ab sz0)) nL D dA sz0 ad0 N0 kc kz σ ℓ [.int x] pc := by
  cases h
  exact fun ad H locs ls g1 g2 g3 g4 gz g5 g6 g7 => vx_ret (wm_iret (r := x) (σ' := σ) X hr rfl hdg h1 h2 ad H locs ls g1 g2 g3 g4 gz g5 g6 g7)
theorem wm_xzret {mc ms : Nat} {x : Int32} {o : (Int32 × Mm) ⊕ (Nat × Mm)} (X : CX p s m args meth c cc nL own) (hr : meth.sig.returnType = some .boolean) (h : rZx x σ = some o) (hdg : decode cc pc = .ok (.ireturn, 1)) (h1 : kc ≤ mc) (h2 : kz ≤ ms) : WM p l e R s m args below meth c (vx_MQ below (XQi dA D sz0 ad0 N0 o) (XQX D dA sz0 ad0 N0 o) args s mc ms (Ab sz0)) nL D dA sz0 ad0 N0 kc kz σ ℓ [.int x] pc := by
  unfold rZx at h
  split at h
  case isFalse => cases h
  case isTrue hx =>
  cases h
  exact fun ad H locs ls g1 g2 g3 g4 gz g5 g6 g7 => vx_ret (wm_zret (r := x) (σ' := σ) X hr (by unfold rZ; rw [if_pos hx]) hdg h1 h2 ad H locs ls g1 g2 g3 g4 gz g5 g6 g7)
theorem wm_xvret {mc ms : Nat} {o : Mm ⊕ (Nat × Mm)} (X : CX p s m args meth c cc nL own) (hr : meth.sig.returnType = none) (h : (some (Sum.inl σ) : Option (Mm ⊕ (Nat × Mm))) = some o) (hdg : decode cc pc = .ok (.return_, 1)) (h1 : kc ≤ mc) (h2 : kz ≤ ms) : WM p l e R s m args below meth c (vx_MQ below (XQv dA D sz0 ad0 N0 o) (XQX D dA sz0 ad0 N0 o) args s mc ms (Ab sz0)) nL D dA sz0 ad0 N0 kc kz σ ℓ [] pc := by
  cases h
  exact fun ad H locs ls g1 g2 g3 g4 gz g5 g6 g7 => vx_ret (wm_vret (σ' := σ) X hr rfl hdg h1 h2 ad H locs ls g1 g2 g3 g4 gz g5 g6 g7)
theorem wm_xaret {mc ms : Nat} {x : Option Nat} {rt : FieldType} {o : (Option Nat × Mm) ⊕ (Nat × Mm)} (X : CX p s m args meth c cc nL own) (hr : meth.sig.returnType = some rt) (hrt : (∃ n, rt = .object n) ∨ ∃ t, rt = .array t) (h : (some (Sum.inl (x, σ)) : Option ((Option Nat × Mm) ⊕ (Nat × Mm))) = some o) (hdg : decode cc pc = .ok (.areturn, 1)) (h1 : kc ≤ mc) (h2 : kz ≤ ms) : WM p l e R s m args below meth c (vx_MQ below (XQr dA D sz0 ad0 N0 o) (XQX D dA sz0 ad0 N0 o) args s mc ms (Ab sz0)) nL D dA sz0 ad0 N0 kc kz σ ℓ [va_rf x] pc := by
  cases h
  exact fun ad H locs ls g1 g2 g3 g4 gz g5 g6 g7 => vx_ret (wm_aret (r := x) (σ' := σ) X hr hrt rfl hdg h1 h2 ad H locs ls g1 g2 g3 g4 gz g5 g6 g7)
/-- an exception in flight leaves the method -/
theorem xw_out {k : Nat} {σ1 : Mm} {E : String} {ce : Cell} {q : Addr} {ad : Nat → Nat} {H : Heap} {locs : List Loc} {ls : Array Slot} {rest : List Value} (X : CX p s m args meth c cc nL own) (hno : ∀ x ∈ c.exceptionTable.toList, False) (ho : o = .inr (k, σ1)) (hE : E = exN k) (g1 : Ex N0 ad0 ad) (g2 : N0 ≤ mN σ1) (g3 : PM D dA sz0 ad σ1 H) (g4 : va_S (Ab sz0) s.heap H locs) (hcell : H[q]? = some ce) (hv : ce.vm = .none) (hcl : s.vm.findClass E = some ce.cls) (hc : kc ≤ MC) (hs : kz ≤ MZ) : vx_W p l e R s m args below meth c H locs kc kz (vx_MQ below Qc (XQX D dA sz0 ad0 N0 o) args s MC MZ (Ab sz0)) (F0 m pc ls rest) q := by
  subst ho
  refine vx_out (fun x hx => (hno x hx).elim) X.2 hcell hv hcl (fun t ht hA => ?_) g4.2.2 hc hs
  exact ⟨ad, ⟨g1, g2⟩, ⟨hE, by rw [ht]; exact g3⟩, g4.F ht⟩
/-- throw new E() of the JDK's -/
theorem wm_throw0 {k ik ic : Nat} {names : List String} {cls : String} (X : CX p s m args meth c cc nL own) (hS : ST D dA sz0 ad0 s) (hl : l.stackTraces = false) (hno : ∀ x ∈ c.exceptionTable.toList, False) (h : (some (Sum.inr (k, σ)) : Option (γ ⊕ (Nat × Mm))) = some o) (hk : exN k = cls) (hat : ∀ w ∈ vx_at0 own ic cls names, w ∈ lw_all ∨ w ∈ nwl) (q1 : Cond.classLink own ik cls ∈ lw_all) (q2 : Cond.initialized cls ∈ lw_all) (hcls : Bundle.fit cls = true) (hnames : ∀ n ∈ names, Bundle.fit n = true)
    (d0 : decode cc pc = .ok (.new ik, 3)) (d3 : decode cc (pc + 3) = .ok (.dup, 1)) (d4 : decode cc (pc + 4) = .ok (.invokespecial ic, 3)) (d7 : decode cc (pc + 7) = .ok (.athrow, 1)) (hst : c1 st) (h8 : st.length ≤ 8) (hf : names.length + 3 < R.frames) (hlo : 8 + (13 * (names.length + 1) + 42) ≤ R.locals) (hRc : kc + 1 ≤ R.cells) (hRs : kz + 6 ≤ R.slots) (hMc : kc + 1 ≤ MC) (hMs : kz + 6 ≤ MZ) : WM p l e R s m args below meth c (vx_MQ below Qc (XQX D dA sz0 ad0 N0 o) args s MC MZ (Ab sz0)) nL D dA sz0 ad0 N0 kc kz σ ℓ st pc := by
  cases h
  have hb0 : ∀ w, w ∈ lw_all ∨ w ∈ nwl → w.before args s = true := fun w hw => hw.elim (X.1.2.2.2.2 w) (fun z => va_Nw.use (nw_start w z).2 (hS.2.1 w z))
  have hg0 : ∀ w, w ∈ lw_all ∨ w ∈ nwl → vx_ot w = true := fun w hw => hw.elim (fun z => by unfold vx_ot; rw [(List.mem_filter.mp z).2]; simp) (fun z => by unfold vx_ot; rw [(nw_start w z).2]; rfl)
  intro ad H locs ls g1 g2 g3 g4 gz g5 g6 g7
  have h0 : ((sm ad st).map fun v => v.category).sum ≤ 8 := (by rw [sm_cat]; exact c1_s hst h8)
  refine vx_throw0 X.1.1 X.1.2.1 hl X.1.2.2.2.1 hcls hnames (hb0 _ (Or.inl q1)) (hb0 _ (Or.inl q2)) (fun w hw => hb0 w (hat w hw)) (fun w hw => ?_) hS.2.2.1.2.2.2.2.2.2.1 hS.2.2.1.2.2.2.2.2.2.2 g4 (g7.1.trans X.1.2.2.1.symm) d0 d3 d4 d7 (fun x hx => (hno x hx).elim) hf (Nat.le_trans (Nat.add_le_add_right h0 _) hlo) hRc hRs X.2 (fun t hA hz hq => ?_) g4.2.2 hMc hMs
  · rcases List.mem_cons.mp hw with rfl | hw
    · exact hg0 _ (Or.inl q1)
    · rcases List.mem_cons.mp hw with rfl | hw
      · exact hg0 _ (Or.inl q2)
      · exact hg0 _ (hat w hw)
  · refine ⟨ad, ⟨g1, g2⟩, ⟨hk.symm, ?_⟩, Nat.le_trans g4.1 hz, fun q h1 h2 => (hq q (Nat.lt_of_lt_of_le h1 g4.1)).trans (g4.2.1 q h1 h2)⟩
    exact ⟨g3.1.kept (fun k q hk => hq q.1 (g3.1 k q hk).lt), g3.2.1, g3.2.2.1, Nat.le_trans g3.2.2.2.1 hz, g3.2.2.2.2⟩
/-- throw an object of Wrong -/
theorem wm_athrowW (X : CX p s m args meth c cc nL own) (hS : ST D dA sz0 ad0 s) (hno : ∀ x ∈ c.exceptionTable.toList, False) (h : (thr v σ : Option (γ ⊕ (Nat × Mm))) = some o) (hdg : decode cc pc = .ok (.athrow, 1)) (hMc : kc ≤ MC) (hMs : kz ≤ MZ) : WM p l e R s m args below meth c (vx_MQ below Qc (XQX D dA sz0 ad0 N0 o) args s MC MZ (Ab sz0)) nL D dA sz0 ad0 N0 kc kz σ ℓ (va_rf v :: st) pc := by
  cases v with
  | none => cases h
  | some q =>
  simp only [thr, Option.bind_some] at h
  split at h
  case isFalse => cases h
  case isTrue hs =>
  intro ad H locs ls g1 g2 g3 g4 gz g5 g6 g7
  obtain ⟨cell, h1, h2, h3⟩ := wm_recv hS g3 cd_9 hs
  have hp := g3.1 q _ ((g3.at hs (by omega) (by omega)).trans (congrArg some (pent_o hs (by omega))))
  obtain ⟨r, e1, cell', e2, e3, e4, -⟩ := hp
  cases h1.symm.trans e2
  exact vx_athrow X.1.1 X.1.2.1 hdg (xw_out (k := 1) (E := "HungFaces$Wrong") X hno (Option.some.inj h).symm rfl g1 g2 g3 g4 e2 e4 h3 hMc hMs)
theorem xw_run_i {x : (Int32 × Mm) ⊕ (Nat × Mm)} {f : (Int32 × Mm) → Option (γ ⊕ (Nat × Mm))} {a : Array Value} {ad : Nat → Nat} {H : Heap} {locs : List Loc} {ls : Array Slot} {st0 : List Value} (X : CX p s m args meth c cc nL own) (hno : ∀ x ∈ c.exceptionTable.toList, False) (h : xm f x = some o) (g1 : Ex N0 ad0 ad) (g2 : N0 ≤ mN σ) (g4 : va_S (Ab sz0) s.heap H locs) (gz : sz0 ≤ s.heap.size) (g5 : LK σ ℓ) (g6 : VK σ st) (g7 : lv_has ls nL (lm ad ℓ)) (hc : kc + mc ≤ MC) (hs : kz + ms ≤ MZ) (hr : vx_Run p l e R s m args below meth c H locs kc kz mc ms (F0 m pc ls st0) (sm ad st) (XQi dA D sz0 ad (mN σ) x a) (XQX D dA sz0 ad (mN σ) x) (Ab sz0)) (kk : ∀ r σ1, mN σ ≤ mN σ1 → f (r, σ1) = some o → WM p l e R s m args below meth c (vx_MQ below Qc (XQX D dA sz0 ad0 N0 o) args s MC MZ (Ab sz0)) nL D dA sz0 ad0 N0 (kc + mc) (kz + ms) σ1 ℓ (.int r :: st) (pc + 3)) : W p l e R s m args below meth c H locs kc kz (vx_MQ below Qc (XQX D dA sz0 ad0 N0 o) args s MC MZ (Ab sz0)) (F0 m pc ls st0) := by
  cases x with
  | inl y0 =>
    obtain ⟨y1, y2⟩ := y0
    refine vx_calli (a := a) hr g4 (fun q _ h => h) (fun q h => h) (fun q _ h => h) (fun E ce q9 u t H1 locs1 ht hvm hp => hp.elim) (fun x u t H1 locs1 ht hvm hp hB hz1 hk1 hS1 => ?_)
    obtain ⟨rfl, hE, hN⟩ := hp
    have hk := kk x y2 hN h u H1 locs1 ls (g1.trans hE g2) (Nat.le_trans g2 hN) (by rw [← ht]; exact hB) hS1 gz (g5.mono hN) ((g6.mono hN).cons vok_int) (by rw [hE.lm g5]; exact g7)
    rw [show sm u (.int x :: st) = .int x :: sm ad st from congrArg (Value.int x :: ·) (hE.sm g6)] at hk
    exact hk
  | inr e0 =>
    obtain ⟨k, σ1⟩ := e0
    refine vx_calli (a := a) hr g4 (fun q _ h => h) (fun q h => h) (fun q _ h => h) (fun E ce q9 u t H1 locs1 ht hvm hp hB hz1 hk1 hS1 hce hcv hcl => ?_) (fun x u t H1 locs1 ht hvm hp hB hz1 hk1 hS1 => hp.elim)
    exact xw_out X hno (Option.some.inj h).symm hB.1 (g1.trans hp.1 g2) (Nat.le_trans g2 hp.2) (by rw [← ht]; exact hB.2) hS1 hce hcv hcl hc hs
theorem xw_run_v {x : Mm ⊕ (Nat × Mm)} {f : Mm → Option (γ ⊕ (Nat × Mm))} {a : Array Value} {ad : Nat → Nat} {H : Heap} {locs : List Loc} {ls : Array Slot} {st0 : List Value} (X : CX p s m args meth c cc nL own) (hno : ∀ x ∈ c.exceptionTable.toList, False) (h : xm f x = some o) (g1 : Ex N0 ad0 ad) (g2 : N0 ≤ mN σ) (g4 : va_S (Ab sz0) s.heap H locs) (gz : sz0 ≤ s.heap.size) (g5 : LK σ ℓ) (g6 : VK σ st) (g7 : lv_has ls nL (lm ad ℓ)) (hc : kc + mc ≤ MC) (hs : kz + ms ≤ MZ) (hr : vx_Run p l e R s m args below meth c H locs kc kz mc ms (F0 m pc ls st0) (sm ad st) (XQv dA D sz0 ad (mN σ) x a) (XQX D dA sz0 ad (mN σ) x) (Ab sz0)) (kk : ∀ σ1, mN σ ≤ mN σ1 → f σ1 = some o → WM p l e R s m args below meth c (vx_MQ below Qc (XQX D dA sz0 ad0 N0 o) args s MC MZ (Ab sz0)) nL D dA sz0 ad0 N0 (kc + mc) (kz + ms) σ1 ℓ (st) (pc + 3)) : W p l e R s m args below meth c H locs kc kz (vx_MQ below Qc (XQX D dA sz0 ad0 N0 o) args s MC MZ (Ab sz0)) (F0 m pc ls st0) := by
  cases x with
  | inl y0 =>
    refine vx_callv (a := a) hr g4 (fun q _ h => h) (fun q h => h) (fun q _ h => h) (fun E ce q9 u t H1 locs1 ht hvm hp => hp.elim) (fun u t H1 locs1 ht hvm hp hB hz1 hk1 hS1 => ?_)
    obtain ⟨hE, hN⟩ := hp
    have hk := kk y0 hN h u H1 locs1 ls (g1.trans hE g2) (Nat.le_trans g2 hN) (by rw [← ht]; exact hB) hS1 gz (g5.mono hN) (g6.mono hN) (by rw [hE.lm g5]; exact g7)
    rw [hE.sm g6] at hk
    exact hk
  | inr e0 =>
    obtain ⟨k, σ1⟩ := e0
    refine vx_callv (a := a) hr g4 (fun q _ h => h) (fun q h => h) (fun q _ h => h) (fun E ce q9 u t H1 locs1 ht hvm hp hB hz1 hk1 hS1 hce hcv hcl => ?_) (fun u t H1 locs1 ht hvm hp hB hz1 hk1 hS1 => hp.elim)
    exact xw_out X hno (Option.some.inj h).symm hB.1 (g1.trans hp.1 g2) (Nat.le_trans g2 hp.2) (by rw [← ht]; exact hB.2) hS1 hce hcv hcl hc hs
theorem xw_run_r {x : (Option Nat × Mm) ⊕ (Nat × Mm)} {f : (Option Nat × Mm) → Option (γ ⊕ (Nat × Mm))} {a : Array Value} {ad : Nat → Nat} {H : Heap} {locs : List Loc} {ls : Array Slot} {st0 : List Value} (X : CX p s m args meth c cc nL own) (hno : ∀ x ∈ c.exceptionTable.toList, False) (h : xm f x = some o) (g1 : Ex N0 ad0 ad) (g2 : N0 ≤ mN σ) (g4 : va_S (Ab sz0) s.heap H locs) (gz : sz0 ≤ s.heap.size) (g5 : LK σ ℓ) (g6 : VK σ st) (g7 : lv_has ls nL (lm ad ℓ)) (hc : kc + mc ≤ MC) (hs : kz + ms ≤ MZ) (hr : vx_Run p l e R s m args below meth c H locs kc kz mc ms (F0 m pc ls st0) (sm ad st) (XQr dA D sz0 ad (mN σ) x a) (XQX D dA sz0 ad (mN σ) x) (Ab sz0)) (kk : ∀ r σ1, mN σ ≤ mN σ1 → f (r, σ1) = some o → WM p l e R s m args below meth c (vx_MQ below Qc (XQX D dA sz0 ad0 N0 o) args s MC MZ (Ab sz0)) nL D dA sz0 ad0 N0 (kc + mc) (kz + ms) σ1 ℓ (va_rf r :: st) (pc + 3)) : W p l e R s m args below meth c H locs kc kz (vx_MQ below Qc (XQX D dA sz0 ad0 N0 o) args s MC MZ (Ab sz0)) (F0 m pc ls st0) := by
  cases x with
  | inl y0 =>
    obtain ⟨y1, y2⟩ := y0
    refine vx_callq (a := a) hr g4 (fun q _ h => h) (fun q h => h) (fun q _ h => h) (fun E ce q9 u t H1 locs1 ht hvm hp => hp.elim) (fun x u t H1 locs1 ht hvm hp hB hz1 hk1 hS1 => ?_)
    obtain ⟨rfl, hE, hN, hv9⟩ := hp
    have hk := kk y1 y2 hN h u H1 locs1 ls (g1.trans hE g2) (Nat.le_trans g2 hN) (by rw [← ht]; exact hB) hS1 gz (g5.mono hN) ((g6.mono hN).cons (vok_rf hv9)) (by rw [hE.lm g5]; exact g7)
    rw [show sm u (va_rf y1 :: st) = va_rf (y1.map u) :: sm ad st by rw [← cv_rf, ← hE.sm g6]; rfl] at hk
    exact hk
  | inr e0 =>
    obtain ⟨k, σ1⟩ := e0
    refine vx_callq (a := a) hr g4 (fun q _ h => h) (fun q h => h) (fun q _ h => h) (fun E ce q9 u t H1 locs1 ht hvm hp hB hz1 hk1 hS1 hce hcv hcl => ?_) (fun x u t H1 locs1 ht hvm hp hB hz1 hk1 hS1 => hp.elim)
    exact xw_out X hno (Option.some.inj h).symm hB.1 (g1.trans hp.1 g2) (Nat.le_trans g2 hp.2) (by rw [← ht]; exact hB.2) hS1 hce hcv hcl hc hs
theorem wm_xcV_i (X : CX p s m args meth c cc nL own) (hS : ST D dA sz0 ad0 s) (hno : ∀ x ∈ c.exceptionTable.toList, False) (hcd : CD ci C T N ty) (hs : mS σ q = ci) (hC : y.cls = C) {F : Option ((Int32 × Mm) ⊕ (Nat × Mm))} {f : (Int32 × Mm) → Option (γ ⊕ (Nat × Mm))} (h : xb F f = some o) (hz : ∀ x, F = some x → CTXi l y (ws_ y bytes maxL ret) fr lo mc ms (va_rf (some q) :: As) σ x) (hmd : MD y n) (hmv : MV y bytes maxL ret) (hq : Cond.methodLink own idx y ∈ lw_all) (hdg : decode cc pc = .ok (.invokevirtual idx, 3)) (hn : As.length = n) (hst : stk = As.reverse ++ va_rf (some q) :: st) (hcat : c1 st) (hst8 : st.length ≤ 8) (hrm : fr + 1 ≤ R.frames ∧ 8 + (maxL + 11) + lo ≤ R.locals) (hc : kc + mc ≤ R.cells ∧ kz + ms ≤ R.slots) (hMc : kc + mc ≤ MC) (hMs : kz + ms ≤ MZ) (kk : ∀ r σ1, mN σ ≤ mN σ1 → f (r, σ1) = some o → WM p l e R s m args below meth c (vx_MQ below Qc (XQX D dA sz0 ad0 N0 o) args s MC MZ (Ab sz0)) nL D dA sz0 ad0 N0 (kc + mc) (kz + ms) σ1 ℓ (.int r :: st) (pc + 3)) : WM p l e R s m args below meth c (vx_MQ below Qc (XQX D dA sz0 ad0 N0 o) args s MC MZ (Ab sz0)) nL D dA sz0 ad0 N0 kc kz σ ℓ stk pc := by
  subst hst
  subst hC
  obtain ⟨x0, hF, h9⟩ := Option.bind_eq_some_iff.mp h
  intro ad H locs ls g1 g2 g3 g4 gz g5 g6 g7
  have hV : VK σ (va_rf (some q) :: As) := by
    intro w hw
    rcases List.mem_cons.mp hw with e | e
    · rw [e]; exact g6 _ (List.mem_append_right _ List.mem_cons_self)
    · exact g6 w (List.mem_append_left _ (List.mem_reverse.mpr e))
  have hlen : (sm ad As).length = n := by simp [sm, hn]
  have hcat' : ((sm ad st).map fun v => v.category).sum ≤ 8 := by rw [sm_cat]; exact c1_s hcat hst8
  rw [sm_stackR]
  exact xw_run_i X hno h9 g1 g2 g4 gz g5 g6.right.tail g7 hMc hMs (vx_runV (As := sm ad As) (rest := sm ad st) X.1 (hz x0 hF D dA sz0 ad) (cwV n X.1.2.2.2.2 (lw_V hq hmv.1 hmv.2.1 hmv.2.2.1 hmv.2.2.2) rfl rfl rfl ⟨rfl, hmd.1⟩ hrm) ⟨PC_blind, wm_recv hS g3 hcd hs, fun U hU hW => ⟨rfl, ST_call hS g1 hW hU g4, by rw [hU]; exact g3, hV⟩⟩ rfl hlen g7.1 rfl (lv_room hcat') hdg hc) kk
theorem wm_xcV_v (X : CX p s m args meth c cc nL own) (hS : ST D dA sz0 ad0 s) (hno : ∀ x ∈ c.exceptionTable.toList, False) (hcd : CD ci C T N ty) (hs : mS σ q = ci) (hC : y.cls = C) {F : Option (Mm ⊕ (Nat × Mm))} {f : Mm → Option (γ ⊕ (Nat × Mm))} (h : xb F f = some o) (hz : ∀ x, F = some x → CTXv l y (ws_ y bytes maxL ret) fr lo mc ms (va_rf (some q) :: As) σ x) (hmd : MD y n) (hmv : MV y bytes maxL ret) (hq : Cond.methodLink own idx y ∈ lw_all) (hdg : decode cc pc = .ok (.invokevirtual idx, 3)) (hn : As.length = n) (hst : stk = As.reverse ++ va_rf (some q) :: st) (hcat : c1 st) (hst8 : st.length ≤ 8) (hrm : fr + 1 ≤ R.frames ∧ 8 + (maxL + 11) + lo ≤ R.locals) (hc : kc + mc ≤ R.cells ∧ kz + ms ≤ R.slots) (hMc : kc + mc ≤ MC) (hMs : kz + ms ≤ MZ) (kk : ∀ σ1, mN σ ≤ mN σ1 → f σ1 = some o → WM p l e R s m args below meth c (vx_MQ below Qc (XQX D dA sz0 ad0 N0 o) args s MC MZ (Ab sz0)) nL D dA sz0 ad0 N0 (kc + mc) (kz + ms) σ1 ℓ (st) (pc + 3)) : WM p l e R s m args below meth c (vx_MQ below Qc (XQX D dA sz0 ad0 N0 o) args s MC MZ (Ab sz0)) nL D dA sz0 ad0 N0 kc kz σ ℓ stk pc := by
  subst hst
  subst hC
  obtain ⟨x0, hF, h9⟩ := Option.bind_eq_some_iff.mp h
  intro ad H locs ls g1 g2 g3 g4 gz g5 g6 g7
  have hV : VK σ (va_rf (some q) :: As) := by
    intro w hw
    rcases List.mem_cons.mp hw with e | e
    · rw [e]; exact g6 _ (List.mem_append_right _ List.mem_cons_self)
    · exact g6 w (List.mem_append_left _ (List.mem_reverse.mpr e))
  have hlen : (sm ad As).length = n := by simp [sm, hn]
  have hcat' : ((sm ad st).map fun v => v.category).sum ≤ 8 := by rw [sm_cat]; exact c1_s hcat hst8
  rw [sm_stackR]
  exact xw_run_v X hno h9 g1 g2 g4 gz g5 g6.right.tail g7 hMc hMs (vx_runV (As := sm ad As) (rest := sm ad st) X.1 (hz x0 hF D dA sz0 ad) (cwV n X.1.2.2.2.2 (lw_V hq hmv.1 hmv.2.1 hmv.2.2.1 hmv.2.2.2) rfl rfl rfl ⟨rfl, hmd.1⟩ hrm) ⟨PC_blind, wm_recv hS g3 hcd hs, fun U hU hW => ⟨rfl, ST_call hS g1 hW hU g4, by rw [hU]; exact g3, hV⟩⟩ rfl hlen g7.1 rfl (lv_room hcat') hdg hc) kk
theorem wm_xcV_r (X : CX p s m args meth c cc nL own) (hS : ST D dA sz0 ad0 s) (hno : ∀ x ∈ c.exceptionTable.toList, False) (hcd : CD ci C T N ty) (hs : mS σ q = ci) (hC : y.cls = C) {F : Option ((Option Nat × Mm) ⊕ (Nat × Mm))} {f : (Option Nat × Mm) → Option (γ ⊕ (Nat × Mm))} (h : xb F f = some o) (hz : ∀ x, F = some x → CTXr l y (ws_ y bytes maxL ret) fr lo mc ms (va_rf (some q) :: As) σ x) (hmd : MD y n) (hmv : MV y bytes maxL ret) (hq : Cond.methodLink own idx y ∈ lw_all) (hdg : decode cc pc = .ok (.invokevirtual idx, 3)) (hn : As.length = n) (hst : stk = As.reverse ++ va_rf (some q) :: st) (hcat : c1 st) (hst8 : st.length ≤ 8) (hrm : fr + 1 ≤ R.frames ∧ 8 + (maxL + 11) + lo ≤ R.locals) (hc : kc + mc ≤ R.cells ∧ kz + ms ≤ R.slots) (hMc : kc + mc ≤ MC) (hMs : kz + ms ≤ MZ) (kk : ∀ r σ1, mN σ ≤ mN σ1 → f (r, σ1) = some o → WM p l e R s m args below meth c (vx_MQ below Qc (XQX D dA sz0 ad0 N0 o) args s MC MZ (Ab sz0)) nL D dA sz0 ad0 N0 (kc + mc) (kz + ms) σ1 ℓ (va_rf r :: st) (pc + 3)) : WM p l e R s m args below meth c (vx_MQ below Qc (XQX D dA sz0 ad0 N0 o) args s MC MZ (Ab sz0)) nL D dA sz0 ad0 N0 kc kz σ ℓ stk pc := by
  subst hst
  subst hC
  obtain ⟨x0, hF, h9⟩ := Option.bind_eq_some_iff.mp h
  intro ad H locs ls g1 g2 g3 g4 gz g5 g6 g7
  have hV : VK σ (va_rf (some q) :: As) := by
    intro w hw
    rcases List.mem_cons.mp hw with e | e
    · rw [e]; exact g6 _ (List.mem_append_right _ List.mem_cons_self)
    · exact g6 w (List.mem_append_left _ (List.mem_reverse.mpr e))
  have hlen : (sm ad As).length = n := by simp [sm, hn]
  have hcat' : ((sm ad st).map fun v => v.category).sum ≤ 8 := by rw [sm_cat]; exact c1_s hcat hst8
  rw [sm_stackR]
  exact xw_run_r X hno h9 g1 g2 g4 gz g5 g6.right.tail g7 hMc hMs (vx_runV (As := sm ad As) (rest := sm ad st) X.1 (hz x0 hF D dA sz0 ad) (cwV n X.1.2.2.2.2 (lw_V hq hmv.1 hmv.2.1 hmv.2.2.1 hmv.2.2.2) rfl rfl rfl ⟨rfl, hmd.1⟩ hrm) ⟨PC_blind, wm_recv hS g3 hcd hs, fun U hU hW => ⟨rfl, ST_call hS g1 hW hU g4, by rw [hU]; exact g3, hV⟩⟩ rfl hlen g7.1 rfl (lv_room hcat') hdg hc) kk
theorem wm_xcS_i (X : CX p s m args meth c cc nL own) (hS : ST D dA sz0 ad0 s) (hno : ∀ x ∈ c.exceptionTable.toList, False) {F : Option ((Int32 × Mm) ⊕ (Nat × Mm))} {f : (Int32 × Mm) → Option (γ ⊕ (Nat × Mm))} (h : xb F f = some o) (hz : ∀ x, F = some x → CTXi l y (ws_ y bytes maxL ret) fr lo mc ms (As) σ x) (hmd : MD y n) (hmv : MS y bytes maxL ret) (hq : Cond.methodLink own idx y ∈ lw_all) (hdg : decode cc pc = .ok (.invokestatic idx, 3)) (hn : As.length = n) (hst : stk = As.reverse ++ st) (hcat : c1 st) (hst8 : st.length ≤ 8) (hrm : fr + 1 ≤ R.frames ∧ 8 + (maxL + 11) + lo ≤ R.locals) (hc : kc + mc ≤ R.cells ∧ kz + ms ≤ R.slots) (hMc : kc + mc ≤ MC) (hMs : kz + ms ≤ MZ) (kk : ∀ r σ1, mN σ ≤ mN σ1 → f (r, σ1) = some o → WM p l e R s m args below meth c (vx_MQ below Qc (XQX D dA sz0 ad0 N0 o) args s MC MZ (Ab sz0)) nL D dA sz0 ad0 N0 (kc + mc) (kz + ms) σ1 ℓ (.int r :: st) (pc + 3)) : WM p l e R s m args below meth c (vx_MQ below Qc (XQX D dA sz0 ad0 N0 o) args s MC MZ (Ab sz0)) nL D dA sz0 ad0 N0 kc kz σ ℓ stk pc := by
  subst hst
  obtain ⟨x0, hF, h9⟩ := Option.bind_eq_some_iff.mp h
  intro ad H locs ls g1 g2 g3 g4 gz g5 g6 g7
  have hV : VK σ (As) := VK_args g6
  have hlen : (sm ad As).length = n := by simp [sm, hn]
  have hcat' : ((sm ad st).map fun v => v.category).sum ≤ 8 := by rw [sm_cat]; exact c1_s hcat hst8
  rw [sm_stack]
  exact xw_run_i X hno h9 g1 g2 g4 gz g5 g6.right g7 hMc hMs (vx_runS (As := sm ad As) (rest := sm ad st) X.1 (hz x0 hF D dA sz0 ad) (va_cwS n X.1.2.2.2.2 (lw_S hq hmv.1 hmv.2.1 hmv.2.2) rfl rfl rfl hmd.1 hrm) ⟨PC_blind, fun U hU hW => ⟨rfl, ST_call hS g1 hW hU g4, by rw [hU]; exact g3, hV⟩⟩ rfl hlen g7.1 rfl (lv_room hcat') hdg hc) kk
theorem wm_xcS_v (X : CX p s m args meth c cc nL own) (hS : ST D dA sz0 ad0 s) (hno : ∀ x ∈ c.exceptionTable.toList, False) {F : Option (Mm ⊕ (Nat × Mm))} {f : Mm → Option (γ ⊕ (Nat × Mm))} (h : xb F f = some o) (hz : ∀ x, F = some x → CTXv l y (ws_ y bytes maxL ret) fr lo mc ms (As) σ x) (hmd : MD y n) (hmv : MS y bytes maxL ret) (hq : Cond.methodLink own idx y ∈ lw_all) (hdg : decode cc pc = .ok (.invokestatic idx, 3)) (hn : As.length = n) (hst : stk = As.reverse ++ st) (hcat : c1 st) (hst8 : st.length ≤ 8) (hrm : fr + 1 ≤ R.frames ∧ 8 + (maxL + 11) + lo ≤ R.locals) (hc : kc + mc ≤ R.cells ∧ kz + ms ≤ R.slots) (hMc : kc + mc ≤ MC) (hMs : kz + ms ≤ MZ) (kk : ∀ σ1, mN σ ≤ mN σ1 → f σ1 = some o → WM p l e R s m args below meth c (vx_MQ below Qc (XQX D dA sz0 ad0 N0 o) args s MC MZ (Ab sz0)) nL D dA sz0 ad0 N0 (kc + mc) (kz + ms) σ1 ℓ (st) (pc + 3)) : WM p l e R s m args below meth c (vx_MQ below Qc (XQX D dA sz0 ad0 N0 o) args s MC MZ (Ab sz0)) nL D dA sz0 ad0 N0 kc kz σ ℓ stk pc := by
  subst hst
  obtain ⟨x0, hF, h9⟩ := Option.bind_eq_some_iff.mp h
  intro ad H locs ls g1 g2 g3 g4 gz g5 g6 g7
  have hV : VK σ (As) := VK_args g6
  have hlen : (sm ad As).length = n := by simp [sm, hn]
  have hcat' : ((sm ad st).map fun v => v.category).sum ≤ 8 := by rw [sm_cat]; exact c1_s hcat hst8
  rw [sm_stack]
  exact xw_run_v X hno h9 g1 g2 g4 gz g5 g6.right g7 hMc hMs (vx_runS (As := sm ad As) (rest := sm ad st) X.1 (hz x0 hF D dA sz0 ad) (va_cwS n X.1.2.2.2.2 (lw_S hq hmv.1 hmv.2.1 hmv.2.2) rfl rfl rfl hmd.1 hrm) ⟨PC_blind, fun U hU hW => ⟨rfl, ST_call hS g1 hW hU g4, by rw [hU]; exact g3, hV⟩⟩ rfl hlen g7.1 rfl (lv_room hcat') hdg hc) kk
theorem wm_xcS_r (X : CX p s m args meth c cc nL own) (hS : ST D dA sz0 ad0 s) (hno : ∀ x ∈ c.exceptionTable.toList, False) {F : Option ((Option Nat × Mm) ⊕ (Nat × Mm))} {f : (Option Nat × Mm) → Option (γ ⊕ (Nat × Mm))} (h : xb F f = some o) (hz : ∀ x, F = some x → CTXr l y (ws_ y bytes maxL ret) fr lo mc ms (As) σ x) (hmd : MD y n) (hmv : MS y bytes maxL ret) (hq : Cond.methodLink own idx y ∈ lw_all) (hdg : decode cc pc = .ok (.invokestatic idx, 3)) (hn : As.length = n) (hst : stk = As.reverse ++ st) (hcat : c1 st) (hst8 : st.length ≤ 8) (hrm : fr + 1 ≤ R.frames ∧ 8 + (maxL + 11) + lo ≤ R.locals) (hc : kc + mc ≤ R.cells ∧ kz + ms ≤ R.slots) (hMc : kc + mc ≤ MC) (hMs : kz + ms ≤ MZ) (kk : ∀ r σ1, mN σ ≤ mN σ1 → f (r, σ1) = some o → WM p l e R s m args below meth c (vx_MQ below Qc (XQX D dA sz0 ad0 N0 o) args s MC MZ (Ab sz0)) nL D dA sz0 ad0 N0 (kc + mc) (kz + ms) σ1 ℓ (va_rf r :: st) (pc + 3)) : WM p l e R s m args below meth c (vx_MQ below Qc (XQX D dA sz0 ad0 N0 o) args s MC MZ (Ab sz0)) nL D dA sz0 ad0 N0 kc kz σ ℓ stk pc := by
  subst hst
  obtain ⟨x0, hF, h9⟩ := Option.bind_eq_some_iff.mp h
  intro ad H locs ls g1 g2 g3 g4 gz g5 g6 g7
  have hV : VK σ (As) := VK_args g6
  have hlen : (sm ad As).length = n := by simp [sm, hn]
  have hcat' : ((sm ad st).map fun v => v.category).sum ≤ 8 := by rw [sm_cat]; exact c1_s hcat hst8
  rw [sm_stack]
  exact xw_run_r X hno h9 g1 g2 g4 gz g5 g6.right g7 hMc hMs (vx_runS (As := sm ad As) (rest := sm ad st) X.1 (hz x0 hF D dA sz0 ad) (va_cwS n X.1.2.2.2.2 (lw_S hq hmv.1 hmv.2.1 hmv.2.2) rfl rfl rfl hmd.1 hrm) ⟨PC_blind, fun U hU hW => ⟨rfl, ST_call hS g1 hW hU g4, by rw [hU]; exact g3, hV⟩⟩ rfl hlen g7.1 rfl (lv_room hcat') hdg hc) kk
theorem wm_xcVN_i (X : CX p s m args meth c cc nL own) (hS : ST D dA sz0 ad0 s) (hno : ∀ x ∈ c.exceptionTable.toList, False) (hcd : CD ci C T N ty) (hs : mS σ q = ci) (hC : y.cls = C) {F : Option ((Int32 × Mm) ⊕ (Nat × Mm))} {f : (Int32 × Mm) → Option (γ ⊕ (Nat × Mm))} (h : xb F f = some o) (hz : ∀ x, F = some x → CTXi l y (ws_ y bytes maxL ret) fr lo mc ms (va_rf (some q) :: As) σ x) (hmd : MD y n) (hmv : MV y bytes maxL ret) {host : String} (j : Nat) (hq : nwl[j]? = some (Cond.methodLinkNest own idx y host)) (hdg : decode cc pc = .ok (.invokevirtual idx, 3)) (hn : As.length = n) (hst : stk = As.reverse ++ va_rf (some q) :: st) (hcat : c1 st) (hst8 : st.length ≤ 8) (hrm : fr + 1 ≤ R.frames ∧ 8 + (maxL + 11) + lo ≤ R.locals) (hc : kc + mc ≤ R.cells ∧ kz + ms ≤ R.slots) (hMc : kc + mc ≤ MC) (hMs : kz + ms ≤ MZ) (kk : ∀ r σ1, mN σ ≤ mN σ1 → f (r, σ1) = some o → WM p l e R s m args below meth c (vx_MQ below Qc (XQX D dA sz0 ad0 N0 o) args s MC MZ (Ab sz0)) nL D dA sz0 ad0 N0 (kc + mc) (kz + ms) σ1 ℓ (.int r :: st) (pc + 3)) : WM p l e R s m args below meth c (vx_MQ below Qc (XQX D dA sz0 ad0 N0 o) args s MC MZ (Ab sz0)) nL D dA sz0 ad0 N0 kc kz σ ℓ stk pc := by
  subst hst
  subst hC
  obtain ⟨x0, hF, h9⟩ := Option.bind_eq_some_iff.mp h
  intro ad H locs ls g1 g2 g3 g4 gz g5 g6 g7
  have hV : VK σ (va_rf (some q) :: As) := by
    intro w hw
    rcases List.mem_cons.mp hw with e | e
    · rw [e]; exact g6 _ (List.mem_append_right _ List.mem_cons_self)
    · exact g6 w (List.mem_append_left _ (List.mem_reverse.mpr e))
  have hlen : (sm ad As).length = n := by simp [sm, hn]
  have hcat' : ((sm ad st).map fun v => v.category).sum ≤ 8 := by rw [sm_cat]; exact c1_s hcat hst8
  rw [sm_stackR]
  exact xw_run_i X hno h9 g1 g2 g4 gz g5 g6.right.tail g7 hMc hMs (vx_runVN (As := sm ad As) (rest := sm ad st) X.1 (hz x0 hF D dA sz0 ad) ⟨va_cnB n X.1.2.2.2.2 (lw_meth hmv.2.2.2) rfl rfl rfl (hS.2.1 _ (List.mem_of_getElem? hq)) (X.1.2.2.2.2 _ hmv.2.2.1) hmd.1 hrm, X.1.2.2.2.2 _ hmv.1, X.1.2.2.2.2 _ hmv.2.1⟩ ⟨PC_blind, wm_recv hS g3 hcd hs, fun U hU hW => ⟨rfl, ST_call hS g1 hW hU g4, by rw [hU]; exact g3, hV⟩⟩ rfl hlen g7.1 rfl (lv_room hcat') hdg hc) kk
theorem wm_xcVN_v (X : CX p s m args meth c cc nL own) (hS : ST D dA sz0 ad0 s) (hno : ∀ x ∈ c.exceptionTable.toList, False) (hcd : CD ci C T N ty) (hs : mS σ q = ci) (hC : y.cls = C) {F : Option (Mm ⊕ (Nat × Mm))} {f : Mm → Option (γ ⊕ (Nat × Mm))} (h : xb F f = some o) (hz : ∀ x, F = some x → CTXv l y (ws_ y bytes maxL ret) fr lo mc ms (va_rf (some q) :: As) σ x) (hmd : MD y n) (hmv : MV y bytes maxL ret) {host : String} (j : Nat) (hq : nwl[j]? = some (Cond.methodLinkNest own idx y host)) (hdg : decode cc pc = .ok (.invokevirtual idx, 3)) (hn : As.length = n) (hst : stk = As.reverse ++ va_rf (some q) :: st) (hcat : c1 st) (hst8 : st.length ≤ 8) (hrm : fr + 1 ≤ R.frames ∧ 8 + (maxL + 11) + lo ≤ R.locals) (hc : kc + mc ≤ R.cells ∧ kz + ms ≤ R.slots) (hMc : kc + mc ≤ MC) (hMs : kz + ms ≤ MZ) (kk : ∀ σ1, mN σ ≤ mN σ1 → f σ1 = some o → WM p l e R s m args below meth c (vx_MQ below Qc (XQX D dA sz0 ad0 N0 o) args s MC MZ (Ab sz0)) nL D dA sz0 ad0 N0 (kc + mc) (kz + ms) σ1 ℓ (st) (pc + 3)) : WM p l e R s m args below meth c (vx_MQ below Qc (XQX D dA sz0 ad0 N0 o) args s MC MZ (Ab sz0)) nL D dA sz0 ad0 N0 kc kz σ ℓ stk pc := by
  subst hst
  subst hC
  obtain ⟨x0, hF, h9⟩ := Option.bind_eq_some_iff.mp h
  intro ad H locs ls g1 g2 g3 g4 gz g5 g6 g7
  have hV : VK σ (va_rf (some q) :: As) := by
    intro w hw
    rcases List.mem_cons.mp hw with e | e
    · rw [e]; exact g6 _ (List.mem_append_right _ List.mem_cons_self)
    · exact g6 w (List.mem_append_left _ (List.mem_reverse.mpr e))
  have hlen : (sm ad As).length = n := by simp [sm, hn]
  have hcat' : ((sm ad st).map fun v => v.category).sum ≤ 8 := by rw [sm_cat]; exact c1_s hcat hst8
  rw [sm_stackR]
  exact xw_run_v X hno h9 g1 g2 g4 gz g5 g6.right.tail g7 hMc hMs (vx_runVN (As := sm ad As) (rest := sm ad st) X.1 (hz x0 hF D dA sz0 ad) ⟨va_cnB n X.1.2.2.2.2 (lw_meth hmv.2.2.2) rfl rfl rfl (hS.2.1 _ (List.mem_of_getElem? hq)) (X.1.2.2.2.2 _ hmv.2.2.1) hmd.1 hrm, X.1.2.2.2.2 _ hmv.1, X.1.2.2.2.2 _ hmv.2.1⟩ ⟨PC_blind, wm_recv hS g3 hcd hs, fun U hU hW => ⟨rfl, ST_call hS g1 hW hU g4, by rw [hU]; exact g3, hV⟩⟩ rfl hlen g7.1 rfl (lv_room hcat') hdg hc) kk
theorem wm_xcVN_r (X : CX p s m args meth c cc nL own) (hS : ST D dA sz0 ad0 s) (hno : ∀ x ∈ c.exceptionTable.toList, False) (hcd : CD ci C T N ty) (hs : mS σ q = ci) (hC : y.cls = C) {F : Option ((Option Nat × Mm) ⊕ (Nat × Mm))} {f : (Option Nat × Mm) → Option (γ ⊕ (Nat × Mm))} (h : xb F f = some o) (hz : ∀ x, F = some x → CTXr l y (ws_ y bytes maxL ret) fr lo mc ms (va_rf (some q) :: As) σ x) (hmd : MD y n) (hmv : MV y bytes maxL ret) {host : String} (j : Nat) (hq : nwl[j]? = some (Cond.methodLinkNest own idx y host)) (hdg : decode cc pc = .ok (.invokevirtual idx, 3)) (hn : As.length = n) (hst : stk = As.reverse ++ va_rf (some q) :: st) (hcat : c1 st) (hst8 : st.length ≤ 8) (hrm : fr + 1 ≤ R.frames ∧ 8 + (maxL + 11) + lo ≤ R.locals) (hc : kc + mc ≤ R.cells ∧ kz + ms ≤ R.slots) (hMc : kc + mc ≤ MC) (hMs : kz + ms ≤ MZ) (kk : ∀ r σ1, mN σ ≤ mN σ1 → f (r, σ1) = some o → WM p l e R s m args below meth c (vx_MQ below Qc (XQX D dA sz0 ad0 N0 o) args s MC MZ (Ab sz0)) nL D dA sz0 ad0 N0 (kc + mc) (kz + ms) σ1 ℓ (va_rf r :: st) (pc + 3)) : WM p l e R s m args below meth c (vx_MQ below Qc (XQX D dA sz0 ad0 N0 o) args s MC MZ (Ab sz0)) nL D dA sz0 ad0 N0 kc kz σ ℓ stk pc := by
  subst hst
  subst hC
  obtain ⟨x0, hF, h9⟩ := Option.bind_eq_some_iff.mp h
  intro ad H locs ls g1 g2 g3 g4 gz g5 g6 g7
  have hV : VK σ (va_rf (some q) :: As) := by
    intro w hw
    rcases List.mem_cons.mp hw with e | e
    · rw [e]; exact g6 _ (List.mem_append_right _ List.mem_cons_self)
    · exact g6 w (List.mem_append_left _ (List.mem_reverse.mpr e))
  have hlen : (sm ad As).length = n := by simp [sm, hn]
  have hcat' : ((sm ad st).map fun v => v.category).sum ≤ 8 := by rw [sm_cat]; exact c1_s hcat hst8
  rw [sm_stackR]
  exact xw_run_r X hno h9 g1 g2 g4 gz g5 g6.right.tail g7 hMc hMs (vx_runVN (As := sm ad As) (rest := sm ad st) X.1 (hz x0 hF D dA sz0 ad) ⟨va_cnB n X.1.2.2.2.2 (lw_meth hmv.2.2.2) rfl rfl rfl (hS.2.1 _ (List.mem_of_getElem? hq)) (X.1.2.2.2.2 _ hmv.2.2.1) hmd.1 hrm, X.1.2.2.2.2 _ hmv.1, X.1.2.2.2.2 _ hmv.2.1⟩ ⟨PC_blind, wm_recv hS g3 hcd hs, fun U hU hW => ⟨rfl, ST_call hS g1 hW hU g4, by rw [hU]; exact g3, hV⟩⟩ rfl hlen g7.1 rfl (lv_room hcat') hdg hc) kk
theorem wm_xcSN_i (X : CX p s m args meth c cc nL own) (hS : ST D dA sz0 ad0 s) (hno : ∀ x ∈ c.exceptionTable.toList, False) {F : Option ((Int32 × Mm) ⊕ (Nat × Mm))} {f : (Int32 × Mm) → Option (γ ⊕ (Nat × Mm))} (h : xb F f = some o) (hz : ∀ x, F = some x → CTXi l y (ws_ y bytes maxL ret) fr lo mc ms (As) σ x) (hmd : MD y n) (hmv : MS y bytes maxL ret) {host : String} (j : Nat) (hq : nwl[j]? = some (Cond.methodLinkNest own idx y host)) (hdg : decode cc pc = .ok (.invokestatic idx, 3)) (hn : As.length = n) (hst : stk = As.reverse ++ st) (hcat : c1 st) (hst8 : st.length ≤ 8) (hrm : fr + 1 ≤ R.frames ∧ 8 + (maxL + 11) + lo ≤ R.locals) (hc : kc + mc ≤ R.cells ∧ kz + ms ≤ R.slots) (hMc : kc + mc ≤ MC) (hMs : kz + ms ≤ MZ) (kk : ∀ r σ1, mN σ ≤ mN σ1 → f (r, σ1) = some o → WM p l e R s m args below meth c (vx_MQ below Qc (XQX D dA sz0 ad0 N0 o) args s MC MZ (Ab sz0)) nL D dA sz0 ad0 N0 (kc + mc) (kz + ms) σ1 ℓ (.int r :: st) (pc + 3)) : WM p l e R s m args below meth c (vx_MQ below Qc (XQX D dA sz0 ad0 N0 o) args s MC MZ (Ab sz0)) nL D dA sz0 ad0 N0 kc kz σ ℓ stk pc := by
  subst hst
  obtain ⟨x0, hF, h9⟩ := Option.bind_eq_some_iff.mp h
  intro ad H locs ls g1 g2 g3 g4 gz g5 g6 g7
  have hV : VK σ (As) := VK_args g6
  have hlen : (sm ad As).length = n := by simp [sm, hn]
  have hcat' : ((sm ad st).map fun v => v.category).sum ≤ 8 := by rw [sm_cat]; exact c1_s hcat hst8
  rw [sm_stack]
  exact xw_run_i X hno h9 g1 g2 g4 gz g5 g6.right g7 hMc hMs (vx_runSN (As := sm ad As) (rest := sm ad st) X.1 (hz x0 hF D dA sz0 ad) ⟨va_cnB n X.1.2.2.2.2 (lw_meth hmv.2.2) rfl rfl rfl (hS.2.1 _ (List.mem_of_getElem? hq)) (X.1.2.2.2.2 _ hmv.2.1) hmd.1 hrm, X.1.2.2.2.2 _ hmv.1, trivial⟩ ⟨PC_blind, fun U hU hW => ⟨rfl, ST_call hS g1 hW hU g4, by rw [hU]; exact g3, hV⟩⟩ rfl hlen g7.1 rfl (lv_room hcat') hdg hc) kk
theorem wm_xcSN_v (X : CX p s m args meth c cc nL own) (hS : ST D dA sz0 ad0 s) (hno : ∀ x ∈ c.exceptionTable.toList, False) {F : Option (Mm ⊕ (Nat × Mm))} {f : Mm → Option (γ ⊕ (Nat × Mm))} (h : xb F f = some o) (hz : ∀ x, F = some x → CTXv l y (ws_ y bytes maxL ret) fr lo mc ms (As) σ x) (hmd : MD y n) (hmv : MS y bytes maxL ret) {host : String} (j : Nat) (hq : nwl[j]? = some (Cond.methodLinkNest own idx y host)) (hdg : decode cc pc = .ok (.invokestatic idx, 3)) (hn : As.length = n) (hst : stk = As.reverse ++ st) (hcat : c1 st) (hst8 : st.length ≤ 8) (hrm : fr + 1 ≤ R.frames ∧ 8 + (maxL + 11) + lo ≤ R.locals) (hc : kc + mc ≤ R.cells ∧ kz + ms ≤ R.slots) (hMc : kc + mc ≤ MC) (hMs : kz + ms ≤ MZ) (kk : ∀ σ1, mN σ ≤ mN σ1 → f σ1 = some o → WM p l e R s m args below meth c (vx_MQ below Qc (XQX D dA sz0 ad0 N0 o) args s MC MZ (Ab sz0)) nL D dA sz0 ad0 N0 (kc + mc) (kz + ms) σ1 ℓ (st) (pc + 3)) : WM p l e R s m args below meth c (vx_MQ below Qc (XQX D dA sz0 ad0 N0 o) args s MC MZ (Ab sz0)) nL D dA sz0 ad0 N0 kc kz σ ℓ stk pc := by
  subst hst
  obtain ⟨x0, hF, h9⟩ := Option.bind_eq_some_iff.mp h
  intro ad H locs ls g1 g2 g3 g4 gz g5 g6 g7
  have hV : VK σ (As) := VK_args g6
  have hlen : (sm ad As).length = n := by simp [sm, hn]
  have hcat' : ((sm ad st).map fun v => v.category).sum ≤ 8 := by rw [sm_cat]; exact c1_s hcat hst8
  rw [sm_stack]
  exact xw_run_v X hno h9 g1 g2 g4 gz g5 g6.right g7 hMc hMs (vx_runSN (As := sm ad As) (rest := sm ad st) X.1 (hz x0 hF D dA sz0 ad) ⟨va_cnB n X.1.2.2.2.2 (lw_meth hmv.2.2) rfl rfl rfl (hS.2.1 _ (List.mem_of_getElem? hq)) (X.1.2.2.2.2 _ hmv.2.1) hmd.1 hrm, X.1.2.2.2.2 _ hmv.1, trivial⟩ ⟨PC_blind, fun U hU hW => ⟨rfl, ST_call hS g1 hW hU g4, by rw [hU]; exact g3, hV⟩⟩ rfl hlen g7.1 rfl (lv_room hcat') hdg hc) kk
theorem wm_xcSN_r (X : CX p s m args meth c cc nL own) (hS : ST D dA sz0 ad0 s) (hno : ∀ x ∈ c.exceptionTable.toList, False) {F : Option ((Option Nat × Mm) ⊕ (Nat × Mm))} {f : (Option Nat × Mm) → Option (γ ⊕ (Nat × Mm))} (h : xb F f = some o) (hz : ∀ x, F = some x → CTXr l y (ws_ y bytes maxL ret) fr lo mc ms (As) σ x) (hmd : MD y n) (hmv : MS y bytes maxL ret) {host : String} (j : Nat) (hq : nwl[j]? = some (Cond.methodLinkNest own idx y host)) (hdg : decode cc pc = .ok (.invokestatic idx, 3)) (hn : As.length = n) (hst : stk = As.reverse ++ st) (hcat : c1 st) (hst8 : st.length ≤ 8) (hrm : fr + 1 ≤ R.frames ∧ 8 + (maxL + 11) + lo ≤ R.locals) (hc : kc + mc ≤ R.cells ∧ kz + ms ≤ R.slots) (hMc : kc + mc ≤ MC) (hMs : kz + ms ≤ MZ) (kk : ∀ r σ1, mN σ ≤ mN σ1 → f (r, σ1) = some o → WM p l e R s m args below meth c (vx_MQ below Qc (XQX D dA sz0 ad0 N0 o) args s MC MZ (Ab sz0)) nL D dA sz0 ad0 N0 (kc + mc) (kz + ms) σ1 ℓ (va_rf r :: st) (pc + 3)) : WM p l e R s m args below meth c (vx_MQ below Qc (XQX D dA sz0 ad0 N0 o) args s MC MZ (Ab sz0)) nL D dA sz0 ad0 N0 kc kz σ ℓ stk pc := by
  subst hst
  obtain ⟨x0, hF, h9⟩ := Option.bind_eq_some_iff.mp h
  intro ad H locs ls g1 g2 g3 g4 gz g5 g6 g7
  have hV : VK σ (As) := VK_args g6
  have hlen : (sm ad As).length = n := by simp [sm, hn]
  have hcat' : ((sm ad st).map fun v => v.category).sum ≤ 8 := by rw [sm_cat]; exact c1_s hcat hst8
  rw [sm_stack]
  exact xw_run_r X hno h9 g1 g2 g4 gz g5 g6.right g7 hMc hMs (vx_runSN (As := sm ad As) (rest := sm ad st) X.1 (hz x0 hF D dA sz0 ad) ⟨va_cnB n X.1.2.2.2.2 (lw_meth hmv.2.2) rfl rfl rfl (hS.2.1 _ (List.mem_of_getElem? hq)) (X.1.2.2.2.2 _ hmv.2.1) hmd.1 hrm, X.1.2.2.2.2 _ hmv.1, trivial⟩ ⟨PC_blind, fun U hU hW => ⟨rfl, ST_call hS g1 hW hU g4, by rw [hU]; exact g3, hV⟩⟩ rfl hlen g7.1 rfl (lv_room hcat') hdg hc) kk
end R8
