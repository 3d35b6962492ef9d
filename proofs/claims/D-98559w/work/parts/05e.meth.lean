/-! THE LAYER, 5: contracts: a method that computes F on the memory; starts, ends, calls -/
def QI (dA : Nat → ClassId) (D : va_G) (sz0 : Nat) (ad0 : Nat → Nat) (n0 : Nat) (r : Int32) (σ' : Mm) : Array Value → State → Outcome → State → Prop := va_Qi (fun x (ad : Nat → Nat) => x = r ∧ Ex n0 ad0 ad ∧ n0 ≤ mN σ') (fun ad t => PM D dA sz0 ad σ' t.heap) (Ab sz0)
def QV (dA : Nat → ClassId) (D : va_G) (sz0 : Nat) (ad0 : Nat → Nat) (n0 : Nat) (σ' : Mm) : Array Value → State → Outcome → State → Prop := va_Qv (fun (ad : Nat → Nat) => Ex n0 ad0 ad ∧ n0 ≤ mN σ') (fun ad t => PM D dA sz0 ad σ' t.heap) (Ab sz0)
def QR (dA : Nat → ClassId) (D : va_G) (sz0 : Nat) (ad0 : Nat → Nat) (n0 : Nat) (r : Option Nat) (σ' : Mm) : Array Value → State → Outcome → State → Prop := va_Qq (fun x (ad : Nat → Nat) => x = r.map ad ∧ Ex n0 ad0 ad ∧ n0 ≤ mN σ' ∧ ∀ q, r = some q → vq σ' q) (fun ad t => PM D dA sz0 ad σ' t.heap) (Ab sz0)
def rmv (fr lo mc ms : Nat) : Room := { frames := fr, cells := mc, slots := ms, locals := lo }
def PC (D : va_G) (dA : Nat → ClassId) (sz0 : Nat) (ad0 : Nat → Nat) (As : List Value) (σ : Mm) : Array Value → State → Prop := va_Pc (sm ad0 As) (fun U => ST D dA sz0 ad0 U ∧ PM D dA sz0 ad0 σ U.heap ∧ VK σ As)
/-- a contract: from the memory σ and these arguments the method answers r and leaves σ' -/
def CTi (l : Launch) (y : MethodName) (ws : List Cond) (fr lo mc ms : Nat) (As : List Value) (σ : Mm) (r : Int32) (σ' : Mm) : Prop := ∀ (D : va_G) (dA : Nat → ClassId) (sz0 : Nat) (ad0 : Nat → Nat), Met l y ws (rmv fr lo mc ms) (PC D dA sz0 ad0 As σ) (QI dA D sz0 ad0 (mN σ) r σ') mc ms (Ab sz0)
def CTv (l : Launch) (y : MethodName) (ws : List Cond) (fr lo mc ms : Nat) (As : List Value) (σ : Mm) (σ' : Mm) : Prop := ∀ (D : va_G) (dA : Nat → ClassId) (sz0 : Nat) (ad0 : Nat → Nat), Met l y ws (rmv fr lo mc ms) (PC D dA sz0 ad0 As σ) (QV dA D sz0 ad0 (mN σ) σ') mc ms (Ab sz0)
def CTr (l : Launch) (y : MethodName) (ws : List Cond) (fr lo mc ms : Nat) (As : List Value) (σ : Mm) (r : Option Nat) (σ' : Mm) : Prop := ∀ (D : va_G) (dA : Nat → ClassId) (sz0 : Nat) (ad0 : Nat → Nat), Met l y ws (rmv fr lo mc ms) (PC D dA sz0 ad0 As σ) (QR dA D sz0 ad0 (mN σ) r σ') mc ms (Ab sz0)
/-- what the tables say of a method, once -/
def MD (y : MethodName) (n : Nat) : Prop := (y.cls ≠ "java/lang/invoke/MethodHandle" ∧ y.cls ≠ "java/lang/invoke/VarHandle" ∧ (parseMethodDescriptor y.desc).map (fun d => d.parameters.length) = some n) ∧ plainName y.cls = true
def MV (y : MethodName) (b : ByteArray) (L : Nat) (r : Option FieldType) : Prop := Cond.instanceMethod y ∈ lw_all ∧ Cond.selects y.cls y y ∈ lw_all ∧ Cond.initialized y.cls ∈ lw_all ∧ Cond.code y b L r ∈ lw_all
def MI (y : MethodName) (b : ByteArray) (L : Nat) : Prop := Cond.instanceMethod y ∈ lw_all ∧ Cond.initialized y.cls ∈ lw_all ∧ Cond.code y b L none ∈ lw_all ∧ y.name = "<init>"
def MS (y : MethodName) (b : ByteArray) (L : Nat) (r : Option FieldType) : Prop := Cond.static y ∈ lw_all ∧ Cond.initialized y.cls ∈ lw_all ∧ Cond.code y b L r ∈ lw_all
def arL : Nat → List Value → List (Nat × Value)
  | _, [] => []
  | i, v :: vs => (i, v) :: arL (i + 1) vs
theorem arL_eq (ad : Nat → Nat) : ∀ (vs : List Value) (i : Nat), (∀ v ∈ vs, v.category = 1) → lv_args i (sm ad vs) = lm ad (arL i vs)
  | [], i, _ => rfl
  | v :: vs, i, h => by
    show (i, cv ad v) :: lv_args _ (sm ad vs) = (i, cv ad v) :: lm ad (arL (i + 1) vs)
    rw [cv_cat, h v List.mem_cons_self, if_neg (by decide), arL_eq ad vs (i + 1) (fun w hw => h w (List.mem_cons_of_mem _ hw))]
theorem lg_sl_len (ad : Nat → Nat) : ∀ (vs : List Value), (∀ v ∈ vs, v.category = 1) → (lg_sl (sm ad vs)).length = vs.length
  | [], _ => rfl
  | v :: vs, hc => by
    have h := lg_sl_len ad vs (fun w hw => hc w (List.mem_cons_of_mem _ hw))
    simp only [lg_sl, sm, List.map_cons, List.flatMap_cons, List.length_append, List.length_cons] at h ⊢
    rw [h, cv_cat, hc v List.mem_cons_self, if_neg (by decide)]
    simp [Nat.add_comm]
theorem LK_args {σ : Mm} : ∀ (vs : List Value) (i : Nat), (∀ v ∈ vs, v.category = 1) → VK σ vs → LK σ (arL i vs)
  | [], i, _, _ => fun q hq => by cases hq
  | v :: vs, i, hc, h => fun q hq => by
    rcases List.mem_cons.mp hq with e | e
    · rw [e]; exact ⟨h.head, hc v List.mem_cons_self⟩
    · exact LK_args vs _ (fun w hw => hc w (List.mem_cons_of_mem _ hw)) h.tail q e
def c1 (vs : List Value) : Prop := ∀ v ∈ vs, v.category = 1
theorem c1_0 : c1 [] := fun _ h => by cases h
theorem c1_i {x : Int32} {vs : List Value} (h : c1 vs) : c1 (.int x :: vs) := List.forall_mem_cons.mpr ⟨rfl, h⟩
theorem c1_r {x : Option Nat} {vs : List Value} (h : c1 vs) : c1 (va_rf x :: vs) := List.forall_mem_cons.mpr ⟨catR x, h⟩
theorem c1_s {vs : List Value} (h : c1 vs) (hl : vs.length ≤ 8) : (vs.map fun v => v.category).sum ≤ 8 := by
  refine Nat.le_trans (Nat.le_of_eq ?_) hl
  clear hl
  induction vs with
  | nil => rfl
  | cons v vs ih => simp [h v List.mem_cons_self, ih (fun w hw => h w (List.mem_cons_of_mem _ hw)), Nat.add_comm]
theorem SO.same {ad : Nat → Nat} {sz0 : Nat} {u U : State} {H : Heap} (hv : U.vm = u.vm) (hs : SO ad sz0 u H) : SO ad sz0 U H := by
  have ha : u.vm.Alike U.vm := by rw [hv]; exact Vm.Alike.refl _
  exact ⟨fun p c hp hc hl => ⟨va_O.moved ha (hs.1 p c hp hc hl).1, fun k hk => va_OF.moved ha ((hs.1 p c hp hc hl).2 k hk)⟩, fun p hp hc => va_T.moved ha (hs.2.1 p hp hc), fun p hp hc => va_T.moved ha (hs.2.2.1 p hp hc), fun p hp hc => va_T.moved ha (hs.2.2.2.1 p hp hc), fun k hk => va_Z.moved ha (hs.2.2.2.2.1 k hk), fun x hx => vk_R.same hv (hs.2.2.2.2.2.1 x hx), hs.2.2.2.2.2.2.1.moved ha, hs.2.2.2.2.2.2.2.moved ha⟩
theorem PC_blind {D : va_G} {dA : Nat → ClassId} {sz0 : Nat} {ad0 : Nat → Nat} {As : List Value} {σ : Mm} : FrameBlind (PC D dA sz0 ad0 As σ) := by
  intro a U g mk h
  obtain ⟨h0, ⟨hK, hN, hO, hA1, hA2⟩, hP, hV⟩ := h
  exact ⟨h0, ⟨va_K.moved (u := U) (U := U.calling g mk a) (Vm.Alike.refl U.vm) hK, fun w hw => va_Nw.same (u := U) (U := U.calling g mk a) (nw_start w hw).2 rfl (hN w hw), SO.same (u := U) (U := U.calling g mk a) rfl hO, hA1.moved (u := U) (U := U.calling g mk a) (Vm.Alike.refl U.vm), hA2.moved (u := U) (U := U.calling g mk a) (Vm.Alike.refl U.vm)⟩, hP, hV⟩
theorem ST_call {D : va_G} {dA : Nat → ClassId} {sz0 N0 : Nat} {ad0 ad : Nat → Nat} {s U : State} {H : Heap} {locs : List Loc} (h : ST D dA sz0 ad0 s) (hx : Ex N0 ad0 ad) (hW : s.WarmedH U.vm) (hU : U.heap = H) (hS : va_S (Ab sz0) s.heap H locs) : ST D dA sz0 ad U :=
  ⟨va_K.moved hW.alike h.1, fun w hw => nw_warm hW (h.2.1 _ (List.mem_of_getElem? (rfl : nwl[124]? = some (Cond.declares yHolds)))) w hw (h.2.1 w hw), ((h.2.2.1.ad (fun q hq => hx q (Or.inr hq))).kept (fun a h1 h2 => by rw [hU]; exact hS.2.1 a h1 h2)).moved hW, h.2.2.2.1.moved hW.alike, ((h.2.2.2.2.ad (fun q hq => hx q (Or.inr hq))).kept (fun a h1 h2 => by rw [hU]; exact hS.2.1 a h1 h2)).moved hW.alike⟩
section R4
variable {p : Program} {l : Launch} {e : Env} {R : Room} {s : State} {m : MethodId} {args : Array Value} {below : List Frame} {meth : Method} {c : Code} {Q : State → Prop} {cc : ByteArray} {nL : Nat} {own : String} {D : va_G} {dA : Nat → ClassId} {sz0 : Nat} {ad0 : Nat → Nat} {N0 kc kz : Nat} {σ σ' : Mm} {ℓ ℓ' : List (Nat × Value)} {st : List Value} {pc : Nat} {β : Type} {o : β} {ci : Nat} {C : String} {T : u_T} {N : Nat} {ty : Nat → FieldType} {idx : Nat} {v : Option Nat}
/-- the start -/
theorem ct_start {y : MethodName} {maxL fr lo mc ms : Nat} {ret : Option FieldType} {As : List Value} {Qc : va_G → (Nat → ClassId) → Nat → (Nat → Nat) → Array Value → State → Outcome → State → Prop} {n : Nat} (hy : MD y n) (hm : As.length ≤ maxL) (hc : c1 As)
    (body : ∀ (p : Program) (e : Env) (s : State) (m : MethodId) (args : Array Value) (below : List Frame) (meth : Method) (c : Code) (D : va_G) (dA : Nat → ClassId) (sz0 : Nat) (ad0 : Nat → Nat), CX p s m args meth c cc maxL y.cls → ST D dA sz0 ad0 s → meth.sig.returnType = ret → meth.name = y.name → WM p l e (rmv fr lo mc ms) s m args below meth c (MQ below (Qc D dA sz0 ad0) args s mc ms (Ab sz0)) maxL D dA sz0 ad0 (mN σ) 0 0 σ (arL 0 As) [] 0) :
    ∀ (D : va_G) (dA : Nat → ClassId) (sz0 : Nat) (ad0 : Nat → Nat), Met l y (ws_ y cc maxL ret) (rmv fr lo mc ms) (PC D dA sz0 ad0 As σ) (Qc D dA sz0 ad0) mc ms (Ab sz0) := by
  intro D dA sz0 ad0
  refine Met.ofW (cc := cc) (maxL := maxL) (ret := ret) hy.2 rfl ?_
  intro p e s m args below meth c s₁ B hml hv
  obtain ⟨rfl, hS, hP, hV⟩ := hv
  have hts := atoms_spec (ws := ws_ y cc maxL ret) B.pre
  have hts : ∀ w ∈ lw_all, w.before _ s = true := fun w h => hts w (List.mem_cons_of_mem _ h)
  have hown : s.vm.findClass y.cls = some m.cls := findClass_of_methodNamed B.named
  rw [lg_entry_eq]
  have hl := lv_entry (sm ad0 As) (n := maxL) (by rw [lg_sl_len _ _ hc]; exact hm)
  rw [arL_eq _ _ _ hc] at hl
  exact body p e s m _ below meth c D dA sz0 ad0 ⟨⟨B.exec, B.bytes, hml, hown, hts⟩, B.notSynchronized⟩ hS B.returns (name_of_methodNamed B.named B.method).1 ad0 s.heap [] _ Ex.rf (Nat.le_refl _) hP va_S.rf hP.2.2.2.1 (LK_args As 0 hc hV) VK.nil hl
/-- the ends -/
theorem wm_iret {mc ms : Nat} {x r : Int32} (X : CX p s m args meth c cc nL own) (hr : meth.sig.returnType = some .int) (h : (some (x, σ) : Option (Int32 × Mm)) = some (r, σ')) (hdg : decode cc pc = .ok (.ireturn, 1)) (h1 : kc ≤ mc) (h2 : kz ≤ ms) : WM p l e R s m args below meth c (MQ below (QI dA D sz0 ad0 N0 r σ') args s mc ms (Ab sz0)) nL D dA sz0 ad0 N0 kc kz σ ℓ [.int x] pc := by
  cases h
  intro ad H locs ls g1 g2 g3 g4 gz g5 g6 g7
  refine W.widen h1 h2 ?_
  exact W.iret X.1.1 X.1.2.1 hr (fun t ht hW => ⟨⟨x, ad, rfl, ⟨rfl, g1, g2⟩, show PM D dA sz0 ad σ t.heap by rw [ht]; exact g3⟩, g4.F ht⟩) g4.2.2 hdg X.2
theorem wm_zret {mc ms : Nat} {x r : Int32} (X : CX p s m args meth c cc nL own) (hr : meth.sig.returnType = some .boolean) (h : rZ x σ = some (r, σ')) (hdg : decode cc pc = .ok (.ireturn, 1)) (h1 : kc ≤ mc) (h2 : kz ≤ ms) : WM p l e R s m args below meth c (MQ below (QI dA D sz0 ad0 N0 r σ') args s mc ms (Ab sz0)) nL D dA sz0 ad0 N0 kc kz σ ℓ [.int x] pc := by
  unfold rZ at h
  split at h
  case isFalse => cases h
  case isTrue hx =>
  cases h
  intro ad H locs ls g1 g2 g3 g4 gz g5 g6 g7
  refine W.widen h1 h2 ?_
  exact W.zret X.1.1 X.1.2.1 hr (nar_z hx) (fun t ht hW => ⟨⟨x, ad, rfl, ⟨rfl, g1, g2⟩, show PM D dA sz0 ad σ t.heap by rw [ht]; exact g3⟩, g4.F ht⟩) g4.2.2 hdg X.2
theorem wm_vret {mc ms : Nat} (X : CX p s m args meth c cc nL own) (hr : meth.sig.returnType = none) (h : (some σ : Option Mm) = some σ') (hdg : decode cc pc = .ok (.return_, 1)) (h1 : kc ≤ mc) (h2 : kz ≤ ms) : WM p l e R s m args below meth c (MQ below (QV dA D sz0 ad0 N0 σ') args s mc ms (Ab sz0)) nL D dA sz0 ad0 N0 kc kz σ ℓ [] pc := by
  cases h
  intro ad H locs ls g1 g2 g3 g4 gz g5 g6 g7
  refine W.widen h1 h2 ?_
  exact W.vret X.1.1 X.1.2.1 hr (fun t ht hW => ⟨⟨ad, rfl, ⟨g1, g2⟩, show PM D dA sz0 ad σ t.heap by rw [ht]; exact g3⟩, g4.F ht⟩) g4.2.2 hdg X.2
theorem wm_aret {mc ms : Nat} {x r : Option Nat} {rt : FieldType} (X : CX p s m args meth c cc nL own) (hr : meth.sig.returnType = some rt) (hrt : (∃ n, rt = .object n) ∨ ∃ t, rt = .array t) (h : (some (x, σ) : Option (Option Nat × Mm)) = some (r, σ')) (hdg : decode cc pc = .ok (.areturn, 1)) (h1 : kc ≤ mc) (h2 : kz ≤ ms) : WM p l e R s m args below meth c (MQ below (QR dA D sz0 ad0 N0 r σ') args s mc ms (Ab sz0)) nL D dA sz0 ad0 N0 kc kz σ ℓ [va_rf x] pc := by
  cases h
  intro ad H locs ls g1 g2 g3 g4 gz g5 g6 g7
  refine W.widen h1 h2 ?_
  rw [show sm ad [va_rf x] = [va_rf (x.map ad)] from congrArg (· :: []) (cv_rf ad x)]
  exact W.aret X.1.1 X.1.2.1 hr hrt (va_rf_or _) (fun t ht hW => ⟨⟨x.map ad, ad, rfl, ⟨rfl, g1, g2, vok_rf' g6.head⟩, show PM D dA sz0 ad σ t.heap by rw [ht]; exact g3⟩, g4.F ht⟩) g4.2.2 hdg X.2
/-- a call's run behind it -/
theorem wm_run_i {fr lo mc ms : Nat} {r : Int32} {σ1 : Mm} {a : Array Value} {ad : Nat → Nat} {H : Heap} {locs : List Loc} {ls : Array Slot} {st0 : List Value} (g1 : Ex N0 ad0 ad) (g2 : N0 ≤ mN σ) (g4 : va_S (Ab sz0) s.heap H locs) (gz : sz0 ≤ s.heap.size) (g5 : LK σ ℓ) (g6 : VK σ st) (g7 : lv_has ls nL (lm ad ℓ)) (hr : va_Run p l e R s m args below meth c H locs kc kz mc ms (F0 m pc ls st0) (sm ad st) (QI dA D sz0 ad (mN σ) r σ1 a) (Ab sz0)) (kk : mN σ ≤ mN σ1 → WM p l e R s m args below meth c Q nL D dA sz0 ad0 N0 (kc + mc) (kz + ms) σ1 ℓ (.int r :: st) (pc + 3)) : W p l e R s m args below meth c H locs kc kz Q (F0 m pc ls st0) := by
  refine va_calli hr g4 (fun q _ h => h) (fun q h => h) (fun x u t H1 locs1 ht hvm hp hB hz1 hk1 hS1 => ?_)
  obtain ⟨rfl, hE, hN⟩ := hp
  have hk := kk hN u H1 locs1 ls (g1.trans hE g2) (Nat.le_trans g2 hN) (by rw [← ht]; exact hB) hS1 gz (g5.mono hN) ((g6.mono hN).cons vok_int) (by rw [hE.lm g5]; exact g7)
  rw [show sm u (.int x :: st) = .int x :: sm ad st from congrArg (Value.int x :: ·) (hE.sm g6)] at hk
  exact hk
theorem wm_run_v {fr lo mc ms : Nat} {σ1 : Mm} {a : Array Value} {ad : Nat → Nat} {H : Heap} {locs : List Loc} {ls : Array Slot} {st0 : List Value} (g1 : Ex N0 ad0 ad) (g2 : N0 ≤ mN σ) (g4 : va_S (Ab sz0) s.heap H locs) (gz : sz0 ≤ s.heap.size) (g5 : LK σ ℓ) (g6 : VK σ st) (g7 : lv_has ls nL (lm ad ℓ)) (hr : va_Run p l e R s m args below meth c H locs kc kz mc ms (F0 m pc ls st0) (sm ad st) (QV dA D sz0 ad (mN σ) σ1 a) (Ab sz0)) (kk : mN σ ≤ mN σ1 → WM p l e R s m args below meth c Q nL D dA sz0 ad0 N0 (kc + mc) (kz + ms) σ1 ℓ st (pc + 3)) : W p l e R s m args below meth c H locs kc kz Q (F0 m pc ls st0) := by
  refine va_callv hr g4 (fun q _ h => h) (fun q h => h) (fun u t H1 locs1 ht hvm hp hB hz1 hk1 hS1 => ?_)
  obtain ⟨hE, hN⟩ := hp
  have hk := kk hN u H1 locs1 ls (g1.trans hE g2) (Nat.le_trans g2 hN) (by rw [← ht]; exact hB) hS1 gz (g5.mono hN) (g6.mono hN) (by rw [hE.lm g5]; exact g7)
  rw [hE.sm g6] at hk
  exact hk
theorem wm_run_r {fr lo mc ms : Nat} {r : Option Nat} {σ1 : Mm} {a : Array Value} {ad : Nat → Nat} {H : Heap} {locs : List Loc} {ls : Array Slot} {st0 : List Value} (g1 : Ex N0 ad0 ad) (g2 : N0 ≤ mN σ) (g4 : va_S (Ab sz0) s.heap H locs) (gz : sz0 ≤ s.heap.size) (g5 : LK σ ℓ) (g6 : VK σ st) (g7 : lv_has ls nL (lm ad ℓ)) (hr : va_Run p l e R s m args below meth c H locs kc kz mc ms (F0 m pc ls st0) (sm ad st) (QR dA D sz0 ad (mN σ) r σ1 a) (Ab sz0)) (kk : mN σ ≤ mN σ1 → WM p l e R s m args below meth c Q nL D dA sz0 ad0 N0 (kc + mc) (kz + ms) σ1 ℓ (va_rf r :: st) (pc + 3)) : W p l e R s m args below meth c H locs kc kz Q (F0 m pc ls st0) := by
  refine va_callq hr g4 (fun q _ h => h) (fun q h => h) (fun x u t H1 locs1 ht hvm hp hB hz1 hk1 hS1 => ?_)
  obtain ⟨rfl, hE, hN, hv⟩ := hp
  have hk := kk hN u H1 locs1 ls (g1.trans hE g2) (Nat.le_trans g2 hN) (by rw [← ht]; exact hB) hS1 gz (g5.mono hN) ((g6.mono hN).cons (vok_rf hv)) (by rw [hE.lm g5]; exact g7)
  rw [show sm u (va_rf r :: st) = va_rf (r.map u) :: sm ad st by rw [← cv_rf, ← hE.sm g6]; rfl] at hk
  exact hk
theorem sm_stack {ad : Nat → Nat} {As st : List Value} : sm ad (As.reverse ++ st) = (sm ad As).reverse ++ sm ad st := by simp [sm]
theorem sm_stackR {ad : Nat → Nat} {As st : List Value} {q : Nat} : sm ad (As.reverse ++ va_rf (some q) :: st) = (sm ad As).reverse ++ .ref (ad q) :: sm ad st := by simp [sm, va_rf, cv]
theorem VK_args {σ : Mm} {As st : List Value} (h : VK σ (As.reverse ++ st)) : VK σ As := fun v hv => h v (List.mem_append_left _ (List.mem_reverse.mpr hv))
theorem wm_recv {ad : Nat → Nat} {H : Heap} {q : Nat} (hS : ST D dA sz0 ad0 s) (g3 : PM D dA sz0 ad σ H) (hcd : CD ci C T N ty) (hs : mS σ q = ci) : ∃ cellB : Cell, H[ad q]? = some cellB ∧ cellB.vm.isStatics = false ∧ s.vm.findClass C = some cellB.cls :=
  va_recv hS.1 g3.1 hcd.1.1 ((g3.at hs hcd.1.2.2.2 (by have := hcd.1.2.2.1; omega)).trans (congrArg some (pent_o hs hcd.1.2.2.1)))
theorem wm_objInit (X : CX p s m args meth c cc nL own) (hdg : decode cc pc = .ok (.invokespecial idx, 3)) (hq : Cond.methodLink own idx Lib.objectInit ∈ lw_all) (h2 : Cond.instanceMethod Lib.objectInit ∈ lw_all) (h3 : Cond.code Lib.objectInit ⟨#[0xb1]⟩ 1 none ∈ lw_all) (hf : 1 ≤ R.frames) (hst : c1 st) (h8 : st.length ≤ 8) (hl : 20 ≤ R.locals) {q : Nat} (kk : WM p l e R s m args below meth c Q nL D dA sz0 ad0 N0 kc kz σ ℓ st (pc + 3)) : WM p l e R s m args below meth c Q nL D dA sz0 ad0 N0 kc kz σ ℓ (va_rf (some q) :: st) pc :=
  fun ad H locs ls g1 g2 g3 g4 gz g5 g6 g7 => W.objInit X.1.1 X.1.2.1 X.1.2.2.2.1 (X.1.2.2.2.2 _ hq) (X.1.2.2.2.2 _ h2) (X.1.2.2.2.2 _ h3) rfl (by rw [X.1.2.2.1]; exact g7.1) rfl hdg hf (by have h0 : ((sm ad st).map fun v => v.category).sum ≤ 8 := (by rw [sm_cat]; exact c1_s hst h8); exact Nat.le_trans (Nat.add_le_add_right (show 2 * 0 + ((sm ad st).map fun v => v.category).sum ≤ 8 by omega) 12) hl) (W.eq (g2 := F0 m (pc + 3) ls (sm ad st)) rfl (kk ad H locs ls g1 g2 g3 g4 gz g5 g6.tail g7))
theorem wm_mmax (X : CX p s m args meth c cc nL own) {x y : Int32} (hdg : decode cc pc = .ok (.invokestatic idx, 3)) (hq : Cond.methodLink own idx Lib.Math.max.name ∈ lw_all) (h2 : Cond.static Lib.Math.max.name ∈ lw_all) (h3 : Cond.initialized "java/lang/Math" ∈ lw_all) (h4 : Cond.code Lib.Math.max.name Lib.Math.max.code 2 (some .int) ∈ lw_all) (hf : 1 ≤ R.frames) (hst : c1 st) (h8 : st.length ≤ 8) (hl : 21 ≤ R.locals) (hc : kc ≤ R.cells) (hs : kz ≤ R.slots) (kk : WM p l e R s m args below meth c Q nL D dA sz0 ad0 N0 kc kz σ ℓ (.int (imax x y) :: st) (pc + 3)) : WM p l e R s m args below meth c Q nL D dA sz0 ad0 N0 kc kz σ ℓ (.int y :: .int x :: st) pc :=
  fun ad H locs ls g1 g2 g3 g4 gz g5 g6 g7 => va_mmax X.1.1 X.1.2.1 (X.1.2.2.1.trans g7.1.symm) X.1.2.2.2.1 (X.1.2.2.2.2 _ hq) (X.1.2.2.2.2 _ h2) (X.1.2.2.2.2 _ h3) (X.1.2.2.2.2 _ h4) hf (by have h0 : ((sm ad st).map fun v => v.category).sum ≤ 8 := (by rw [sm_cat]; exact c1_s hst h8); exact Nat.le_trans (Nat.add_le_add_right h0 13) hl) hc hs hdg (kk ad H locs ls g1 g2 g3 g4 gz g5 (g6.tail.tail.cons vok_int) g7)
theorem wm_mmin (X : CX p s m args meth c cc nL own) {x y : Int32} (hdg : decode cc pc = .ok (.invokestatic idx, 3)) (hq : Cond.methodLink own idx Lib.Math.min.name ∈ lw_all) (h2 : Cond.static Lib.Math.min.name ∈ lw_all) (h3 : Cond.initialized "java/lang/Math" ∈ lw_all) (h4 : Cond.code Lib.Math.min.name Lib.Math.min.code 2 (some .int) ∈ lw_all) (hf : 1 ≤ R.frames) (hst : c1 st) (h8 : st.length ≤ 8) (hl : 21 ≤ R.locals) (hc : kc ≤ R.cells) (hs : kz ≤ R.slots) (kk : WM p l e R s m args below meth c Q nL D dA sz0 ad0 N0 kc kz σ ℓ (.int (imin x y) :: st) (pc + 3)) : WM p l e R s m args below meth c Q nL D dA sz0 ad0 N0 kc kz σ ℓ (.int y :: .int x :: st) pc :=
  fun ad H locs ls g1 g2 g3 g4 gz g5 g6 g7 => va_mmin X.1.1 X.1.2.1 (X.1.2.2.1.trans g7.1.symm) X.1.2.2.2.1 (X.1.2.2.2.2 _ hq) (X.1.2.2.2.2 _ h2) (X.1.2.2.2.2 _ h3) (X.1.2.2.2.2 _ h4) hf (by have h0 : ((sm ad st).map fun v => v.category).sum ≤ 8 := (by rw [sm_cat]; exact c1_s hst h8); exact Nat.le_trans (Nat.add_le_add_right h0 13) hl) hc hs hdg (kk ad H locs ls g1 g2 g3 g4 gz g5 (g6.tail.tail.cons vok_int) g7)
theorem wm_mabs (X : CX p s m args meth c cc nL own) {x : Int32} (hdg : decode cc pc = .ok (.invokestatic idx, 3)) (hq : Cond.methodLink own idx Lib.Math.abs.name ∈ lw_all) (h2 : Cond.static Lib.Math.abs.name ∈ lw_all) (h3 : Cond.initialized "java/lang/Math" ∈ lw_all) (h4 : Cond.code Lib.Math.abs.name Lib.Math.abs.code 1 (some .int) ∈ lw_all) (hf : 1 ≤ R.frames) (hst : c1 st) (h8 : st.length ≤ 8) (hl : 21 ≤ R.locals) (hc : kc ≤ R.cells) (hs : kz ≤ R.slots) (kk : WM p l e R s m args below meth c Q nL D dA sz0 ad0 N0 kc kz σ ℓ (.int (iabs x) :: st) (pc + 3)) : WM p l e R s m args below meth c Q nL D dA sz0 ad0 N0 kc kz σ ℓ (.int x :: st) pc :=
  fun ad H locs ls g1 g2 g3 g4 gz g5 g6 g7 => va_mabs X.1.1 X.1.2.1 (X.1.2.2.1.trans g7.1.symm) X.1.2.2.2.1 (X.1.2.2.2.2 _ hq) (X.1.2.2.2.2 _ h2) (X.1.2.2.2.2 _ h3) (X.1.2.2.2.2 _ h4) hf (by have h0 : ((sm ad st).map fun v => v.category).sum ≤ 8 := (by rw [sm_cat]; exact c1_s hst h8); exact Nat.le_trans (Nat.add_le_add_right h0 13) hl) hc hs hdg (kk ad H locs ls g1 g2 g3 g4 gz g5 (g6.tail.cons vok_int) g7)
end R4
abbrev WMi (p : Program) (l : Launch) (e : Env) (s : State) (m : MethodId) (args : Array Value) (below : List Frame) (meth : Method) (c : Code) (fr lo mc ms nL : Nat) (D : va_G) (dA : Nat → ClassId) (sz0 : Nat) (ad0 : Nat → Nat) (N0 : Nat) (r : Int32) (σf : Mm) (kc kz : Nat) (σ : Mm) (ℓ : List (Nat × Value)) (st : List Value) (pc : Nat) : Prop := WM p l e (rmv fr lo mc ms) s m args below meth c (MQ below (QI dA D sz0 ad0 N0 r σf) args s mc ms (Ab sz0)) nL D dA sz0 ad0 N0 kc kz σ ℓ st pc
abbrev WMv (p : Program) (l : Launch) (e : Env) (s : State) (m : MethodId) (args : Array Value) (below : List Frame) (meth : Method) (c : Code) (fr lo mc ms nL : Nat) (D : va_G) (dA : Nat → ClassId) (sz0 : Nat) (ad0 : Nat → Nat) (N0 : Nat) (σf : Mm) (kc kz : Nat) (σ : Mm) (ℓ : List (Nat × Value)) (st : List Value) (pc : Nat) : Prop := WM p l e (rmv fr lo mc ms) s m args below meth c (MQ below (QV dA D sz0 ad0 N0 σf) args s mc ms (Ab sz0)) nL D dA sz0 ad0 N0 kc kz σ ℓ st pc
abbrev WMr (p : Program) (l : Launch) (e : Env) (s : State) (m : MethodId) (args : Array Value) (below : List Frame) (meth : Method) (c : Code) (fr lo mc ms nL : Nat) (D : va_G) (dA : Nat → ClassId) (sz0 : Nat) (ad0 : Nat → Nat) (N0 : Nat) (r : Option Nat) (σf : Mm) (kc kz : Nat) (σ : Mm) (ℓ : List (Nat × Value)) (st : List Value) (pc : Nat) : Prop := WM p l e (rmv fr lo mc ms) s m args below meth c (MQ below (QR dA D sz0 ad0 N0 r σf) args s mc ms (Ab sz0)) nL D dA sz0 ad0 N0 kc kz σ ℓ st pc
