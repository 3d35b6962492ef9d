/-! THE LAYER, 10: switches, references in arrays, casts, enums, Strings -/
theorem ifx_e {β : Type} {P : Prop} {_d : Decidable P} {A B : Option β} {o : β} {G : Prop} (h : (if P then A else B) = some o) (k1 : P → A = some o → G) (k2 : ¬ P → B = some o → G) : G := by
  split at h
  next hc => exact k1 hc h
  next hc => exact k2 hc h
/-- the classes of what is put into lists (each can be cast to Object: the word's number) -/
def obw : List (Nat × Nat) := [(2, 47), (11, 89), (12, 91), (13, 93), (14, 97), (15, 98), (16, 99), (18, 103)]
def obj (σ : Mm) (q : Nat) : Bool := (obw.map Prod.fst).contains (mS σ q)
def xok (σ : Mm) (x : Option Nat) : Bool := match x with
  | none => true
  | some q => obj σ q
def sR (v : Option Nat) (i : Int32) (x : Option Nat) (σ : Mm) : Option Mm := v.bind fun p => if mS σ p = 102 ∧ ¬ (i < 0 ∨ mL σ p ≤ i.toNatClampNeg) ∧ xok σ x = true then some (wR σ p i.toNatClampNeg x) else none
/-- arraycopy of references -/
def wB (σ : Mm) (p : Nat) (f : Nat → Option Nat) : Mm := (σ.1, σ.2.1, σ.2.2.1, up1 σ.2.2.2.1 p f, σ.2.2.2.2)
def cpR (v : Option Nat) (sp : Int32) (w : Option Nat) (dp n : Int32) (σ : Mm) : Option Mm := v.bind fun a => w.bind fun b =>
  if mS σ a = 102 ∧ mS σ b = 102 ∧ ¬ sp < 0 ∧ ¬ dp < 0 ∧ ¬ n < 0 ∧ sp.toNatClampNeg + n.toNatClampNeg ≤ mL σ a ∧ dp.toNatClampNeg + n.toNatClampNeg ≤ mL σ b ∧ ((List.range n.toNatClampNeg).all fun i => xok σ (mR σ a (sp.toNatClampNeg + i))) = true
  then some (wB σ b (va_cpy (mR σ a) (mR σ b) sp.toNatClampNeg dp.toNatClampNeg n.toNatClampNeg)) else none
section R10
variable {p : Program} {l : Launch} {e : Env} {R : Room} {s : State} {m : MethodId} {args : Array Value} {below : List Frame} {meth : Method} {c : Code} {Q : State → Prop} {cc : ByteArray} {nL : Nat} {own : String} {D : va_G} {dA : Nat → ClassId} {sz0 : Nat} {ad0 : Nat → Nat} {N0 kc kz : Nat} {σ σ' : Mm} {ℓ ℓ' : List (Nat × Value)} {st : List Value} {pc : Nat} {β : Type} {o : β} {ci : Nat} {C : String} {T : u_T} {N : Nat} {ty : Nat → FieldType} {idx : Nat} {v : Option Nat} {y : MethodName} {bytes : ByteArray} {maxL fr lo mc ms n : Nat} {ret : Option FieldType} {As stk : List Value} {q : Nat}
theorem wm_gIk (X : CX p s m args meth c cc nL own) (hS : ST D dA sz0 ad0 s) (ci k : Nat) {t : Nat} (ht : t = ci + 500) {f : Int32 → Option β} (h : (gI t k v σ).bind f = some o) (hci : ci < 100) (hk : k < roN ci) (hr : roR ci k = false) (hdg : decode cc pc = .ok (.getfield idx, 3)) (hq : Cond.fieldLink own idx (roT ci k).1 (roT ci k).2.1 (roT ci k).2.2 ∈ lw_all) (kk : ∀ x, f x = some o → WM p l e R s m args below meth c Q nL D dA sz0 ad0 N0 kc kz σ ℓ (.int x :: st) (pc + 3)) : WM p l e R s m args below meth c Q nL D dA sz0 ad0 N0 kc kz σ ℓ (va_rf v :: st) pc := by
  obtain ⟨x, hx, h9⟩ := Option.bind_eq_some_iff.mp h
  obtain ⟨q, rfl, hs, rfl⟩ := gI_some hx
  exact wm_roI X hS ci k (hs.trans ht) hci hk hr hdg hq (kk _ h9)
theorem wm_gRk (X : CX p s m args meth c cc nL own) (hS : ST D dA sz0 ad0 s) (ci k : Nat) {t : Nat} (ht : t = ci + 500) {f : Option Nat → Option β} (h : (gR t k v σ).bind f = some o) (hci : ci < 100) (hk : k < roN ci) (hr : roR ci k = true) (hdg : decode cc pc = .ok (.getfield idx, 3)) (hq : Cond.fieldLink own idx (roT ci k).1 (roT ci k).2.1 (roT ci k).2.2 ∈ lw_all) (kk : ∀ x, f x = some o → WM p l e R s m args below meth c Q nL D dA sz0 ad0 N0 kc kz σ ℓ (va_rf x :: st) (pc + 3)) : WM p l e R s m args below meth c Q nL D dA sz0 ad0 N0 kc kz σ ℓ (va_rf v :: st) pc := by
  obtain ⟨x, hx, h9⟩ := Option.bind_eq_some_iff.mp h
  obtain ⟨q, rfl, hs, rfl⟩ := gR_some hx
  exact wm_roR X hS ci k (hs.trans ht) hci hk hr hdg hq (kk _ h9)
theorem wm_baloadK (X : CX p s m args meth c cc nL own) (hS : ST D dA sz0 ad0 s) {i : Int32} {f : Int32 → Option β} (h : (aI 601 v i σ).bind f = some o) (hdg : decode cc pc = .ok (.baload, 1)) (kk : ∀ x, f x = some o → WM p l e R s m args below meth c Q nL D dA sz0 ad0 N0 kc kz σ ℓ (.int x :: st) (pc + 1)) : WM p l e R s m args below meth c Q nL D dA sz0 ad0 N0 kc kz σ ℓ (.int i :: va_rf v :: st) pc := by
  obtain ⟨x, hx, h9⟩ := Option.bind_eq_some_iff.mp h
  obtain ⟨q, rfl, hs, hin, rfl⟩ := aI_some hx
  intro ad H locs ls h1 h2 h3 h4 hz h5 h6 h7
  obtain ⟨hb, hk9⟩ := h3.big (t := 101) hs
  have hT := hS.2.2.1.2.1 q hb hk9
  have hL := (h3.2.2.2.2.2.2.2 q hb).2.1
  have hI := (h3.2.2.2.2.2.2.2 q hb).2.2.1
  rw [← h1 q (Or.inr hb)] at hT
  exact va_tb X.1.1 X.1.2.1 hT h4 (by rw [← hL]; exact hin) (by show Value.int (kI q _) = Value.int (mI σ q _); rw [hI]) hdg (kk _ h9 ad H locs ls h1 h2 h3 h4 hz h5 (h6.tail.tail.cons vok_int) h7)
theorem wm_alenK (X : CX p s m args meth c cc nL own) (hS : ST D dA sz0 ad0 s) (t : Nat) (ht : t = 601 ∨ t = 602 ∨ t = 603) {f : Int32 → Option β} (h : (aL t v σ).bind f = some o) (hdg : decode cc pc = .ok (.arraylength, 1)) (kk : ∀ x, f x = some o → WM p l e R s m args below meth c Q nL D dA sz0 ad0 N0 kc kz σ ℓ (.int x :: st) (pc + 1)) : WM p l e R s m args below meth c Q nL D dA sz0 ad0 N0 kc kz σ ℓ (va_rf v :: st) pc := by
  obtain ⟨x, hx, h9⟩ := Option.bind_eq_some_iff.mp h
  obtain ⟨q, rfl, hs, rfl⟩ := aL_some hx
  intro ad H locs ls h1 h2 h3 h4 hz h5 h6 h7
  have hk := kk _ h9 ad H locs ls h1 h2 h3 h4 hz h5 (h6.tail.cons vok_int) h7
  rcases ht with rfl | rfl | rfl
  · obtain ⟨hb, hk9⟩ := h3.big (t := 101) hs
    have hT := hS.2.2.1.2.1 q hb hk9
    rw [← h1 q (Or.inr hb)] at hT
    exact va_tlen X.1.1 X.1.2.1 hT h4 (by rw [(h3.2.2.2.2.2.2.2 q hb).2.1]) hdg hk
  · obtain ⟨hb, hk9⟩ := h3.big (t := 102) hs
    have hT := hS.2.2.1.2.2.1 q hb hk9
    rw [← h1 q (Or.inr hb)] at hT
    exact va_tlen X.1.1 X.1.2.1 hT h4 (by rw [(h3.2.2.2.2.2.2.2 q hb).2.1]) hdg hk
  · obtain ⟨hb, hk9⟩ := h3.big (t := 103) hs
    have hT := hS.2.2.1.2.2.2.1 q hb hk9
    rw [← h1 q (Or.inr hb)] at hT
    exact va_tlen X.1.1 X.1.2.1 hT h4 (by rw [(h3.2.2.2.2.2.2.2 q hb).2.1]) hdg hk
theorem wm_aaload (X : CX p s m args meth c cc nL own) (hS : ST D dA sz0 ad0 s) {i : Int32} {f : Option Nat → Option β} (h : (aR 102 v i σ).bind f = some o) (hdg : decode cc pc = .ok (.aaload, 1)) (kk : ∀ x, f x = some o → WM p l e R s m args below meth c Q nL D dA sz0 ad0 N0 kc kz σ ℓ (va_rf x :: st) (pc + 1)) : WM p l e R s m args below meth c Q nL D dA sz0 ad0 N0 kc kz σ ℓ (.int i :: va_rf v :: st) pc := by
  obtain ⟨x, hx, h9⟩ := Option.bind_eq_some_iff.mp h
  obtain ⟨q, rfl, hs, hin, rfl⟩ := aR_some hx
  intro ad H locs ls h1 h2 h3 h4 hz h5 h6 h7
  have hk := kk _ h9 ad H locs ls h1 h2 h3 h4 hz h5 (h6.tail.tail.cons (vok_rf fun a ha => h3.2.2.2.2.1 q _ a (h3.lt hs (by omega) (by omega)) ha)) h7
  rw [show sm ad (va_rf (mR σ q i.toNatClampNeg) :: st) = va_rf ((mR σ q i.toNatClampNeg).map ad) :: sm ad st by rw [← cv_rf]; rfl] at hk
  exact va_aldq X.1.1 X.1.2.1 hS.1 h3.1 q 2 ((h3.at hs (by omega) (by omega)).trans (congrArg some (pent_r hs (by omega)))) rfl hin hdg hk
theorem aK_at {i : Int32} {ad : Nat → Nat} {H : Heap} (h1 : Ex N0 ad0 ad) (h3 : PM D dA sz0 ad σ H) (hb : BIG ≤ q) : va_rf ((kR ad0 q i.toNatClampNeg).map ad0) = cv ad (va_rf (mR σ q i.toNatClampNeg)) := by
  rw [cv_rf, (h3.2.2.2.2.2.2.2 q hb).2.2.2, kR_map (fun a ha => h1 a (Or.inr ha)) hb]
theorem wm_aaloadK (X : CX p s m args meth c cc nL own) (hS : ST D dA sz0 ad0 s) (t : Nat) (ht : t = 602 ∨ t = 603) {i : Int32} {f : Option Nat → Option β} (h : (aR t v i σ).bind f = some o) (hdg : decode cc pc = .ok (.aaload, 1)) (kk : ∀ x, f x = some o → WM p l e R s m args below meth c Q nL D dA sz0 ad0 N0 kc kz σ ℓ (va_rf x :: st) (pc + 1)) : WM p l e R s m args below meth c Q nL D dA sz0 ad0 N0 kc kz σ ℓ (.int i :: va_rf v :: st) pc := by
  obtain ⟨x, hx, h9⟩ := Option.bind_eq_some_iff.mp h
  obtain ⟨q, rfl, hs, hin, rfl⟩ := aR_some hx
  intro ad H locs ls h1 h2 h3 h4 hz h5 h6 h7
  rcases ht with rfl | rfl
  · obtain ⟨hb, hk9⟩ := h3.big (t := 102) hs
    have hk := kk _ h9 ad H locs ls h1 h2 h3 h4 hz h5 (h6.tail.tail.cons (vok_rf fun a ha => Or.inr (kR_big (k := i.toNatClampNeg) (ad := ad) hb (by rw [← (h3.2.2.2.2.2.2.2 q hb).2.2.2]; exact ha)))) h7
    have hT := hS.2.2.1.2.2.1 q hb hk9
    rw [← h1 q (Or.inr hb)] at hT
    exact vb_tq X.1.1 X.1.2.1 hT h4 (by rw [← (h3.2.2.2.2.2.2.2 q hb).2.1]; exact hin) (aK_at h1 h3 hb) hdg hk
  · obtain ⟨hb, hk9⟩ := h3.big (t := 103) hs
    have hk := kk _ h9 ad H locs ls h1 h2 h3 h4 hz h5 (h6.tail.tail.cons (vok_rf fun a ha => Or.inr (kR_big (k := i.toNatClampNeg) (ad := ad) hb (by rw [← (h3.2.2.2.2.2.2.2 q hb).2.2.2]; exact ha)))) h7
    have hT := hS.2.2.1.2.2.2.1 q hb hk9
    rw [← h1 q (Or.inr hb)] at hT
    exact vb_tq X.1.1 X.1.2.1 hT h4 (by rw [← (h3.2.2.2.2.2.2.2 q hb).2.1]; exact hin) (aK_at h1 h3 hb) hdg hk
theorem wm_ldcS (X : CX p s m args meth c cc nL own) (hS : ST D dA sz0 ad0 s) (j k : Nat) {tx : String} (hj : strl[j]? = some (own, idx, tx, k)) (hdg : decode cc pc = .ok (.ldc idx, 2)) (kk : WM p l e R s m args below meth c Q nL D dA sz0 ad0 N0 kc kz σ ℓ (va_rf (some (BIG + 2 * k)) :: st) (pc + 2)) : WM p l e R s m args below meth c Q nL D dA sz0 ad0 N0 kc kz σ ℓ st pc := by
  intro ad H locs ls h1 h2 h3 h4 hz h5 h6 h7
  have hZ := hS.2.2.1.2.2.2.2.2.1 _ (List.mem_of_getElem? hj)
  refine va_ldcS X.1.1 X.1.2.1 X.1.2.2.2.1 hZ hdg ?_
  have hk := kk ad H locs ls h1 h2 h3 h4 hz h5 (h6.cons (vok_rf fun a ha => by cases ha; exact Or.inr (by omega))) h7
  rw [show sm ad (va_rf (some (BIG + 2 * k)) :: st) = .ref (ad0 (BIG + 2 * k)) :: sm ad st by rw [← h1 _ (Or.inr (by omega : BIG ≤ BIG + 2 * k))]; rfl] at hk
  exact hk
theorem wm_tabIn (X : CX p s m args meth c cc nL own) {x : Int32} (k : Int32) (e0 : x = k) {dflt lo hi : Int} {offs : Array Int} {len tgt : Nat} {off : Int} (hdg : decode cc pc = .ok (.tableswitch dflt lo hi offs, len)) (g1 : ¬ k.toInt < lo) (g2 : ¬ hi < k.toInt) (ho : offs[(k.toInt - lo).toNat]? = some off) (ht : (pc : Int) + off = (tgt : Int)) (kk : WM p l e R s m args below meth c Q nL D dA sz0 ad0 N0 kc kz σ ℓ st tgt) : WM p l e R s m args below meth c Q nL D dA sz0 ad0 N0 kc kz σ ℓ (.int x :: st) pc := by
  subst e0
  exact fun ad H locs ls h1 h2 h3 h4 hz h5 h6 h7 => lv_tableIn X.1.1 X.1.2.1 hdg g1 g2 ho ht (kk ad H locs ls h1 h2 h3 h4 hz h5 h6.tail h7)
theorem wm_tabOut (X : CX p s m args meth c cc nL own) {x : Int32} {dflt lo hi : Int} {offs : Array Int} {len tgt : Nat} (hdg : decode cc pc = .ok (.tableswitch dflt lo hi offs, len)) (g : x.toInt < lo ∨ hi < x.toInt) (ht : (pc : Int) + dflt = (tgt : Int)) (kk : WM p l e R s m args below meth c Q nL D dA sz0 ad0 N0 kc kz σ ℓ st tgt) : WM p l e R s m args below meth c Q nL D dA sz0 ad0 N0 kc kz σ ℓ (.int x :: st) pc :=
  fun ad H locs ls h1 h2 h3 h4 hz h5 h6 h7 => lv_tableOut X.1.1 X.1.2.1 hdg g ht (kk ad H locs ls h1 h2 h3 h4 hz h5 h6.tail h7)
theorem wm_look (X : CX p s m args meth c cc nL own) {x : Int32} {dflt : Int} {ps : Array (Int × Int)} {len tgt : Nat} {off : Int} (hdg : decode cc pc = .ok (.lookupswitch dflt ps, len)) (hp : (ps.toList.zip (ps.toList.drop 1)).all (fun (a, next) => a.1 < next.1) = true) (ho : Op.lookupswitch.offset ps.toList dflt x.toInt = off) (ht : (pc : Int) + off = (tgt : Int)) (kk : WM p l e R s m args below meth c Q nL D dA sz0 ad0 N0 kc kz σ ℓ st tgt) : WM p l e R s m args below meth c Q nL D dA sz0 ad0 N0 kc kz σ ℓ (.int x :: st) pc :=
  fun ad H locs ls h1 h2 h3 h4 hz h5 h6 h7 => lv_lookup X.1.1 X.1.2.1 hdg hp ho ht (kk ad H locs ls h1 h2 h3 h4 hz h5 h6.tail h7)
/-- casts -/
theorem wm_cast (X : CX p s m args meth c cc nL own) (hS : ST D dA sz0 ad0 s) (hcd : CD ci C T N ty) {f : Nat → Option β} (h : (rv ci v σ).bind f = some o) (hdg : decode cc pc = .ok (.checkcast idx, 3)) (hq : Cond.classLink own idx C ∈ lw_all) (kk : ∀ q, v = some q → mS σ q = ci → f q = some o → WM p l e R s m args below meth c Q nL D dA sz0 ad0 N0 kc kz σ ℓ (va_rf (some q) :: st) (pc + 3)) : WM p l e R s m args below meth c Q nL D dA sz0 ad0 N0 kc kz σ ℓ (va_rf v :: st) pc := by
  obtain ⟨q, hx, h9⟩ := Option.bind_eq_some_iff.mp h
  obtain ⟨rfl, hs⟩ := rv_some hx
  intro ad H locs ls h1 h2 h3 h4 hz h5 h6 h7
  exact va_castE X.1.1 X.1.2.1 X.1.2.2.2.1 (X.1.2.2.2.2 _ hq) (wm_recv hS h3 hcd hs) hdg (kk q rfl hs h9 ad H locs ls h1 h2 h3 h4 hz h5 h6 h7)
theorem wm_castK (X : CX p s m args meth c cc nL own) (hS : ST D dA sz0 ad0 s) (ci : Nat) {t : Nat} (ht : t = ci + 500) (hci : ci < 100) {f : Nat → Option β} (h : (rv t v σ).bind f = some o) (hdg : decode cc pc = .ok (.checkcast idx, 3)) (hq : Cond.classLink own idx (roC ci) ∈ lw_all) (kk : ∀ q, v = some q → mS σ q = t → f q = some o → WM p l e R s m args below meth c Q nL D dA sz0 ad0 N0 kc kz σ ℓ (va_rf (some q) :: st) (pc + 3)) : WM p l e R s m args below meth c Q nL D dA sz0 ad0 N0 kc kz σ ℓ (va_rf v :: st) pc := by
  obtain ⟨q, hx, h9⟩ := Option.bind_eq_some_iff.mp h
  obtain ⟨rfl, hs⟩ := rv_some hx
  intro ad H locs ls h1 h2 h3 h4 hz h5 h6 h7
  exact va_castE X.1.1 X.1.2.1 X.1.2.2.2.1 (X.1.2.2.2.2 _ hq) (wm_rorecv hS h1 h3 h4 (hs.trans ht) hci) hdg (kk q rfl hs h9 ad H locs ls h1 h2 h3 h4 hz h5 h6 h7)
theorem wm_instK (X : CX p s m args meth c cc nL own) (hS : ST D dA sz0 ad0 s) (ci : Nat) {t : Nat} (ht : t = ci + 500) (hci : ci < 100) {f : Nat → Option β} (h : (rv t v σ).bind f = some o) (hdg : decode cc pc = .ok (.instanceof idx, 3)) (hq : Cond.classLink own idx (roC ci) ∈ lw_all) (kk : ∀ q, v = some q → mS σ q = t → f q = some o → WM p l e R s m args below meth c Q nL D dA sz0 ad0 N0 kc kz σ ℓ (.int 1 :: st) (pc + 3)) : WM p l e R s m args below meth c Q nL D dA sz0 ad0 N0 kc kz σ ℓ (va_rf v :: st) pc := by
  obtain ⟨q, hx, h9⟩ := Option.bind_eq_some_iff.mp h
  obtain ⟨rfl, hs⟩ := rv_some hx
  intro ad H locs ls h1 h2 h3 h4 hz h5 h6 h7
  exact va_instE X.1.1 X.1.2.1 X.1.2.2.2.1 (X.1.2.2.2.2 _ hq) (wm_rorecv hS h1 h3 h4 (hs.trans ht) hci) hdg (kk q rfl hs h9 ad H locs ls h1 h2 h3 h4 hz h5 (h6.tail.cons vok_int) h7)
/-- what is put into an array of objects -/
theorem wm_any9 {ad : Nat → Nat} {H : Heap} (hS : ST D dA sz0 ad0 s) (g3 : PM D dA sz0 ad σ H) (hcd : CD ci C T N ty) (hs : mS σ q = ci) (j : Nat) (hj : nwl[j]? = some (Cond.castable C "java/lang/Object")) : va_Any "java/lang/Object" s H (ad q) := by
  obtain ⟨cell, h1, h2, h3⟩ := wm_recv hS g3 hcd hs
  obtain ⟨kC, hkC, -⟩ := Vm.findClass_spec h3
  obtain ⟨c0, t0, f1, f2, f3⟩ := Cond.castable_spec (va_Nw.use (A := #[]) rfl (hS.2.1 _ (List.mem_of_getElem? hj)))
  refine ⟨cell, h1, h2, ⟨kC, hkC⟩, fun comp h => ?_⟩
  cases h3.symm.trans f1
  cases h.symm.trans f2
  exact f3
theorem wm_any {ad : Nat → Nat} {H : Heap} (hS : ST D dA sz0 ad0 s) (g3 : PM D dA sz0 ad σ H) (hs : obj σ q = true) : va_Any "java/lang/Object" s H (ad q) := by
  simp only [obj, obw, List.map_cons, List.map_nil, List.contains_eq_mem, decide_eq_true_eq, List.mem_cons, List.not_mem_nil, or_false] at hs
  rcases hs with h | h | h | h | h | h | h | h
  · exact wm_any9 hS g3 cd_2 h 47 rfl
  · exact wm_any9 hS g3 cd_11 h 89 rfl
  · exact wm_any9 hS g3 cd_12 h 91 rfl
  · exact wm_any9 hS g3 cd_13 h 93 rfl
  · exact wm_any9 hS g3 cd_14 h 97 rfl
  · exact wm_any9 hS g3 cd_15 h 98 rfl
  · exact wm_any9 hS g3 cd_16 h 99 rfl
  · exact wm_any9 hS g3 cd_18 h 103 rfl
theorem wm_aastore (X : CX p s m args meth c cc nL own) (hS : ST D dA sz0 ad0 s) {i : Int32} {x : Option Nat} {f : Mm → Option β} (h : (sR v i x σ).bind f = some o) (hdg : decode cc pc = .ok (.aastore, 1)) (kk : ∀ σ', mN σ' = mN σ → f σ' = some o → WM p l e R s m args below meth c Q nL D dA sz0 ad0 N0 kc kz σ' ℓ st (pc + 1)) : WM p l e R s m args below meth c Q nL D dA sz0 ad0 N0 kc kz σ ℓ (va_rf x :: .int i :: va_rf v :: st) pc := by
  obtain ⟨σ', hx, h9⟩ := Option.bind_eq_some_iff.mp h
  cases v with
  | none => cases hx
  | some q =>
  simp only [sR, Option.bind_some] at hx
  split at hx
  case isFalse => cases hx
  case isTrue hc =>
  cases hx
  obtain ⟨hs, hin, hob⟩ := hc
  intro ad H locs ls h1 h2 h3 h4 hz h5 h6 h7
  have hq := h3.lt hs (by omega) (by omega)
  have hpe : ∀ g : Nat → Option Nat, pent dA ad (wR σ q i.toNatClampNeg x) q = (ad q, .inl (dA 102, mL σ q, .inr (.inr (.inr (.inr fun j => (mR (wR σ q i.toNatClampNeg x) q j).map ad))))) := fun _ => pent_r (σ := wR σ q i.toNatClampNeg x) hs (by omega)
  have hval : ∀ y, x.map ad = y → (fun j => (mR (wR σ q i.toNatClampNeg x) q j).map ad) = va_up (fun j => (mR σ q j).map ad) i.toNatClampNeg y := by
    intro y hy
    funext j
    have e : mR (wR σ q i.toNatClampNeg x) q j = if j = i.toNatClampNeg then x else mR σ q j := by
      show up2 _ _ _ _ q j = _
      rw [up2_r]
      rfl
    show (mR (wR σ q i.toNatClampNeg x) q j).map ad = _
    rw [e]
    unfold va_up
    by_cases hj : j = i.toNatClampNeg
    · rw [if_pos hj, if_pos hj]; exact hy
    · rw [if_neg hj, if_neg hj]
  have ha := (h3.at hs (by omega) (by omega)).trans (congrArg some (pent_r (dA := dA) (ad := ad) hs (by omega)))
  cases x with
  | none =>
    refine va_astqN X.1.1 X.1.2.1 hS.1 h3.1 h3.2.1 h4 q 2 ha rfl hin hdg (fun H1 locs1 hP hD hS1 => ?_)
    exact kk (wR σ q i.toNatClampNeg none) rfl h9 ad H1 locs1 ls h1 h2 (PM_wR ((hpe fun _ => none).trans (by rw [hval none rfl])) h3 hq (fun a ha => by cases ha) hP hD (Ab_S hz hS1)) hS1 hz h5 h6.tail.tail.tail h7
  | some a =>
    refine va_astqM X.1.1 X.1.2.1 hS.1 h3.1 h3.2.1 h4 q 2 ha rfl (wm_any hS h3 hob) hin hdg (fun H1 locs1 hP hD hS1 => ?_)
    exact kk (wR σ q i.toNatClampNeg (some a)) rfl h9 ad H1 locs1 ls h1 h2 (PM_wR ((hpe fun _ => none).trans (by rw [hval (some (ad a)) rfl])) h3 hq (fun b hb => by cases hb; exact vok_rf' h6.head a rfl) hP hD (Ab_S hz hS1)) hS1 hz h5 h6.tail.tail.tail h7
theorem wm_gIA (X : CX p s m args meth c cc nL own) (hS : ST D dA sz0 ad0 s) (hcd : CD ci C T N ty) (k : Nat) {f : Int32 → Option β} (h : (gI ci k v σ).bind f = some o) (hdg : decode cc pc = .ok (.getfield idx, 3)) (hk : k < N) (hr : cr ci k = false) {ref : String} (hq : Cond.fieldLink own idx ref (T k).2.1 (T k).2.2.1 ∈ lw_all) (hsm : Cond.sameField ref (T k).1 (T k).2.1 (T k).2.2.1 ∈ lw_all) (kk : ∀ x, f x = some o → WM p l e R s m args below meth c Q nL D dA sz0 ad0 N0 kc kz σ ℓ (.int x :: st) (pc + 3)) : WM p l e R s m args below meth c Q nL D dA sz0 ad0 N0 kc kz σ ℓ (va_rf v :: st) pc := by
  obtain ⟨x, hx, h⟩ := Option.bind_eq_some_iff.mp h
  obtain ⟨q, rfl, hs, rfl⟩ := gI_some hx
  obtain ⟨⟨hc1, hc2, hc3, hc4⟩, hin, hty, hnm, hdf⟩ := hcd
  intro ad H locs ls h1 h2 h3 h4 hz h5 h6 h7
  have hf : fv ad σ q k = .int (mI σ q k) := by unfold fv; rw [hs, if_neg (by rw [hr]; decide)]
  exact va_get X.1.1 X.1.2.1 X.1.2.2.2.2 hin X.1.2.2.2.1 hS.1 h3.1 q ((h3.at hs hc4 (by omega)).trans (congrArg some (pent_o hs hc3))) hc1 k hk (X.1.2.2.2.2 _ hq) (u_same (X.1.2.2.2.2 _ hsm)) ((fs_at (hc2 ▸ hk)).trans (congrArg some hf)) hdg (kk _ h ad H locs ls h1 h2 h3 h4 hz h5 (h6.tail.cons vok_int) h7)
theorem wm_pIA (X : CX p s m args meth c cc nL own) (hS : ST D dA sz0 ad0 s) (hcd : CD ci C T N ty) (k : Nat) {x : Int32} {f : Mm → Option β} (h : (pI ci k v x σ).bind f = some o) (hdg : decode cc pc = .ok (.putfield idx, 3)) (hk : k < N) (hr : cr ci k = false) {ref : String} (hq : Cond.fieldLink own idx ref (T k).2.1 (T k).2.2.1 ∈ lw_all) (hsm : Cond.sameField ref (T k).1 (T k).2.1 (T k).2.2.1 ∈ lw_all) (ht : ty k = .int) (hf : (T k).2.2.2 = false) (kk : ∀ σ', mN σ' = mN σ → f σ' = some o → WM p l e R s m args below meth c Q nL D dA sz0 ad0 N0 kc kz σ' ℓ st (pc + 3)) : WM p l e R s m args below meth c Q nL D dA sz0 ad0 N0 kc kz σ ℓ (.int x :: va_rf v :: st) pc := by
  obtain ⟨σ', hx, h⟩ := Option.bind_eq_some_iff.mp h
  obtain ⟨q, rfl, hs, rfl⟩ := pI_some hx
  obtain ⟨⟨hc1, hc2, hc3, hc4⟩, hin, hty, hnm, hdf⟩ := hcd
  intro ad H locs ls h1 h2 h3 h4 hz h5 h6 h7
  refine va_put X.1.1 X.1.2.1 X.1.2.2.2.2 hin ty hty hnm X.1.2.2.2.1 hS.1 h3.1 h3.2.1 h4 q ((h3.at hs hc4 (by omega)).trans (congrArg some (pent_o hs hc3))) hc1 k hk (X.1.2.2.2.2 _ hq) (u_same (X.1.2.2.2.2 _ hsm)) hf (hty k hk) (by rw [ht]; rfl) (by rw [ht]; rfl) (by simp; omega) hdg (fun H1 locs1 hP hD hS1 => ?_)
  exact kk (wI σ q k x) rfl h ad H1 locs1 ls h1 h2 (PM_wI (fs_wI hs hc3 hr) h3 (h3.lt hs hc4 (by omega)) hP hD (Ab_S hz hS1)) hS1 hz h5 h6.tail.tail h7
theorem wm_alenO (X : CX p s m args meth c cc nL own) (hS : ST D dA sz0 ad0 s) {f : Int32 → Option β} (h : (aLo 102 v σ).bind f = some o) (hdg : decode cc pc = .ok (.arraylength, 1)) (kk : ∀ x, f x = some o → WM p l e R s m args below meth c Q nL D dA sz0 ad0 N0 kc kz σ ℓ (.int x :: st) (pc + 1)) : WM p l e R s m args below meth c Q nL D dA sz0 ad0 N0 kc kz σ ℓ (va_rf v :: st) pc := by
  obtain ⟨x, hx, h9⟩ := Option.bind_eq_some_iff.mp h
  cases v with
  | none => cases hx
  | some q =>
  simp only [aLo, Option.bind_some] at hx
  split at hx
  case isFalse => cases hx
  case isTrue hc =>
  rcases hc with hc | hc
  · exact wm_alen X hS 102 (Or.inr (Or.inr rfl)) (f := f) (by rw [show aL 102 (some q) σ = some x by simp only [aL, Option.bind_some]; rw [if_pos hc]; exact hx]; exact h9) hdg kk
  · exact wm_alenK X hS 602 (Or.inr (Or.inl rfl)) (f := f) (by rw [show aL 602 (some q) σ = some x by simp only [aL, Option.bind_some]; rw [if_pos hc]; exact hx]; exact h9) hdg kk
theorem wm_anew (X : CX p s m args meth c cc nL own) (hS : ST D dA sz0 ad0 s) {n : Int32} {f : Option Nat × Mm → Option β} (h : (nA 102 n σ).bind f = some o) (hdg : decode cc pc = .ok (.anewarray idx, 3)) (hq : Cond.classLink own idx "java/lang/Object" ∈ lw_all) (hc : kc + 1 ≤ R.cells) (hs : kz + n.toNatClampNeg ≤ R.slots) (kk : ∀ (v : Option Nat) σ', mN σ ≤ mN σ' → f (v, σ') = some o → WM p l e R s m args below meth c Q nL D dA sz0 ad0 N0 (kc + 1) (kz + n.toNatClampNeg) σ' ℓ (va_rf v :: st) (pc + 3)) : WM p l e R s m args below meth c Q nL D dA sz0 ad0 N0 kc kz σ ℓ (.int n :: st) pc := by
  obtain ⟨x, hx, h9⟩ := Option.bind_eq_some_iff.mp h
  unfold nA at hx
  split at hx
  case isFalse => cases hx
  case isTrue hB =>
  cases hx
  obtain ⟨hB, hn0, hn1⟩ := hB
  intro ad H locs ls h1 h2 h3 h4 hz h5 h6 h7
  refine va_newq X.1.1 X.1.2.1 X.1.2.2.2.1 (X.1.2.2.2.2 _ hq) hS.2.2.2.1 hS.1 h3.1 h3.2.1 h4 (Ab_hA hz) hn0 rfl (by omega) hc hs hdg (fun q cA H1 hK hP hD hS1 => ?_)
  have hcA : cA = dA 102 := by
    obtain ⟨k1, comp1, a1, a2, a3, a4⟩ := (hK.2 5 (cA, .object "java/lang/Object") rfl).2
    obtain ⟨k2, comp2, b1, b2, b3, b4⟩ := (hS.1.2 2 (dA 102, .object "java/lang/Object") rfl).2
    exact Option.some.inj (a4.symm.trans b4)
  subst hcA
  obtain ⟨hx1, hx2⟩ := Ex_new (q := q) h1 h2 hB
  have he : pent dA (up1 ad (mN σ) q) (wN σ 102 n.toNatClampNeg) (mN σ) = (q, .inl (dA 102, n.toNatClampNeg, .inr (.inr (.inr (.inr fun _ => none))))) := by
    have e0 : mS (wN σ 102 n.toNatClampNeg) (mN σ) = 102 := if_pos rfl
    rw [pent_r e0 (by omega), show up1 ad (mN σ) q (mN σ) = q from if_pos rfl, show mL (wN σ 102 n.toNatClampNeg) (mN σ) = n.toNatClampNeg from if_pos rfl, show mR (wN σ 102 n.toNatClampNeg) (mN σ) = fun _ => none from if_pos rfl]
    rfl
  have hk := kk (some (mN σ)) (wN σ 102 n.toNatClampNeg) (Nat.le_succ _) h9 (up1 ad (mN σ) q) H1 locs ls hx2 (Nat.le_trans h2 (Nat.le_succ _)) (PM_wN h3 hB (by omega) he hP hD (Ab_S hz hS1)) hS1 hz (h5.mono (Nat.le_succ _)) ((h6.tail.mono (Nat.le_succ _)).cons (vok_rf fun a ha => by cases ha; exact Or.inl (Nat.lt_succ_self _))) (by rw [hx1.lm h5]; exact h7)
  have e2 : sm (up1 ad (mN σ) q) (va_rf (some (mN σ)) :: st) = .ref q :: sm ad st := by
    show cv _ (.ref (mN σ)) :: sm _ st = _
    rw [hx1.sm h6.tail]
    exact congrArg (fun z => Value.ref z :: sm ad st) (if_pos rfl)
  rw [e2] at hk
  exact hk
/-- two references -/
def isd (x : Option Nat) : Bool := match x with
  | none => true
  | some a => decide (a < BIG)
def dif (h0 : Nat) (y : Option Nat) : Bool := match y with
  | none => true
  | some b => (decide (h0 < BIG) && (decide (BIG ≤ b) && (kS b == 520))) || (decide (b < BIG) && (decide (BIG ≤ h0) && (kS h0 == 520)))
theorem sta_A (hS : ST D dA sz0 ad0 s) {r : Nat} (hb : BIG ≤ r) (hk : kS r = 602 ∨ kS r = 520) : ¬ Ab sz0 (ad0 r) := by
  rcases hk with hk | hk
  · exact (hS.2.2.1.2.2.1 r hb hk).out
  · exact (hS.2.2.1.1 r 20 hb hk (by decide)).1.elim (fun _ z => z.2.2.2)
theorem dyn_A {ad : Nat → Nat} {H : Heap} (h3 : PM D dA sz0 ad σ H) {a : Nat} (ha : a < mN σ) : Ab sz0 (ad a) := h3.2.1.2 a _ (wl_at ha)
theorem wm_acmpS (X : CX p s m args meth c cc nL own) (hS : ST D dA sz0 ad0 s) {x : Option Nat} {off : Int} (tgt : Nat) {A B : Option β} (h : (if x = some (BIG + 122) then A else if isd x then B else none) = some o) (hdg : decode cc pc = .ok (.if_acmp .eq off, 3)) (ht : (pc : Int) + off = (tgt : Int)) (kt : A = some o → WM p l e R s m args below meth c Q nL D dA sz0 ad0 N0 kc kz σ ℓ st tgt) (kf : B = some o → WM p l e R s m args below meth c Q nL D dA sz0 ad0 N0 kc kz σ ℓ st (pc + 3)) : WM p l e R s m args below meth c Q nL D dA sz0 ad0 N0 kc kz σ ℓ (va_rf (some (BIG + 122)) :: va_rf x :: st) pc := by
  intro ad H locs ls h1 h2 h3 h4 hz h5 h6 h7
  have e : sm ad (va_rf (some (BIG + 122)) :: va_rf x :: st) = va_rf (some (ad (BIG + 122))) :: va_rf (x.map ad) :: sm ad st := by simp [sm, cv_rf]
  rw [e]
  have hr : ¬ Ab sz0 (ad (BIG + 122)) := by
    rw [h1 (BIG + 122) (Or.inr (Nat.le_add_right _ _))]
    exact sta_A hS (Nat.le_add_right _ _) (Or.inl rfl)
  refine lv_acmp_eq X.1.1 X.1.2.1 hdg ht (fun z => ?_) (fun z => ?_)
  · refine kt ?_ ad H locs ls h1 h2 h3 h4 hz h5 h6.tail.tail h7
    split at h
    next => exact h
    next hne =>
      exfalso
      split at h
      next hd =>
        cases x with
        | none => cases z
        | some a =>
          have ha : a < mN σ := by
            rcases vok_rf' h6.tail.head a rfl with q | q
            · exact q
            · simp only [isd, decide_eq_true_eq] at hd; omega
          exact hr (Option.some.inj z ▸ dyn_A h3 ha)
      next => cases h
  · refine kf ?_ ad H locs ls h1 h2 h3 h4 hz h5 h6.tail.tail h7
    split at h
    next hx => exact absurd (by rw [hx]; rfl) z
    next => 
      split at h
      next => exact h
      next => cases h
theorem wm_acmpD (X : CX p s m args meth c cc nL own) (hS : ST D dA sz0 ad0 s) {y : Option Nat} {q : Nat} {off : Int} (tgt : Nat) {A : Option β} (h : (if dif q y then A else none) = some o) (hdg : decode cc pc = .ok (.if_acmp .ne off, 3)) (ht : (pc : Int) + off = (tgt : Int)) (kt : A = some o → WM p l e R s m args below meth c Q nL D dA sz0 ad0 N0 kc kz σ ℓ st tgt) : WM p l e R s m args below meth c Q nL D dA sz0 ad0 N0 kc kz σ ℓ (va_rf y :: va_rf (some q) :: st) pc := by
  intro ad H locs ls h1 h2 h3 h4 hz h5 h6 h7
  have e : sm ad (va_rf y :: va_rf (some q) :: st) = va_rf (y.map ad) :: va_rf (some (ad q)) :: sm ad st := by simp [sm, cv_rf]
  rw [e]
  split at h
  case isFalse => cases h
  case isTrue hd =>
  have hst : ∀ r, BIG ≤ r → kS r = 520 → ¬ Ab sz0 (ad r) := fun r hb hk => by
    rw [h1 r (Or.inr hb)]
    exact sta_A hS hb (Or.inr hk)
  have hdy : ∀ v, vok σ (va_rf (some v)) → v < BIG → Ab sz0 (ad v) := fun v hv hlt => dyn_A h3 (by rcases vok_rf' hv v rfl with q | q <;> omega)
  have hne : ¬ some (ad q) = y.map ad := by
    intro z
    cases y with
    | none => cases z
    | some b =>
      have z := Option.some.inj z
      simp only [dif, Bool.or_eq_true, Bool.and_eq_true, decide_eq_true_eq, beq_iff_eq] at hd
      rcases hd with ⟨d1, d2, d3⟩ | ⟨d1, d2, d3⟩
      · exact hst b d2 d3 (z ▸ hdy q h6.tail.head d1)
      · exact hst q d2 d3 (z.symm ▸ hdy b h6.head d1)
  refine lv_acmp_ne X.1.1 X.1.2.1 hdg ht (fun _ => ?_) (fun z => absurd z hne)
  exact kt h ad H locs ls h1 h2 h3 h4 hz h5 h6.tail.tail h7
theorem pent_wB {dA : Nat → ClassId} {ad : Nat → Nat} {σ : Mm} {p q : Nat} {f : Nat → Option Nat} (h : q ≠ p) : pent dA ad (wB σ p f) q = pent dA ad σ q := by
  have e : mR (wB σ p f) q = mR σ q := if_neg h
  have e2 : fv ad (wB σ p f) q = fv ad σ q := by
    funext j
    unfold fv
    rw [e]
    rfl
  unfold pent
  rw [e, e2]
  rfl
theorem SM_wB {ad : Nat → Nat} {σ : Mm} {q : Nat} {f : Nat → Option Nat} (h : SM ad σ) (hq : q < BIG) : SM ad (wB σ q f) := by
  refine ⟨h.1, fun p hp => ?_⟩
  have e : mR (wB σ q f) p = mR σ p := if_neg (by omega)
  obtain ⟨h1, h2, h3, h4⟩ := h.2 p hp
  exact ⟨h1, h2, h3, fun j => by rw [e]; exact h4 j⟩
theorem PM_wB {σ : Mm} {ad : Nat → Nat} {H1 : Heap} {q : Nat} {f : Nat → Option Nat} {y : Nat × va_E} (he : pent dA ad (wB σ q f) q = y) {H : Heap} (h3 : PM D dA sz0 ad σ H) (hq : q < mN σ) (hf : ∀ k a, f k = some a → vq σ a) (hP : va_P D clT ((wl dA ad σ).set q y) H1) (hD : va_D (Ab sz0) ((wl dA ad σ).set q y)) (hz : sz0 ≤ H1.size) : PM D dA sz0 ad (wB σ q f) H1 := by
  rw [wl_set (σ := σ) (σ' := wB σ q f) rfl he (fun _ h => pent_wB h)] at hP hD
  refine ⟨hP, hD, h3.2.2.1, hz, fun a j b ha hb => ?_, h3.2.2.2.2.2.1, SM_wB h3.2.2.2.2.2.2 (Nat.lt_of_lt_of_le hq h3.2.2.2.2.2.1)⟩
  by_cases e1 : a = q
  · subst e1
    rw [show mR (wB σ a f) a = f from if_pos rfl] at hb
    exact hf j b hb
  · rw [show mR (wB σ q f) a = mR σ a from if_neg e1] at hb
    exact h3.2.2.2.2.1 a j b ha hb
theorem wm_copyR (X : CX p s m args meth c cc nL own) (hS : ST D dA sz0 ad0 s) {w : Option Nat} {sp dp n : Int32} {f : Mm → Option β} (h : (cpR v sp w dp n σ).bind f = some o) (hdg : decode cc pc = .ok (.invokestatic idx, 3)) (hq : Cond.methodLink own idx arraycopyName ∈ lw_all) (q2 : Cond.native arraycopyName ∈ lw_all) (q3 : Cond.static arraycopyName ∈ lw_all) (q4 : Cond.initialized "java/lang/System" ∈ lw_all) (hf : 1 ≤ R.frames) (hst : c1 st) (h8 : st.length ≤ 8) (hl : 60 ≤ R.locals) (kk : ∀ σ', mN σ' = mN σ → f σ' = some o → WM p l e R s m args below meth c Q nL D dA sz0 ad0 N0 kc kz σ' ℓ st (pc + 3)) : WM p l e R s m args below meth c Q nL D dA sz0 ad0 N0 kc kz σ ℓ (.int n :: .int dp :: va_rf w :: .int sp :: va_rf v :: st) pc := by
  obtain ⟨σ', hx, h9⟩ := Option.bind_eq_some_iff.mp h
  cases v with
  | none => cases hx
  | some a =>
  cases w with
  | none => cases hx
  | some b =>
  simp only [cpR, Option.bind_some] at hx
  split at hx
  case isFalse => cases hx
  case isTrue hc =>
  cases hx
  obtain ⟨hsa, hsb, g1, g2, g3, g4, g5, g6⟩ := hc
  intro ad H locs ls h1 h2 h3 h4 hz h5 h6 h7
  have h0 : ((sm ad st).map fun v => v.category).sum ≤ 8 := (by rw [sm_cat]; exact c1_s hst h8)
  have hw : nativeFrameWords "java/lang/System" "arraycopy" 5 ≤ 41 := by decide
  have hlo : ((sm ad st).map fun v => v.category).sum + (nativeFrameWords "java/lang/System" "arraycopy" 5 + 11) ≤ R.locals := Nat.le_trans (Nat.add_le_add h0 (Nat.add_le_add_right hw 11)) hl
  have hel : ∀ i : Nat, i < n.toNatClampNeg → ∀ y : Nat, (mR σ a (sp.toNatClampNeg + i)).map ad = some y → va_Any "java/lang/Object" s H y := by
    intro i hi y hy
    have hob := List.all_eq_true.mp g6 i (List.mem_range.mpr hi)
    cases hm : mR σ a (sp.toNatClampNeg + i) with
    | none => rw [hm] at hy; cases hy
    | some z =>
      rw [hm] at hy hob
      cases hy
      exact wm_any hS h3 hob
  have hva : ∀ k z, mR σ a k = some z → vq σ z := fun k z hk => h3.2.2.2.2.1 a k z (h3.lt hsa (by omega) (by omega)) hk
  have hvb : ∀ k z, mR σ b k = some z → vq σ z := fun k z hk => h3.2.2.2.2.1 b k z (h3.lt hsb (by omega) (by omega)) hk
  have hcp : ∀ k z, va_cpy (mR σ a) (mR σ b) sp.toNatClampNeg dp.toNatClampNeg n.toNatClampNeg k = some z → vq σ z := by
    intro k z hk
    unfold va_cpy at hk
    split at hk
    · exact hva _ z hk
    · exact hvb _ z hk
  have hpe : pent dA ad (wB σ b (va_cpy (mR σ a) (mR σ b) sp.toNatClampNeg dp.toNatClampNeg n.toNatClampNeg)) b = (ad b, .inl (dA 102, mL σ b, .inr (.inr (.inr (.inr (va_cpy (fun i => (mR σ a i).map ad) (fun i => (mR σ b i).map ad) sp.toNatClampNeg dp.toNatClampNeg n.toNatClampNeg)))))) := by
    rw [pent_r (σ := wB σ b (va_cpy (mR σ a) (mR σ b) sp.toNatClampNeg dp.toNatClampNeg n.toNatClampNeg)) hsb (by omega)]
    rw [show mR (wB σ b (va_cpy (mR σ a) (mR σ b) sp.toNatClampNeg dp.toNatClampNeg n.toNatClampNeg)) b = va_cpy (mR σ a) (mR σ b) sp.toNatClampNeg dp.toNatClampNeg n.toNatClampNeg from if_pos rfl]
    rw [show (fun i => (va_cpy (mR σ a) (mR σ b) sp.toNatClampNeg dp.toNatClampNeg n.toNatClampNeg i).map ad) = va_cpy (fun i => (mR σ a i).map ad) (fun i => (mR σ b i).map ad) sp.toNatClampNeg dp.toNatClampNeg n.toNatClampNeg by
      funext k
      unfold va_cpy
      split <;> rfl]
    rfl
  refine va_copyM X.1.1 X.1.2.1 (X.1.2.2.1.trans h7.1.symm) X.1.2.2.2.1 (X.1.2.2.2.2 _ hq) (X.1.2.2.2.2 _ q2) (X.1.2.2.2.2 _ q3) (X.1.2.2.2.2 _ q4) hS.1 h3.1 h3.2.1 h4 a b 2 2 ((h3.at hsa (by omega) (by omega)).trans (congrArg some (pent_r hsa (by omega)))) ((h3.at hsb (by omega) (by omega)).trans (congrArg some (pent_r hsb (by omega)))) rfl rfl g1 g2 g3 g4 g5 hel hf hlo hdg (fun H1 locs1 hP hD hS1 => ?_)
  exact kk (wB σ b (va_cpy (mR σ a) (mR σ b) sp.toNatClampNeg dp.toNatClampNeg n.toNatClampNeg)) rfl h9 ad H1 locs1 ls h1 h2 (PM_wB hpe h3 (h3.lt hsb (by omega) (by omega)) hcp hP hD (Ab_S hz hS1)) hS1 hz h5 h6.tail.tail.tail.tail.tail h7
theorem nameB (hS : ST D dA sz0 ad0 s) : s.vm.findClass "[B" = some (dA 101) := (hS.1.2 1 (dA 101, .byte) rfl).2
theorem wm_castB (X : CX p s m args meth c cc nL own) (hS : ST D dA sz0 ad0 s) {f : Nat → Option β} (h : (rv 101 v σ).bind f = some o) (hdg : decode cc pc = .ok (.checkcast idx, 3)) (hq : Cond.classLink own idx "[B" ∈ lw_all) (kk : ∀ q, v = some q → mS σ q = 101 → f q = some o → WM p l e R s m args below meth c Q nL D dA sz0 ad0 N0 kc kz σ ℓ (va_rf (some q) :: st) (pc + 3)) : WM p l e R s m args below meth c Q nL D dA sz0 ad0 N0 kc kz σ ℓ (va_rf v :: st) pc := by
  obtain ⟨q, hx, h9⟩ := Option.bind_eq_some_iff.mp h
  obtain ⟨rfl, hs⟩ := rv_some hx
  intro ad H locs ls h1 h2 h3 h4 hz h5 h6 h7
  exact va_castA X.1.1 X.1.2.1 X.1.2.2.2.1 (X.1.2.2.2.2 _ hq) h3.1 q ((h3.at hs (by omega) (by omega)).trans (congrArg some (pent_i hs (by omega) (by omega)))) (nameB hS) hdg (kk q rfl hs h9 ad H locs ls h1 h2 h3 h4 hz h5 h6 h7)
theorem nar_b {x : Int32} (h : x = 0 ∨ x = 1) : narrow .byte (.int x) = .int x := by rcases h with rfl | rfl <;> rfl
theorem fit_b {x : Int32} (h : x = 0 ∨ x = 1) : fits .byte (.int x) = true := by rcases h with rfl | rfl <;> rfl
theorem wm_pB (X : CX p s m args meth c cc nL own) (hS : ST D dA sz0 ad0 s) (hcd : CD ci C T N ty) (k : Nat) {x : Int32} {f : Mm → Option β} (h : (pZ ci k v x σ).bind f = some o) (hdg : decode cc pc = .ok (.putfield idx, 3)) (hk : k < N) (hr : cr ci k = false) (hq : Cond.fieldLink own idx (T k).1 (T k).2.1 (T k).2.2.1 ∈ lw_all) (ht : ty k = .byte) (hf : (T k).2.2.2 = false) (kk : ∀ σ', mN σ' = mN σ → f σ' = some o → WM p l e R s m args below meth c Q nL D dA sz0 ad0 N0 kc kz σ' ℓ st (pc + 3)) : WM p l e R s m args below meth c Q nL D dA sz0 ad0 N0 kc kz σ ℓ (.int x :: va_rf v :: st) pc := by
  obtain ⟨σ', hx, h⟩ := Option.bind_eq_some_iff.mp h
  obtain ⟨hx01, q, rfl, hs, rfl⟩ := pZ_some hx
  obtain ⟨⟨hc1, hc2, hc3, hc4⟩, hin, hty, hnm, hdf⟩ := hcd
  intro ad H locs ls h1 h2 h3 h4 hz h5 h6 h7
  refine va_put X.1.1 X.1.2.1 X.1.2.2.2.2 hin ty hty hnm X.1.2.2.2.1 hS.1 h3.1 h3.2.1 h4 q ((h3.at hs hc4 (by omega)).trans (congrArg some (pent_o hs hc3))) hc1 k hk (X.1.2.2.2.2 _ hq) (fun _ h => h) hf (hty k hk) (by rw [ht]; exact nar_b hx01) (by rw [ht]; exact fit_b hx01) (by simp; omega) hdg (fun H1 locs1 hP hD hS1 => ?_)
  exact kk (wI σ q k x) rfl h ad H1 locs1 ls h1 h2 (PM_wI (fs_wI hs hc3 hr) h3 (h3.lt hs hc4 (by omega)) hP hD (Ab_S hz hS1)) hS1 hz h5 h6.tail.tail h7
theorem wm_pBF (X : CX p s m args meth c cc nL own) (hS : ST D dA sz0 ad0 s) (hcd : CD ci C T N ty) (k : Nat) {x : Int32} {f : Mm → Option β} (h : (pZ ci k v x σ).bind f = some o) (hdg : decode cc pc = .ok (.putfield idx, 3)) (hk : k < N) (hr : cr ci k = false) (hq : Cond.fieldLink own idx (T k).1 (T k).2.1 (T k).2.2.1 ∈ lw_all) (ht : ty k = .byte) (hf : (T k).2.2.2 = true) (hi : meth.name = "<init>") (hd : (T k).1 = own) (kk : ∀ σ', mN σ' = mN σ → f σ' = some o → WM p l e R s m args below meth c Q nL D dA sz0 ad0 N0 kc kz σ' ℓ st (pc + 3)) : WM p l e R s m args below meth c Q nL D dA sz0 ad0 N0 kc kz σ ℓ (.int x :: va_rf v :: st) pc := by
  obtain ⟨σ', hx, h⟩ := Option.bind_eq_some_iff.mp h
  obtain ⟨hx01, q, rfl, hs, rfl⟩ := pZ_some hx
  obtain ⟨⟨hc1, hc2, hc3, hc4⟩, hin, hty, hnm, hdf⟩ := hcd
  intro ad H locs ls h1 h2 h3 h4 hz h5 h6 h7
  refine va_putF X.1.1 X.1.2.1 X.1.2.2.2.2 hin ty hty hnm X.1.2.2.2.1 hS.1 h3.1 h3.2.1 h4 q ((h3.at hs hc4 (by omega)).trans (congrArg some (pent_o hs hc3))) hc1 k hk (X.1.2.2.2.2 _ hq) (fun _ h => h) hf hi hd (hty k hk) (by rw [ht]; exact nar_b hx01) (by rw [ht]; exact fit_b hx01) (by simp; omega) hdg (fun H1 locs1 hP hD hS1 => ?_)
  exact kk (wI σ q k x) rfl h ad H1 locs1 ls h1 h2 (PM_wI (fs_wI hs hc3 hr) h3 (h3.lt hs hc4 (by omega)) hP hD (Ab_S hz hS1)) hS1 hz h5 h6.tail.tail h7
/-- answers of a byte or a char -/
def nok (ty : FieldType) (x : Int32) : Bool := match ty with
  | .byte => decide (x.toInt8.toInt32 = x)
  | .char => decide ((x.toUInt32 % 65536).toInt32 = x)
  | _ => false
def rN {β : Type} (ty : FieldType) (x : Int32) (r : β) : Option (Int32 × β) := if nok ty x = true then some (x, r) else none
theorem wm_nret {mc ms : Nat} {x r : Int32} {t9 : FieldType} (X : CX p s m args meth c cc nL own) (hr : meth.sig.returnType = some t9) (h : rN t9 x σ = some (r, σ')) (hdg : decode cc pc = .ok (.ireturn, 1)) (h1 : kc ≤ mc) (h2 : kz ≤ ms) : WM p l e R s m args below meth c (MQ below (QI dA D sz0 ad0 N0 r σ') args s mc ms (Ab sz0)) nL D dA sz0 ad0 N0 kc kz σ ℓ [.int x] pc := by
  unfold rN at h
  split at h
  case isFalse => cases h
  case isTrue hx =>
  cases h
  have hn : narrow t9 (.int x) = .int x := by
    cases t9 with
    | byte => exact congrArg Value.int (of_decide_eq_true hx)
    | char => exact congrArg Value.int (of_decide_eq_true hx)
    | _ => cases hx
  intro ad H locs ls g1 g2 g3 g4 gz g5 g6 g7
  refine W.widen h1 h2 ?_
  exact W.zret X.1.1 X.1.2.1 hr hn (fun t ht hW => ⟨⟨x, ad, rfl, ⟨rfl, g1, g2⟩, show PM D dA sz0 ad σ t.heap by rw [ht]; exact g3⟩, g4.F ht⟩) g4.2.2 hdg X.2
/-- clone() of a byte[] -/
def clB (v : Option Nat) (σ : Mm) : Option (Option Nat × Mm) := v.bind fun q => if mS σ q = 101 ∧ mN σ < BIG ∧ ((List.range (mL σ q)).all fun i => fits .byte (.int (mI σ q i))) = true then some (some (mN σ), wA (wN σ 101 (mL σ q)) (mN σ) (mI σ q)) else none
def clZ (v : Option Nat) (σ : Mm) : Nat := match v with
  | none => 0
  | some q => mL σ q
theorem wl_clB {ad : Nat → Nat} {q n : Nat} {f : Nat → Int32} {σ : Mm} (hx : Ex (mN σ) ad (up1 ad (mN σ) q)) (hr : ∀ p k a, p < mN σ → mR σ p k = some a → vq σ a) : wl dA (up1 ad (mN σ) q) (wA (wN σ 101 n) (mN σ) f) = wl dA ad σ ++ [(q, .inl (dA 101, n, .inl f))] := by
  have e0 : mS (wN σ 101 n) (mN σ) = 101 := if_pos rfl
  have he0 : pent dA (up1 ad (mN σ) q) (wN σ 101 n) (mN σ) = (q, .inl (dA 101, n, .inl fun _ => 0)) := by
    rw [pent_i e0 (by omega) (by omega), show up1 ad (mN σ) q (mN σ) = q from if_pos rfl, show mL (wN σ 101 n) (mN σ) = n from if_pos rfl, show mI (wN σ 101 n) (mN σ) = fun _ => 0 from if_pos rfl]
  have he1 : pent dA (up1 ad (mN σ) q) (wA (wN σ 101 n) (mN σ) f) (mN σ) = (q, .inl (dA 101, n, .inl f)) := by
    rw [as_wA e0 (by omega) (by omega), show up1 ad (mN σ) q (mN σ) = q from if_pos rfl, show mL (wN σ 101 n) (mN σ) = n from if_pos rfl]
  rw [← wl_set (σ := wN σ 101 n) (σ' := wA (wN σ 101 n) (mN σ) f) rfl he1 (fun _ h => pent_wA h), ← wl_wN hx hr he0]
  rw [List.set_append_right _ _ (by simp [wl])]
  simp [wl]
theorem PM_clB {σ : Mm} {ad : Nat → Nat} {H H1 : Heap} {n q : Nat} {f : Nat → Int32} (h3 : PM D dA sz0 ad σ H) (hB : mN σ < BIG) (hP : va_P D clT (wl dA ad σ ++ [(q, .inl (dA 101, n, .inl f))]) H1) (hD : va_D (Ab sz0) (wl dA ad σ ++ [(q, .inl (dA 101, n, .inl f))])) (hz : sz0 ≤ H1.size) : PM D dA sz0 (up1 ad (mN σ) q) (wA (wN σ 101 n) (mN σ) f) H1 := by
  have hx : Ex (mN σ) ad (up1 ad (mN σ) q) := (Ex_new (Ex.rf (n := mN σ)) (Nat.le_refl _) hB).1
  rw [← wl_clB (dA := dA) (n := n) (f := f) hx h3.2.2.2.2.1] at hP hD
  refine ⟨hP, hD, fun a ha hb => ?_, hz, fun a j b ha hb => ?_, hB, SM_wA (SM_ad (ad := ad) (fun a ha => if_neg (by omega)) (SM_wN h3.2.2.2.2.2.2 hB (by omega))) hB⟩
  · show a < mN σ + 1
    by_cases hc : a = mN σ
    · omega
    · have e1 : mS (wA (wN σ 101 n) (mN σ) f) a = mS σ a := if_neg hc
      rw [e1] at ha hb
      have := h3.2.2.1 a ha hb
      omega
  · by_cases hc : a = mN σ
    · have e1 : mR (wA (wN σ 101 n) (mN σ) f) a = fun _ => none := if_pos hc
      rw [e1] at hb
      cases hb
    · have e1 : mR (wA (wN σ 101 n) (mN σ) f) a = mR σ a := if_neg hc
      rw [e1] at hb
      have ha : a < mN σ + 1 := ha
      exact (h3.2.2.2.2.1 a j b (by omega) hb).elim (fun z => Or.inl (by show b < mN σ + 1; omega)) Or.inr
theorem wm_cloneB (X : CX p s m args meth c cc nL own) (hS : ST D dA sz0 ad0 s) {f : Option Nat × Mm → Option β} (h : (clB v σ).bind f = some o) (hdg : decode cc pc = .ok (.invokevirtual idx, 3)) (hq : Cond.methodLink own idx (⟨"[B", "clone", "()Ljava/lang/Object;"⟩ : MethodName) ∈ lw_all) (hf : 1 ≤ R.frames) (hst : c1 st) (h8 : st.length ≤ 8) (hl : 60 ≤ R.locals) (hc : kc + 1 ≤ R.cells) {z : Nat} (hzz : ∀ q, v = some q → mL σ q = z) (hs : kz + z ≤ R.slots) (kk : ∀ (w : Option Nat) σ', mN σ ≤ mN σ' → f (w, σ') = some o → WM p l e R s m args below meth c Q nL D dA sz0 ad0 N0 (kc + 1) (kz + z) σ' ℓ (va_rf w :: st) (pc + 3)) : WM p l e R s m args below meth c Q nL D dA sz0 ad0 N0 kc kz σ ℓ (va_rf v :: st) pc := by
  obtain ⟨x, hx, h9⟩ := Option.bind_eq_some_iff.mp h
  cases v with
  | none => cases hx
  | some q =>
  have hz0 := hzz q rfl
  subst hz0
  simp only [clB, Option.bind_some] at hx
  split at hx
  case isFalse => cases hx
  case isTrue hcc =>
  cases hx
  obtain ⟨hsq, hB, hfit⟩ := hcc
  intro ad H locs ls h1 h2 h3 h4 hz h5 h6 h7
  have h0 : ((sm ad st).map fun v => v.category).sum ≤ 8 := (by rw [sm_cat]; exact c1_s hst h8)
  refine va_clone (ad := "[B") X.1.1 X.1.2.1 (X.1.2.2.1.trans h7.1.symm) X.1.2.2.2.1 (X.1.2.2.2.2 _ hq) (X.1.2.2.2.2 _ q806) (X.1.2.2.2.2 _ q807) (X.1.2.2.2.2 _ q808) (X.1.2.2.2.2 _ q809) (hS.2.1 _ (List.mem_of_getElem? (rfl : nwl[119]? = some (Cond.castable "[B" "java/lang/Cloneable")))) hS.1 h3.1 h3.2.1 h4 (Ab_hA hz) q 1 ((h3.at hsq (by omega) (by omega)).trans (congrArg some (pent_i hsq (by omega) (by omega)))) rfl (nameB hS) (fun i w hw => ?_) hf (Nat.le_trans (Nat.add_le_add_right h0 14) (by omega)) hc hs hdg (fun q9 H1 hK hP hD hS1 => ?_)
  · have hw : (arrV (dA 101) (mL σ q) (fun j => Value.int (mI σ q j))).slots[i]? = some w := hw
    by_cases hi : i < mL σ q
    · rw [arrV_read _ _ hi] at hw
      cases hw
      exact List.all_eq_true.mp hfit i (List.mem_range.mpr hi)
    · rw [Array.getElem?_eq_none (by rw [arrV_size]; omega)] at hw
      cases hw
  · obtain ⟨hx1, hx2⟩ := Ex_new (q := q9) h1 h2 hB
    have hk := kk (some (mN σ)) (wA (wN σ 101 (mL σ q)) (mN σ) (mI σ q)) (Nat.le_succ _) h9 (up1 ad (mN σ) q9) H1 locs ls hx2 (Nat.le_trans h2 (Nat.le_succ _)) (PM_clB h3 hB hP hD (Ab_S hz hS1)) hS1 hz (h5.mono (Nat.le_succ _)) ((h6.tail.mono (Nat.le_succ _)).cons (vok_rf fun a ha => by cases ha; exact Or.inl (Nat.lt_succ_self _))) (by rw [hx1.lm h5]; exact h7)
    have e2 : sm (up1 ad (mN σ) q9) (va_rf (some (mN σ)) :: st) = .ref q9 :: sm ad st := by
      show cv _ (.ref (mN σ)) :: sm _ st = _
      rw [hx1.sm h6.tail]
      exact congrArg (fun z => Value.ref z :: sm ad st) (if_pos rfl)
    rw [e2] at hk
    exact hk
end R10
