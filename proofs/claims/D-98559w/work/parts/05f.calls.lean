/-! THE LAYER, 6: calls -/
section R5
variable {p : Program} {l : Launch} {e : Env} {R : Room} {s : State} {m : MethodId} {args : Array Value} {below : List Frame} {meth : Method} {c : Code} {Q : State → Prop} {cc : ByteArray} {nL : Nat} {own : String} {D : va_G} {dA : Nat → ClassId} {sz0 : Nat} {ad0 : Nat → Nat} {N0 kc kz : Nat} {σ σ' : Mm} {ℓ ℓ' : List (Nat × Value)} {st : List Value} {pc : Nat} {β : Type} {o : β} {ci : Nat} {C : String} {T : u_T} {N : Nat} {ty : Nat → FieldType} {idx : Nat} {v : Option Nat} {y : MethodName} {bytes : ByteArray} {maxL fr lo mc ms n : Nat} {ret : Option FieldType} {As stk : List Value} {q : Nat}

theorem wm_cV_i (X : CX p s m args meth c cc nL own) (hS : ST D dA sz0 ad0 s) (hcd : CD ci C T N ty) (hs : mS σ q = ci) (hC : y.cls = C) {F : Option (Int32 × Mm)} {f : Int32 × Mm → Option β} (h : F.bind f = some o) (hz : ∀ r σ1, F = some (r, σ1) → CTi l y (ws_ y bytes maxL ret) fr lo mc ms (va_rf (some q) :: As) σ r σ1) (hmd : MD y n) (hmv : MV y bytes maxL ret) (hq : Cond.methodLink own idx y ∈ lw_all) (hdg : decode cc pc = .ok (.invokevirtual idx, 3)) (hn : As.length = n) (hst : stk = As.reverse ++ va_rf (some q) :: st) (hcat : c1 st) (hst8 : st.length ≤ 8) (hrm : fr + 1 ≤ R.frames ∧ 8 + (maxL + 11) + lo ≤ R.locals) (hc : kc + mc ≤ R.cells ∧ kz + ms ≤ R.slots) (kk : ∀ r σ1, mN σ ≤ mN σ1 → f (r, σ1) = some o → WM p l e R s m args below meth c Q nL D dA sz0 ad0 N0 (kc + mc) (kz + ms) σ1 ℓ (.int r :: st) (pc + 3)) : WM p l e R s m args below meth c Q nL D dA sz0 ad0 N0 kc kz σ ℓ stk pc := by
  subst hst
  subst hC
  obtain ⟨⟨r, σ1⟩, hF, h⟩ := Option.bind_eq_some_iff.mp h
  intro ad H locs ls g1 g2 g3 g4 gz g5 g6 g7
  have hV : VK σ (va_rf (some q) :: As) := by
    intro w hw
    rcases List.mem_cons.mp hw with e | e
    · rw [e]; exact g6 _ (List.mem_append_right _ List.mem_cons_self)
    · exact g6 w (List.mem_append_left _ (List.mem_reverse.mpr e))
  have hlen : (sm ad As).length = n := by simp [sm, hn]
  have hcat' : ((sm ad st).map fun v => v.category).sum ≤ 8 := by rw [sm_cat]; exact c1_s hcat hst8
  rw [sm_stackR]
  exact wm_run_i (fr := fr) (lo := lo) g1 g2 g4 gz g5 g6.right.tail g7 (va_runV (As := sm ad As) (rest := sm ad st) X.1 (hz r σ1 hF D dA sz0 ad) (cwV n X.1.2.2.2.2 (lw_V hq hmv.1 hmv.2.1 hmv.2.2.1 hmv.2.2.2) rfl rfl rfl ⟨rfl, hmd.1⟩ hrm) ⟨PC_blind, wm_recv hS g3 hcd hs, fun U hU hW => ⟨rfl, ST_call hS g1 hW hU g4, by rw [hU]; exact g3, hV⟩⟩ rfl hlen g7.1 rfl (lv_room hcat') hdg hc) (fun hN => kk r σ1 hN h)
theorem wm_cV_v (X : CX p s m args meth c cc nL own) (hS : ST D dA sz0 ad0 s) (hcd : CD ci C T N ty) (hs : mS σ q = ci) (hC : y.cls = C) {F : Option (Mm)} {f : Mm → Option β} (h : F.bind f = some o) (hz : ∀ σ1, F = some σ1 → CTv l y (ws_ y bytes maxL ret) fr lo mc ms (va_rf (some q) :: As) σ σ1) (hmd : MD y n) (hmv : MV y bytes maxL ret) (hq : Cond.methodLink own idx y ∈ lw_all) (hdg : decode cc pc = .ok (.invokevirtual idx, 3)) (hn : As.length = n) (hst : stk = As.reverse ++ va_rf (some q) :: st) (hcat : c1 st) (hst8 : st.length ≤ 8) (hrm : fr + 1 ≤ R.frames ∧ 8 + (maxL + 11) + lo ≤ R.locals) (hc : kc + mc ≤ R.cells ∧ kz + ms ≤ R.slots) (kk : ∀ σ1, mN σ ≤ mN σ1 → f σ1 = some o → WM p l e R s m args below meth c Q nL D dA sz0 ad0 N0 (kc + mc) (kz + ms) σ1 ℓ (st) (pc + 3)) : WM p l e R s m args below meth c Q nL D dA sz0 ad0 N0 kc kz σ ℓ stk pc := by
  subst hst
  subst hC
  obtain ⟨σ1, hF, h⟩ := Option.bind_eq_some_iff.mp h
  intro ad H locs ls g1 g2 g3 g4 gz g5 g6 g7
  have hV : VK σ (va_rf (some q) :: As) := by
    intro w hw
    rcases List.mem_cons.mp hw with e | e
    · rw [e]; exact g6 _ (List.mem_append_right _ List.mem_cons_self)
    · exact g6 w (List.mem_append_left _ (List.mem_reverse.mpr e))
  have hlen : (sm ad As).length = n := by simp [sm, hn]
  have hcat' : ((sm ad st).map fun v => v.category).sum ≤ 8 := by rw [sm_cat]; exact c1_s hcat hst8
  rw [sm_stackR]
  exact wm_run_v (fr := fr) (lo := lo) g1 g2 g4 gz g5 g6.right.tail g7 (va_runV (As := sm ad As) (rest := sm ad st) X.1 (hz σ1 hF D dA sz0 ad) (cwV n X.1.2.2.2.2 (lw_V hq hmv.1 hmv.2.1 hmv.2.2.1 hmv.2.2.2) rfl rfl rfl ⟨rfl, hmd.1⟩ hrm) ⟨PC_blind, wm_recv hS g3 hcd hs, fun U hU hW => ⟨rfl, ST_call hS g1 hW hU g4, by rw [hU]; exact g3, hV⟩⟩ rfl hlen g7.1 rfl (lv_room hcat') hdg hc) (fun hN => kk σ1 hN h)
theorem wm_cV_r (X : CX p s m args meth c cc nL own) (hS : ST D dA sz0 ad0 s) (hcd : CD ci C T N ty) (hs : mS σ q = ci) (hC : y.cls = C) {F : Option (Option Nat × Mm)} {f : Option Nat × Mm → Option β} (h : F.bind f = some o) (hz : ∀ r σ1, F = some (r, σ1) → CTr l y (ws_ y bytes maxL ret) fr lo mc ms (va_rf (some q) :: As) σ r σ1) (hmd : MD y n) (hmv : MV y bytes maxL ret) (hq : Cond.methodLink own idx y ∈ lw_all) (hdg : decode cc pc = .ok (.invokevirtual idx, 3)) (hn : As.length = n) (hst : stk = As.reverse ++ va_rf (some q) :: st) (hcat : c1 st) (hst8 : st.length ≤ 8) (hrm : fr + 1 ≤ R.frames ∧ 8 + (maxL + 11) + lo ≤ R.locals) (hc : kc + mc ≤ R.cells ∧ kz + ms ≤ R.slots) (kk : ∀ r σ1, mN σ ≤ mN σ1 → f (r, σ1) = some o → WM p l e R s m args below meth c Q nL D dA sz0 ad0 N0 (kc + mc) (kz + ms) σ1 ℓ (va_rf r :: st) (pc + 3)) : WM p l e R s m args below meth c Q nL D dA sz0 ad0 N0 kc kz σ ℓ stk pc := by
  subst hst
  subst hC
  obtain ⟨⟨r, σ1⟩, hF, h⟩ := Option.bind_eq_some_iff.mp h
  intro ad H locs ls g1 g2 g3 g4 gz g5 g6 g7
  have hV : VK σ (va_rf (some q) :: As) := by
    intro w hw
    rcases List.mem_cons.mp hw with e | e
    · rw [e]; exact g6 _ (List.mem_append_right _ List.mem_cons_self)
    · exact g6 w (List.mem_append_left _ (List.mem_reverse.mpr e))
  have hlen : (sm ad As).length = n := by simp [sm, hn]
  have hcat' : ((sm ad st).map fun v => v.category).sum ≤ 8 := by rw [sm_cat]; exact c1_s hcat hst8
  rw [sm_stackR]
  exact wm_run_r (fr := fr) (lo := lo) g1 g2 g4 gz g5 g6.right.tail g7 (va_runV (As := sm ad As) (rest := sm ad st) X.1 (hz r σ1 hF D dA sz0 ad) (cwV n X.1.2.2.2.2 (lw_V hq hmv.1 hmv.2.1 hmv.2.2.1 hmv.2.2.2) rfl rfl rfl ⟨rfl, hmd.1⟩ hrm) ⟨PC_blind, wm_recv hS g3 hcd hs, fun U hU hW => ⟨rfl, ST_call hS g1 hW hU g4, by rw [hU]; exact g3, hV⟩⟩ rfl hlen g7.1 rfl (lv_room hcat') hdg hc) (fun hN => kk r σ1 hN h)
theorem wm_cS_i (X : CX p s m args meth c cc nL own) (hS : ST D dA sz0 ad0 s) {F : Option (Int32 × Mm)} {f : Int32 × Mm → Option β} (h : F.bind f = some o) (hz : ∀ r σ1, F = some (r, σ1) → CTi l y (ws_ y bytes maxL ret) fr lo mc ms (As) σ r σ1) (hmd : MD y n) (hmv : MS y bytes maxL ret) (hq : Cond.methodLink own idx y ∈ lw_all) (hdg : decode cc pc = .ok (.invokestatic idx, 3)) (hn : As.length = n) (hst : stk = As.reverse ++ st) (hcat : c1 st) (hst8 : st.length ≤ 8) (hrm : fr + 1 ≤ R.frames ∧ 8 + (maxL + 11) + lo ≤ R.locals) (hc : kc + mc ≤ R.cells ∧ kz + ms ≤ R.slots) (kk : ∀ r σ1, mN σ ≤ mN σ1 → f (r, σ1) = some o → WM p l e R s m args below meth c Q nL D dA sz0 ad0 N0 (kc + mc) (kz + ms) σ1 ℓ (.int r :: st) (pc + 3)) : WM p l e R s m args below meth c Q nL D dA sz0 ad0 N0 kc kz σ ℓ stk pc := by
  subst hst
  obtain ⟨⟨r, σ1⟩, hF, h⟩ := Option.bind_eq_some_iff.mp h
  intro ad H locs ls g1 g2 g3 g4 gz g5 g6 g7
  have hV : VK σ (As) := VK_args g6
  have hlen : (sm ad As).length = n := by simp [sm, hn]
  have hcat' : ((sm ad st).map fun v => v.category).sum ≤ 8 := by rw [sm_cat]; exact c1_s hcat hst8
  rw [sm_stack]
  exact wm_run_i (fr := fr) (lo := lo) g1 g2 g4 gz g5 g6.right g7 (va_runS (As := sm ad As) (rest := sm ad st) X.1 (hz r σ1 hF D dA sz0 ad) (va_cwS n X.1.2.2.2.2 (lw_S hq hmv.1 hmv.2.1 hmv.2.2) rfl rfl rfl hmd.1 hrm) ⟨PC_blind, fun U hU hW => ⟨rfl, ST_call hS g1 hW hU g4, by rw [hU]; exact g3, hV⟩⟩ rfl hlen g7.1 rfl (lv_room hcat') hdg hc) (fun hN => kk r σ1 hN h)
theorem wm_cS_v (X : CX p s m args meth c cc nL own) (hS : ST D dA sz0 ad0 s) {F : Option (Mm)} {f : Mm → Option β} (h : F.bind f = some o) (hz : ∀ σ1, F = some σ1 → CTv l y (ws_ y bytes maxL ret) fr lo mc ms (As) σ σ1) (hmd : MD y n) (hmv : MS y bytes maxL ret) (hq : Cond.methodLink own idx y ∈ lw_all) (hdg : decode cc pc = .ok (.invokestatic idx, 3)) (hn : As.length = n) (hst : stk = As.reverse ++ st) (hcat : c1 st) (hst8 : st.length ≤ 8) (hrm : fr + 1 ≤ R.frames ∧ 8 + (maxL + 11) + lo ≤ R.locals) (hc : kc + mc ≤ R.cells ∧ kz + ms ≤ R.slots) (kk : ∀ σ1, mN σ ≤ mN σ1 → f σ1 = some o → WM p l e R s m args below meth c Q nL D dA sz0 ad0 N0 (kc + mc) (kz + ms) σ1 ℓ (st) (pc + 3)) : WM p l e R s m args below meth c Q nL D dA sz0 ad0 N0 kc kz σ ℓ stk pc := by
  subst hst
  obtain ⟨σ1, hF, h⟩ := Option.bind_eq_some_iff.mp h
  intro ad H locs ls g1 g2 g3 g4 gz g5 g6 g7
  have hV : VK σ (As) := VK_args g6
  have hlen : (sm ad As).length = n := by simp [sm, hn]
  have hcat' : ((sm ad st).map fun v => v.category).sum ≤ 8 := by rw [sm_cat]; exact c1_s hcat hst8
  rw [sm_stack]
  exact wm_run_v (fr := fr) (lo := lo) g1 g2 g4 gz g5 g6.right g7 (va_runS (As := sm ad As) (rest := sm ad st) X.1 (hz σ1 hF D dA sz0 ad) (va_cwS n X.1.2.2.2.2 (lw_S hq hmv.1 hmv.2.1 hmv.2.2) rfl rfl rfl hmd.1 hrm) ⟨PC_blind, fun U hU hW => ⟨rfl, ST_call hS g1 hW hU g4, by rw [hU]; exact g3, hV⟩⟩ rfl hlen g7.1 rfl (lv_room hcat') hdg hc) (fun hN => kk σ1 hN h)
theorem wm_cS_r (X : CX p s m args meth c cc nL own) (hS : ST D dA sz0 ad0 s) {F : Option (Option Nat × Mm)} {f : Option Nat × Mm → Option β} (h : F.bind f = some o) (hz : ∀ r σ1, F = some (r, σ1) → CTr l y (ws_ y bytes maxL ret) fr lo mc ms (As) σ r σ1) (hmd : MD y n) (hmv : MS y bytes maxL ret) (hq : Cond.methodLink own idx y ∈ lw_all) (hdg : decode cc pc = .ok (.invokestatic idx, 3)) (hn : As.length = n) (hst : stk = As.reverse ++ st) (hcat : c1 st) (hst8 : st.length ≤ 8) (hrm : fr + 1 ≤ R.frames ∧ 8 + (maxL + 11) + lo ≤ R.locals) (hc : kc + mc ≤ R.cells ∧ kz + ms ≤ R.slots) (kk : ∀ r σ1, mN σ ≤ mN σ1 → f (r, σ1) = some o → WM p l e R s m args below meth c Q nL D dA sz0 ad0 N0 (kc + mc) (kz + ms) σ1 ℓ (va_rf r :: st) (pc + 3)) : WM p l e R s m args below meth c Q nL D dA sz0 ad0 N0 kc kz σ ℓ stk pc := by
  subst hst
  obtain ⟨⟨r, σ1⟩, hF, h⟩ := Option.bind_eq_some_iff.mp h
  intro ad H locs ls g1 g2 g3 g4 gz g5 g6 g7
  have hV : VK σ (As) := VK_args g6
  have hlen : (sm ad As).length = n := by simp [sm, hn]
  have hcat' : ((sm ad st).map fun v => v.category).sum ≤ 8 := by rw [sm_cat]; exact c1_s hcat hst8
  rw [sm_stack]
  exact wm_run_r (fr := fr) (lo := lo) g1 g2 g4 gz g5 g6.right g7 (va_runS (As := sm ad As) (rest := sm ad st) X.1 (hz r σ1 hF D dA sz0 ad) (va_cwS n X.1.2.2.2.2 (lw_S hq hmv.1 hmv.2.1 hmv.2.2) rfl rfl rfl hmd.1 hrm) ⟨PC_blind, fun U hU hW => ⟨rfl, ST_call hS g1 hW hU g4, by rw [hU]; exact g3, hV⟩⟩ rfl hlen g7.1 rfl (lv_room hcat') hdg hc) (fun hN => kk r σ1 hN h)
theorem wm_cI_v (X : CX p s m args meth c cc nL own) (hS : ST D dA sz0 ad0 s) {F : Option (Mm)} {f : Mm → Option β} (h : F.bind f = some o) (hz : ∀ σ1, F = some σ1 → CTv l y (ws_ y bytes maxL none) fr lo mc ms (va_rf (some q) :: As) σ σ1) (hmd : MD y n) (hmv : MI y bytes maxL) (hq : Cond.methodLink own idx y ∈ lw_all) (hdg : decode cc pc = .ok (.invokespecial idx, 3)) (hn : As.length = n) (hst : stk = As.reverse ++ va_rf (some q) :: st) (hcat : c1 st) (hst8 : st.length ≤ 8) (hrm : fr + 1 ≤ R.frames ∧ 8 + (maxL + 11) + lo ≤ R.locals) (hc : kc + mc ≤ R.cells ∧ kz + ms ≤ R.slots) (kk : ∀ σ1, mN σ ≤ mN σ1 → f σ1 = some o → WM p l e R s m args below meth c Q nL D dA sz0 ad0 N0 (kc + mc) (kz + ms) σ1 ℓ (st) (pc + 3)) : WM p l e R s m args below meth c Q nL D dA sz0 ad0 N0 kc kz σ ℓ stk pc := by
  subst hst
  obtain ⟨σ1, hF, h⟩ := Option.bind_eq_some_iff.mp h
  intro ad H locs ls g1 g2 g3 g4 gz g5 g6 g7
  have hV : VK σ (va_rf (some q) :: As) := by
    intro w hw
    rcases List.mem_cons.mp hw with e | e
    · rw [e]; exact g6 _ (List.mem_append_right _ List.mem_cons_self)
    · exact g6 w (List.mem_append_left _ (List.mem_reverse.mpr e))
  have hlen : (sm ad As).length = n := by simp [sm, hn]
  have hcat' : ((sm ad st).map fun v => v.category).sum ≤ 8 := by rw [sm_cat]; exact c1_s hcat hst8
  rw [sm_stackR]
  exact wm_run_v (fr := fr) (lo := lo) g1 g2 g4 gz g5 g6.right.tail g7 (va_runI (As := sm ad As) (rest := sm ad st) X.1 (hz σ1 hF D dA sz0 ad) (cwI n X.1.2.2.2.2 (lw_meth hmv.2.2.1) rfl rfl rfl (X.1.2.2.2.2 _ hmv.2.1) (X.1.2.2.2.2 _ hq) (X.1.2.2.2.2 _ hmv.1) hmv.2.2.2 hmd.1 hrm) ⟨PC_blind, fun U hU hW => ⟨rfl, ST_call hS g1 hW hU g4, by rw [hU]; exact g3, hV⟩⟩ rfl hlen g7.1 rfl (lv_room hcat') hdg hc) (fun hN => kk σ1 hN h)
theorem wm_cVN_i (X : CX p s m args meth c cc nL own) (hS : ST D dA sz0 ad0 s) (hcd : CD ci C T N ty) (hs : mS σ q = ci) (hC : y.cls = C) {F : Option (Int32 × Mm)} {f : Int32 × Mm → Option β} (h : F.bind f = some o) (hz : ∀ r σ1, F = some (r, σ1) → CTi l y (ws_ y bytes maxL ret) fr lo mc ms (va_rf (some q) :: As) σ r σ1) (hmd : MD y n) (hmv : MV y bytes maxL ret) {host : String} (j : Nat) (hq : nwl[j]? = some (Cond.methodLinkNest own idx y host)) (hdg : decode cc pc = .ok (.invokevirtual idx, 3)) (hn : As.length = n) (hst : stk = As.reverse ++ va_rf (some q) :: st) (hcat : c1 st) (hst8 : st.length ≤ 8) (hrm : fr + 1 ≤ R.frames ∧ 8 + (maxL + 11) + lo ≤ R.locals) (hc : kc + mc ≤ R.cells ∧ kz + ms ≤ R.slots) (kk : ∀ r σ1, mN σ ≤ mN σ1 → f (r, σ1) = some o → WM p l e R s m args below meth c Q nL D dA sz0 ad0 N0 (kc + mc) (kz + ms) σ1 ℓ (.int r :: st) (pc + 3)) : WM p l e R s m args below meth c Q nL D dA sz0 ad0 N0 kc kz σ ℓ stk pc := by
  subst hst
  subst hC
  obtain ⟨⟨r, σ1⟩, hF, h⟩ := Option.bind_eq_some_iff.mp h
  intro ad H locs ls g1 g2 g3 g4 gz g5 g6 g7
  have hV : VK σ (va_rf (some q) :: As) := by
    intro w hw
    rcases List.mem_cons.mp hw with e | e
    · rw [e]; exact g6 _ (List.mem_append_right _ List.mem_cons_self)
    · exact g6 w (List.mem_append_left _ (List.mem_reverse.mpr e))
  have hlen : (sm ad As).length = n := by simp [sm, hn]
  have hcat' : ((sm ad st).map fun v => v.category).sum ≤ 8 := by rw [sm_cat]; exact c1_s hcat hst8
  rw [sm_stackR]
  exact wm_run_i (fr := fr) (lo := lo) g1 g2 g4 gz g5 g6.right.tail g7 (va_runVN (As := sm ad As) (rest := sm ad st) X.1 (hz r σ1 hF D dA sz0 ad) ⟨va_cnB n X.1.2.2.2.2 (lw_meth hmv.2.2.2) rfl rfl rfl (hS.2.1 _ (List.mem_of_getElem? hq)) (X.1.2.2.2.2 _ hmv.2.2.1) hmd.1 hrm, X.1.2.2.2.2 _ hmv.1, X.1.2.2.2.2 _ hmv.2.1⟩ ⟨PC_blind, wm_recv hS g3 hcd hs, fun U hU hW => ⟨rfl, ST_call hS g1 hW hU g4, by rw [hU]; exact g3, hV⟩⟩ rfl hlen g7.1 rfl (lv_room hcat') hdg hc) (fun hN => kk r σ1 hN h)
theorem wm_cVN_v (X : CX p s m args meth c cc nL own) (hS : ST D dA sz0 ad0 s) (hcd : CD ci C T N ty) (hs : mS σ q = ci) (hC : y.cls = C) {F : Option (Mm)} {f : Mm → Option β} (h : F.bind f = some o) (hz : ∀ σ1, F = some σ1 → CTv l y (ws_ y bytes maxL ret) fr lo mc ms (va_rf (some q) :: As) σ σ1) (hmd : MD y n) (hmv : MV y bytes maxL ret) {host : String} (j : Nat) (hq : nwl[j]? = some (Cond.methodLinkNest own idx y host)) (hdg : decode cc pc = .ok (.invokevirtual idx, 3)) (hn : As.length = n) (hst : stk = As.reverse ++ va_rf (some q) :: st) (hcat : c1 st) (hst8 : st.length ≤ 8) (hrm : fr + 1 ≤ R.frames ∧ 8 + (maxL + 11) + lo ≤ R.locals) (hc : kc + mc ≤ R.cells ∧ kz + ms ≤ R.slots) (kk : ∀ σ1, mN σ ≤ mN σ1 → f σ1 = some o → WM p l e R s m args below meth c Q nL D dA sz0 ad0 N0 (kc + mc) (kz + ms) σ1 ℓ (st) (pc + 3)) : WM p l e R s m args below meth c Q nL D dA sz0 ad0 N0 kc kz σ ℓ stk pc := by
  subst hst
  subst hC
  obtain ⟨σ1, hF, h⟩ := Option.bind_eq_some_iff.mp h
  intro ad H locs ls g1 g2 g3 g4 gz g5 g6 g7
  have hV : VK σ (va_rf (some q) :: As) := by
    intro w hw
    rcases List.mem_cons.mp hw with e | e
    · rw [e]; exact g6 _ (List.mem_append_right _ List.mem_cons_self)
    · exact g6 w (List.mem_append_left _ (List.mem_reverse.mpr e))
  have hlen : (sm ad As).length = n := by simp [sm, hn]
  have hcat' : ((sm ad st).map fun v => v.category).sum ≤ 8 := by rw [sm_cat]; exact c1_s hcat hst8
  rw [sm_stackR]
  exact wm_run_v (fr := fr) (lo := lo) g1 g2 g4 gz g5 g6.right.tail g7 (va_runVN (As := sm ad As) (rest := sm ad st) X.1 (hz σ1 hF D dA sz0 ad) ⟨va_cnB n X.1.2.2.2.2 (lw_meth hmv.2.2.2) rfl rfl rfl (hS.2.1 _ (List.mem_of_getElem? hq)) (X.1.2.2.2.2 _ hmv.2.2.1) hmd.1 hrm, X.1.2.2.2.2 _ hmv.1, X.1.2.2.2.2 _ hmv.2.1⟩ ⟨PC_blind, wm_recv hS g3 hcd hs, fun U hU hW => ⟨rfl, ST_call hS g1 hW hU g4, by rw [hU]; exact g3, hV⟩⟩ rfl hlen g7.1 rfl (lv_room hcat') hdg hc) (fun hN => kk σ1 hN h)
theorem wm_cVN_r (X : CX p s m args meth c cc nL own) (hS : ST D dA sz0 ad0 s) (hcd : CD ci C T N ty) (hs : mS σ q = ci) (hC : y.cls = C) {F : Option (Option Nat × Mm)} {f : Option Nat × Mm → Option β} (h : F.bind f = some o) (hz : ∀ r σ1, F = some (r, σ1) → CTr l y (ws_ y bytes maxL ret) fr lo mc ms (va_rf (some q) :: As) σ r σ1) (hmd : MD y n) (hmv : MV y bytes maxL ret) {host : String} (j : Nat) (hq : nwl[j]? = some (Cond.methodLinkNest own idx y host)) (hdg : decode cc pc = .ok (.invokevirtual idx, 3)) (hn : As.length = n) (hst : stk = As.reverse ++ va_rf (some q) :: st) (hcat : c1 st) (hst8 : st.length ≤ 8) (hrm : fr + 1 ≤ R.frames ∧ 8 + (maxL + 11) + lo ≤ R.locals) (hc : kc + mc ≤ R.cells ∧ kz + ms ≤ R.slots) (kk : ∀ r σ1, mN σ ≤ mN σ1 → f (r, σ1) = some o → WM p l e R s m args below meth c Q nL D dA sz0 ad0 N0 (kc + mc) (kz + ms) σ1 ℓ (va_rf r :: st) (pc + 3)) : WM p l e R s m args below meth c Q nL D dA sz0 ad0 N0 kc kz σ ℓ stk pc := by
  subst hst
  subst hC
  obtain ⟨⟨r, σ1⟩, hF, h⟩ := Option.bind_eq_some_iff.mp h
  intro ad H locs ls g1 g2 g3 g4 gz g5 g6 g7
  have hV : VK σ (va_rf (some q) :: As) := by
    intro w hw
    rcases List.mem_cons.mp hw with e | e
    · rw [e]; exact g6 _ (List.mem_append_right _ List.mem_cons_self)
    · exact g6 w (List.mem_append_left _ (List.mem_reverse.mpr e))
  have hlen : (sm ad As).length = n := by simp [sm, hn]
  have hcat' : ((sm ad st).map fun v => v.category).sum ≤ 8 := by rw [sm_cat]; exact c1_s hcat hst8
  rw [sm_stackR]
  exact wm_run_r (fr := fr) (lo := lo) g1 g2 g4 gz g5 g6.right.tail g7 (va_runVN (As := sm ad As) (rest := sm ad st) X.1 (hz r σ1 hF D dA sz0 ad) ⟨va_cnB n X.1.2.2.2.2 (lw_meth hmv.2.2.2) rfl rfl rfl (hS.2.1 _ (List.mem_of_getElem? hq)) (X.1.2.2.2.2 _ hmv.2.2.1) hmd.1 hrm, X.1.2.2.2.2 _ hmv.1, X.1.2.2.2.2 _ hmv.2.1⟩ ⟨PC_blind, wm_recv hS g3 hcd hs, fun U hU hW => ⟨rfl, ST_call hS g1 hW hU g4, by rw [hU]; exact g3, hV⟩⟩ rfl hlen g7.1 rfl (lv_room hcat') hdg hc) (fun hN => kk r σ1 hN h)
theorem wm_cSN_i (X : CX p s m args meth c cc nL own) (hS : ST D dA sz0 ad0 s) {F : Option (Int32 × Mm)} {f : Int32 × Mm → Option β} (h : F.bind f = some o) (hz : ∀ r σ1, F = some (r, σ1) → CTi l y (ws_ y bytes maxL ret) fr lo mc ms (As) σ r σ1) (hmd : MD y n) (hmv : MS y bytes maxL ret) {host : String} (j : Nat) (hq : nwl[j]? = some (Cond.methodLinkNest own idx y host)) (hdg : decode cc pc = .ok (.invokestatic idx, 3)) (hn : As.length = n) (hst : stk = As.reverse ++ st) (hcat : c1 st) (hst8 : st.length ≤ 8) (hrm : fr + 1 ≤ R.frames ∧ 8 + (maxL + 11) + lo ≤ R.locals) (hc : kc + mc ≤ R.cells ∧ kz + ms ≤ R.slots) (kk : ∀ r σ1, mN σ ≤ mN σ1 → f (r, σ1) = some o → WM p l e R s m args below meth c Q nL D dA sz0 ad0 N0 (kc + mc) (kz + ms) σ1 ℓ (.int r :: st) (pc + 3)) : WM p l e R s m args below meth c Q nL D dA sz0 ad0 N0 kc kz σ ℓ stk pc := by
  subst hst
  obtain ⟨⟨r, σ1⟩, hF, h⟩ := Option.bind_eq_some_iff.mp h
  intro ad H locs ls g1 g2 g3 g4 gz g5 g6 g7
  have hV : VK σ (As) := VK_args g6
  have hlen : (sm ad As).length = n := by simp [sm, hn]
  have hcat' : ((sm ad st).map fun v => v.category).sum ≤ 8 := by rw [sm_cat]; exact c1_s hcat hst8
  rw [sm_stack]
  exact wm_run_i (fr := fr) (lo := lo) g1 g2 g4 gz g5 g6.right g7 (va_runSN (As := sm ad As) (rest := sm ad st) X.1 (hz r σ1 hF D dA sz0 ad) ⟨va_cnB n X.1.2.2.2.2 (lw_meth hmv.2.2) rfl rfl rfl (hS.2.1 _ (List.mem_of_getElem? hq)) (X.1.2.2.2.2 _ hmv.2.1) hmd.1 hrm, X.1.2.2.2.2 _ hmv.1, trivial⟩ ⟨PC_blind, fun U hU hW => ⟨rfl, ST_call hS g1 hW hU g4, by rw [hU]; exact g3, hV⟩⟩ rfl hlen g7.1 rfl (lv_room hcat') hdg hc) (fun hN => kk r σ1 hN h)
theorem wm_cSN_v (X : CX p s m args meth c cc nL own) (hS : ST D dA sz0 ad0 s) {F : Option (Mm)} {f : Mm → Option β} (h : F.bind f = some o) (hz : ∀ σ1, F = some σ1 → CTv l y (ws_ y bytes maxL ret) fr lo mc ms (As) σ σ1) (hmd : MD y n) (hmv : MS y bytes maxL ret) {host : String} (j : Nat) (hq : nwl[j]? = some (Cond.methodLinkNest own idx y host)) (hdg : decode cc pc = .ok (.invokestatic idx, 3)) (hn : As.length = n) (hst : stk = As.reverse ++ st) (hcat : c1 st) (hst8 : st.length ≤ 8) (hrm : fr + 1 ≤ R.frames ∧ 8 + (maxL + 11) + lo ≤ R.locals) (hc : kc + mc ≤ R.cells ∧ kz + ms ≤ R.slots) (kk : ∀ σ1, mN σ ≤ mN σ1 → f σ1 = some o → WM p l e R s m args below meth c Q nL D dA sz0 ad0 N0 (kc + mc) (kz + ms) σ1 ℓ (st) (pc + 3)) : WM p l e R s m args below meth c Q nL D dA sz0 ad0 N0 kc kz σ ℓ stk pc := by
  subst hst
  obtain ⟨σ1, hF, h⟩ := Option.bind_eq_some_iff.mp h
  intro ad H locs ls g1 g2 g3 g4 gz g5 g6 g7
  have hV : VK σ (As) := VK_args g6
  have hlen : (sm ad As).length = n := by simp [sm, hn]
  have hcat' : ((sm ad st).map fun v => v.category).sum ≤ 8 := by rw [sm_cat]; exact c1_s hcat hst8
  rw [sm_stack]
  exact wm_run_v (fr := fr) (lo := lo) g1 g2 g4 gz g5 g6.right g7 (va_runSN (As := sm ad As) (rest := sm ad st) X.1 (hz σ1 hF D dA sz0 ad) ⟨va_cnB n X.1.2.2.2.2 (lw_meth hmv.2.2) rfl rfl rfl (hS.2.1 _ (List.mem_of_getElem? hq)) (X.1.2.2.2.2 _ hmv.2.1) hmd.1 hrm, X.1.2.2.2.2 _ hmv.1, trivial⟩ ⟨PC_blind, fun U hU hW => ⟨rfl, ST_call hS g1 hW hU g4, by rw [hU]; exact g3, hV⟩⟩ rfl hlen g7.1 rfl (lv_room hcat') hdg hc) (fun hN => kk σ1 hN h)
theorem wm_cSN_r (X : CX p s m args meth c cc nL own) (hS : ST D dA sz0 ad0 s) {F : Option (Option Nat × Mm)} {f : Option Nat × Mm → Option β} (h : F.bind f = some o) (hz : ∀ r σ1, F = some (r, σ1) → CTr l y (ws_ y bytes maxL ret) fr lo mc ms (As) σ r σ1) (hmd : MD y n) (hmv : MS y bytes maxL ret) {host : String} (j : Nat) (hq : nwl[j]? = some (Cond.methodLinkNest own idx y host)) (hdg : decode cc pc = .ok (.invokestatic idx, 3)) (hn : As.length = n) (hst : stk = As.reverse ++ st) (hcat : c1 st) (hst8 : st.length ≤ 8) (hrm : fr + 1 ≤ R.frames ∧ 8 + (maxL + 11) + lo ≤ R.locals) (hc : kc + mc ≤ R.cells ∧ kz + ms ≤ R.slots) (kk : ∀ r σ1, mN σ ≤ mN σ1 → f (r, σ1) = some o → WM p l e R s m args below meth c Q nL D dA sz0 ad0 N0 (kc + mc) (kz + ms) σ1 ℓ (va_rf r :: st) (pc + 3)) : WM p l e R s m args below meth c Q nL D dA sz0 ad0 N0 kc kz σ ℓ stk pc := by
  subst hst
  obtain ⟨⟨r, σ1⟩, hF, h⟩ := Option.bind_eq_some_iff.mp h
  intro ad H locs ls g1 g2 g3 g4 gz g5 g6 g7
  have hV : VK σ (As) := VK_args g6
  have hlen : (sm ad As).length = n := by simp [sm, hn]
  have hcat' : ((sm ad st).map fun v => v.category).sum ≤ 8 := by rw [sm_cat]; exact c1_s hcat hst8
  rw [sm_stack]
  exact wm_run_r (fr := fr) (lo := lo) g1 g2 g4 gz g5 g6.right g7 (va_runSN (As := sm ad As) (rest := sm ad st) X.1 (hz r σ1 hF D dA sz0 ad) ⟨va_cnB n X.1.2.2.2.2 (lw_meth hmv.2.2) rfl rfl rfl (hS.2.1 _ (List.mem_of_getElem? hq)) (X.1.2.2.2.2 _ hmv.2.1) hmd.1 hrm, X.1.2.2.2.2 _ hmv.1, trivial⟩ ⟨PC_blind, fun U hU hW => ⟨rfl, ST_call hS g1 hW hU g4, by rw [hU]; exact g3, hV⟩⟩ rfl hlen g7.1 rfl (lv_room hcat') hdg hc) (fun hN => kk r σ1 hN h)
theorem wm_cIN_v (X : CX p s m args meth c cc nL own) (hS : ST D dA sz0 ad0 s) {F : Option (Mm)} {f : Mm → Option β} (h : F.bind f = some o) (hz : ∀ σ1, F = some σ1 → CTv l y (ws_ y bytes maxL none) fr lo mc ms (va_rf (some q) :: As) σ σ1) (hmd : MD y n) (hmv : MI y bytes maxL) {host : String} (j : Nat) (hq : nwl[j]? = some (Cond.methodLinkNest own idx y host)) (hdg : decode cc pc = .ok (.invokespecial idx, 3)) (hn : As.length = n) (hst : stk = As.reverse ++ va_rf (some q) :: st) (hcat : c1 st) (hst8 : st.length ≤ 8) (hrm : fr + 1 ≤ R.frames ∧ 8 + (maxL + 11) + lo ≤ R.locals) (hc : kc + mc ≤ R.cells ∧ kz + ms ≤ R.slots) (kk : ∀ σ1, mN σ ≤ mN σ1 → f σ1 = some o → WM p l e R s m args below meth c Q nL D dA sz0 ad0 N0 (kc + mc) (kz + ms) σ1 ℓ (st) (pc + 3)) : WM p l e R s m args below meth c Q nL D dA sz0 ad0 N0 kc kz σ ℓ stk pc := by
  subst hst
  obtain ⟨σ1, hF, h⟩ := Option.bind_eq_some_iff.mp h
  intro ad H locs ls g1 g2 g3 g4 gz g5 g6 g7
  have hV : VK σ (va_rf (some q) :: As) := by
    intro w hw
    rcases List.mem_cons.mp hw with e | e
    · rw [e]; exact g6 _ (List.mem_append_right _ List.mem_cons_self)
    · exact g6 w (List.mem_append_left _ (List.mem_reverse.mpr e))
  have hlen : (sm ad As).length = n := by simp [sm, hn]
  have hcat' : ((sm ad st).map fun v => v.category).sum ≤ 8 := by rw [sm_cat]; exact c1_s hcat hst8
  rw [sm_stackR]
  exact wm_run_v (fr := fr) (lo := lo) g1 g2 g4 gz g5 g6.right.tail g7 (va_runIN (As := sm ad As) (rest := sm ad st) X.1 (hz σ1 hF D dA sz0 ad) ⟨va_cnB n X.1.2.2.2.2 (lw_meth hmv.2.2.1) rfl rfl rfl (hS.2.1 _ (List.mem_of_getElem? hq)) (X.1.2.2.2.2 _ hmv.2.1) hmd.1 hrm, hmv.2.2.2, X.1.2.2.2.2 _ hmv.1⟩ ⟨PC_blind, fun U hU hW => ⟨rfl, ST_call hS g1 hW hU g4, by rw [hU]; exact g3, hV⟩⟩ rfl hlen g7.1 rfl (lv_room hcat') hdg hc) (fun hN => kk σ1 hN h)
end R5
