/-! THE LAYER, 12: Cond.holds by invokeinterface -/
section R12
variable {p : Program} {l : Launch} {e : Env} {R : Room} {s : State} {m : MethodId} {args : Array Value} {below : List Frame} {meth : Method} {c : Code} {Q : State → Prop} {cc : ByteArray} {nL : Nat} {own : String} {D : va_G} {dA : Nat → ClassId} {sz0 : Nat} {ad0 : Nat → Nat} {N0 kc kz : Nat} {σ σ' : Mm} {ℓ ℓ' : List (Nat × Value)} {st : List Value} {pc : Nat} {β : Type} {o : β} {ci : Nat} {C : String} {T : u_T} {N : Nat} {ty : Nat → FieldType} {idx : Nat} {v : Option Nat} {y : MethodName} {bytes : ByteArray} {maxL fr lo mc ms n : Nat} {ret : Option FieldType} {As stk : List Value} {q : Nat}
theorem wm_run5_i {fr lo mc ms : Nat} {r : Int32} {σ1 : Mm} {a : Array Value} {ad : Nat → Nat} {H : Heap} {locs : List Loc} {ls : Array Slot} {st0 : List Value} (g1 : Ex N0 ad0 ad) (g2 : N0 ≤ mN σ) (g4 : va_S (Ab sz0) s.heap H locs) (gz : sz0 ≤ s.heap.size) (g5 : LK σ ℓ) (g6 : VK σ st) (g7 : lv_has ls nL (lm ad ℓ)) (hr : va_Run5 p l e R s m args below meth c H locs kc kz mc ms (F0 m pc ls st0) (sm ad st) (QI dA D sz0 ad (mN σ) r σ1 a) (Ab sz0)) (kk : mN σ ≤ mN σ1 → WM p l e R s m args below meth c Q nL D dA sz0 ad0 N0 (kc + mc) (kz + ms) σ1 ℓ (.int r :: st) (pc + 5)) : W p l e R s m args below meth c H locs kc kz Q (F0 m pc ls st0) := by
  refine va_callFi hr g4 (fun q _ h => h) (fun q h => h) (fun x u t H1 locs1 ht hvm hp hB hz1 hk1 hS1 => ?_)
  obtain ⟨rfl, hE, hN⟩ := hp
  have hk := kk hN u H1 locs1 ls (g1.trans hE g2) (Nat.le_trans g2 hN) (by rw [← ht]; exact hB) hS1 gz (g5.mono hN) ((g6.mono hN).cons vok_int) (by rw [hE.lm g5]; exact g7)
  rw [show sm u (.int x :: st) = .int x :: sm ad st from congrArg (Value.int x :: ·) (hE.sm g6)] at hk
  exact hk
theorem wm_cF_i (X : CX p s m args meth c cc nL own) (hS : ST D dA sz0 ad0 s) (hcd : CD ci C T N ty) (hs : mS σ q = ci) (hsel : Cond.selects C yHolds y ∈ lw_all) (hmi : Cond.instanceMethod y ∈ lw_all) (hini : Cond.initialized y.cls ∈ lw_all) (hco : Cond.code y bytes maxL ret ∈ lw_all) (hFw : va_Fw C yHolds y s) (hq : Cond.methodLink own idx yHolds ∈ lw_all) {F : Option (Int32 × Mm)} {f : (Int32 × Mm) → Option β} {cnt : Nat} {v9 : Value} (h : F.bind f = some o) (hz : ∀ r σ1, F = some (r, σ1) → CTi l y (ws_ y bytes maxL ret) fr lo mc ms [va_rf (some q), v9] σ r σ1) (hdg : decode cc pc = .ok (.invokeinterface idx cnt, 5)) (hcat : c1 st) (hst8 : st.length ≤ 8) (hrm : fr + 1 ≤ R.frames ∧ 8 + (maxL + 11) + lo ≤ R.locals) (hc : kc + mc ≤ R.cells ∧ kz + ms ≤ R.slots) (kk : ∀ r σ1, mN σ ≤ mN σ1 → f (r, σ1) = some o → WM p l e R s m args below meth c Q nL D dA sz0 ad0 N0 (kc + mc) (kz + ms) σ1 ℓ (.int r :: st) (pc + 5)) : WM p l e R s m args below meth c Q nL D dA sz0 ad0 N0 kc kz σ ℓ (v9 :: va_rf (some q) :: st) pc := by
  obtain ⟨⟨r, σ1⟩, hF, h⟩ := Option.bind_eq_some_iff.mp h
  intro ad H locs ls g1 g2 g3 g4 gz g5 g6 g7
  have hcat' : ((sm ad st).map fun v => v.category).sum ≤ 8 := by rw [sm_cat]; exact c1_s hcat hst8
  have hT : GoodIn lw_all (va_wsF own idx C yHolds y (ws_ y bytes maxL ret)) := by
    refine lw_app ?_ (lw_meth hco)
    intro w hw
    simp only [List.mem_cons, List.not_mem_nil, or_false] at hw
    rcases hw with e | e | e | e
    · rw [e]; exact hq
    · rw [e]; exact hsel
    · rw [e]; exact hmi
    · rw [e]; exact hini
  have hV : VK σ [va_rf (some q), v9] := fun w hw => by
    rcases List.mem_cons.mp hw with e | e
    · rw [e]; exact g6.tail.head
    · rw [List.mem_singleton.mp e]; exact g6.head
  exact wm_run5_i (fr := fr) (lo := lo) g1 g2 g4 gz g5 g6.tail.tail g7 (va_runF (As := [cv ad v9]) (b := ad q) (rest := sm ad st) (hS.1.1 ci _ hcd.1.1).2 X.1 (hz r σ1 hF D dA sz0 ad) (va_cwF 1 X.1.2.2.2.2 hT rfl rfl rfl hFw ⟨by decide, by decide, by decide +kernel⟩ hrm) ⟨PC_blind, wm_recv hS g3 hcd hs, fun U hU hW => ⟨rfl, ST_call hS g1 hW hU g4, by rw [hU]; exact g3, hV⟩⟩ rfl rfl g7.1 rfl (lv_room hcat') hdg hc) (fun hN => kk r σ1 hN h)
end R12
