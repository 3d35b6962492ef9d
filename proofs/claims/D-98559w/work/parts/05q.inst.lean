/-! THE LAYER, 17: instanceof String, of one that may change -/
section R17
variable {p : Program} {l : Launch} {e : Env} {R : Room} {s : State} {m : MethodId} {args : Array Value} {below : List Frame} {meth : Method} {c : Code} {Q : State → Prop} {cc : ByteArray} {nL : Nat} {own : String} {D : va_G} {dA : Nat → ClassId} {sz0 : Nat} {ad0 : Nat → Nat} {N0 kc kz : Nat} {σ σ' : Mm} {ℓ ℓ' : List (Nat × Value)} {st : List Value} {pc : Nat} {β : Type} {o : β} {ci : Nat} {C : String} {T : u_T} {N : Nat} {ty : Nat → FieldType} {idx : Nat} {v : Option Nat} {y : MethodName} {bytes : ByteArray} {maxL fr lo mc ms n : Nat} {ret : Option FieldType} {As stk : List Value} {q : Nat}
theorem wm_inst (X : CX p s m args meth c cc nL own) (hS : ST D dA sz0 ad0 s) (hcd : CD ci C T N ty) {f : Nat → Option β} (h : (rv ci v σ).bind f = some o) (hdg : decode cc pc = .ok (.instanceof idx, 3)) (hq : Cond.classLink own idx C ∈ lw_all) (kk : ∀ q, v = some q → mS σ q = ci → f q = some o → WM p l e R s m args below meth c Q nL D dA sz0 ad0 N0 kc kz σ ℓ (.int 1 :: st) (pc + 3)) : WM p l e R s m args below meth c Q nL D dA sz0 ad0 N0 kc kz σ ℓ (va_rf v :: st) pc := by
  obtain ⟨q, hx, h9⟩ := Option.bind_eq_some_iff.mp h
  obtain ⟨rfl, hs⟩ := rv_some hx
  intro ad H locs ls h1 h2 h3 h4 hz h5 h6 h7
  exact va_instE X.1.1 X.1.2.1 X.1.2.2.2.1 (X.1.2.2.2.2 _ hq) (wm_recv hS h3 hcd hs) hdg (kk q rfl hs h9 ad H locs ls h1 h2 h3 h4 hz h5 (h6.tail.cons vok_int) h7)
end R17
