/-! walks (printed by walk.py) -/
set_option maxRecDepth 100000
theorem mdJ0_fill : MD yJ0_fill 2 := by unfold MD; decide +kernel
theorem msJ0_fill : MS yJ0_fill cJ0_fill 4 (none) := ⟨q188, q130, q189⟩
set_option maxHeartbeats 4000000 in
theorem wJ0_fill_5 {p : Program} {l : Launch} {e : Env} {s : State} {m : MethodId} {args : Array Value} {below : List Frame} {meth : Method} {c : Code} {D : va_G} {dA : Nat → ClassId} {sz0 : Nat} {ad0 : Nat → Nat} {N0 : Nat} {σf : Mm} (X : CX p s m args meth c cJ0_fill 4 RJ0) (hS : ST D dA sz0 ad0 s) (hr : meth.sig.returnType = none) (hnm : meth.name = yJ0_fill.name) (y0 : Option Nat) (y1 : Int32) (y3 : Int32) : ∀ (n : Nat) (v2 : Int32) (σ : Mm) (kx20 : Mm → Option (Mm)), FJ0_fill_5 y0 y1 y3 n v2 σ kx20 = some σf → (∀  (σ : Mm), kx20 σ = some σf → WMv p l e s m args below meth c 0 0 0 0 4 D dA sz0 ad0 N0 σf 0 0 σ [] [] 20) → WMv p l e s m args below meth c 0 0 0 0 4 D dA sz0 ad0 N0 σf 0 0 σ [(0, va_rf y0), (1, .int y1), (2, .int v2), (3, .int y3)] [] 5 := by
  intro n
  induction n with
  | zero =>
    intro v2 σ kx20 h hkx20
    cases h
  | succ n ih =>
    intro v2 σ kx20 h hkx20
    rw [FJ0_fill_5] at h
    refine wm_iload_n X 2 dJ0_fill_5 rfl ?_
    refine wm_iload_n X 3 dJ0_fill_6 rfl ?_
    refine wm_icmp_ge X 20 h dJ0_fill_7 (by decide) (fun c23 h => ?_) (fun c23 h => ?_)
    · refine wm_sub (ℓ' := []) [] rfl ?_
      exact hkx20 _ h
    · refine wm_aload_n X 0 dJ0_fill_10 rfl ?_
      refine wm_iload_n X 2 dJ0_fill_11 rfl ?_
      refine wm_iload_n X 1 dJ0_fill_12 rfl ?_
      refine wm_iastore X hS h dJ0_fill_13 (fun σ22 _ h => ?_)
      refine wm_iinc (v := (v2 + 1)) (ℓ' := [(2, .int (v2 + 1)), (0, va_rf y0), (1, .int y1), (3, .int y3)]) X 2 dJ0_fill_14 rfl rfl (by decide) rfl ?_
      refine wm_goto X 5 dJ0_fill_17 (by decide) ?_
      refine wm_sub (ℓ' := [(0, va_rf y0), (1, .int y1), (2, .int (v2 + 1)), (3, .int y3)]) [1, 2, 0, 3] rfl ?_
      exact ih _ _ _ h hkx20
set_option maxHeartbeats 4000000 in
theorem ctJ0_fill (l : Launch) {x0 : Option Nat} {x1 : Int32} {σ σf : Mm} (h : FJ0_fill x0 x1 σ = some σf) : CTv l yJ0_fill (ws_ yJ0_fill cJ0_fill 4 (none)) 0 0 0 0 [va_rf x0, .int x1] σ σf := by
  refine ct_start (n := 2) mdJ0_fill (Nat.le_of_ble_eq_true rfl) (c1_r (c1_i c1_0)) (fun p e s m args below meth c D dA sz0 ad0 X hS hr hnm => ?_)
  have X : CX p s m args meth c cJ0_fill 4 RJ0 := X
  generalize mN σ = N0
  unfold FJ0_fill at h
  refine wm_iconst (v := 0) X dJ0_fill_0 (by decide) ?_
  refine wm_istore_n (ℓ' := [(2, .int 0), (0, va_rf x0), (1, .int x1)]) X dJ0_fill_1 (by decide) rfl ?_
  refine wm_aload_n X 1 dJ0_fill_2 rfl ?_
  refine wm_alen X hS 100 (by decide) h dJ0_fill_3 (fun x21 h => ?_)
  refine wm_istore_n (ℓ' := [(3, .int x21), (2, .int 0), (0, va_rf x0), (1, .int x1)]) X dJ0_fill_4 (by decide) rfl ?_
  refine wm_sub (ℓ' := [(0, va_rf x0), (1, .int x1), (2, .int 0), (3, .int x21)]) [2, 3, 1, 0] rfl ?_
  refine wJ0_fill_5 X hS hr hnm _ _ _ fu _ _ _ h (fun σ h => ?_)
  · exact wm_vret X hr h dJ0_fill_20 (Nat.le_of_ble_eq_true rfl) (Nat.le_of_ble_eq_true rfl)
theorem mdX2_init : MD yX2_init 0 := by unfold MD; decide +kernel
theorem miX2_init : MI yX2_init cX2_init 1 := ⟨q184, q129, q185, rfl⟩
set_option maxHeartbeats 4000000 in
theorem ctX2_init (l : Launch) {h0 : Nat} {σ σf : Mm} (h : FX2_init h0 σ = some σf) : CTv l yX2_init (ws_ yX2_init cX2_init 1 (none)) 1 25 11 582 [va_rf (some h0)] σ σf := by
  refine ct_start (n := 0) mdX2_init (Nat.le_of_ble_eq_true rfl) (c1_r c1_0) (fun p e s m args below meth c D dA sz0 ad0 X hS hr hnm => ?_)
  have X : CX p s m args meth c cX2_init 1 RX2 := X
  generalize mN σ = N0
  unfold FX2_init at h
  refine wm_aload_n X 0 dX2_init_0 rfl ?_
  refine wm_objInit X dX2_init_1 q186 q179 q180 (Nat.le_of_ble_eq_true rfl) c1_0 (Nat.le_of_ble_eq_true rfl) (Nat.le_of_ble_eq_true rfl) ?_
  refine wm_aload_n X 0 dX2_init_4 rfl ?_
  refine wm_bipush (v := 6) X dX2_init_5 (by decide) ?_
  refine wm_pI X hS cd_2 2 h dX2_init_7 (Nat.le_of_ble_eq_true rfl) rfl q196 rfl rfl (fun σ21 _ h => ?_)
  refine wm_aload_n X 0 dX2_init_10 rfl ?_
  refine wm_iconst (v := 1) X dX2_init_11 (by decide) ?_
  refine wm_pI X hS cd_2 7 h dX2_init_12 (Nat.le_of_ble_eq_true rfl) rfl q206 rfl rfl (fun σ22 _ h => ?_)
  refine wm_aload_n X 0 dX2_init_15 rfl ?_
  refine wm_bipush (v := 10) X dX2_init_16 (by decide) ?_
  refine wm_newarr (z := 10) X hS 100 .int (Or.inl ⟨rfl, rfl⟩) q276 h dX2_init_18 (Nat.le_of_ble_eq_true rfl) rfl (Nat.le_of_ble_eq_true rfl) (fun x23 σ24 _ h => ?_)
  refine wm_pRF X hS cd_2 8 h dX2_init_20 (Nat.le_of_ble_eq_true rfl) rfl q208 (fun r => by cases r <;> exact ⟨rfl, rfl⟩) rfl hnm rfl (fun σ25 _ h => ?_)
  refine wm_aload_n X 0 dX2_init_23 rfl ?_
  refine wm_bipush (v := 10) X dX2_init_24 (by decide) ?_
  refine wm_newarr (z := 10) X hS 100 .int (Or.inl ⟨rfl, rfl⟩) q276 h dX2_init_26 (Nat.le_of_ble_eq_true rfl) rfl (Nat.le_of_ble_eq_true rfl) (fun x26 σ27 _ h => ?_)
  refine wm_pRF X hS cd_2 9 h dX2_init_28 (Nat.le_of_ble_eq_true rfl) rfl q210 (fun r => by cases r <;> exact ⟨rfl, rfl⟩) rfl hnm rfl (fun σ28 _ h => ?_)
  refine wm_aload_n X 0 dX2_init_31 rfl ?_
  refine wm_bipush (v := 10) X dX2_init_32 (by decide) ?_
  refine wm_newarr (z := 10) X hS 100 .int (Or.inl ⟨rfl, rfl⟩) q276 h dX2_init_34 (Nat.le_of_ble_eq_true rfl) rfl (Nat.le_of_ble_eq_true rfl) (fun x29 σ30 _ h => ?_)
  refine wm_pRF X hS cd_2 10 h dX2_init_36 (Nat.le_of_ble_eq_true rfl) rfl q212 (fun r => by cases r <;> exact ⟨rfl, rfl⟩) rfl hnm rfl (fun σ31 _ h => ?_)
  refine wm_aload_n X 0 dX2_init_39 rfl ?_
  refine wm_bipush (v := 10) X dX2_init_40 (by decide) ?_
  refine wm_newarr (z := 10) X hS 100 .int (Or.inl ⟨rfl, rfl⟩) q276 h dX2_init_42 (Nat.le_of_ble_eq_true rfl) rfl (Nat.le_of_ble_eq_true rfl) (fun x32 σ33 _ h => ?_)
  refine wm_pRF X hS cd_2 11 h dX2_init_44 (Nat.le_of_ble_eq_true rfl) rfl q215 (fun r => by cases r <;> exact ⟨rfl, rfl⟩) rfl hnm rfl (fun σ34 _ h => ?_)
  refine wm_aload_n X 0 dX2_init_47 rfl ?_
  refine wm_bipush (v := 10) X dX2_init_48 (by decide) ?_
  refine wm_newarr (z := 10) X hS 100 .int (Or.inl ⟨rfl, rfl⟩) q276 h dX2_init_50 (Nat.le_of_ble_eq_true rfl) rfl (Nat.le_of_ble_eq_true rfl) (fun x35 σ36 _ h => ?_)
  refine wm_pRF X hS cd_2 12 h dX2_init_52 (Nat.le_of_ble_eq_true rfl) rfl q218 (fun r => by cases r <;> exact ⟨rfl, rfl⟩) rfl hnm rfl (fun σ37 _ h => ?_)
  refine wm_aload_n X 0 dX2_init_55 rfl ?_
  refine wm_bipush (v := 10) X dX2_init_56 (by decide) ?_
  refine wm_newarr (z := 10) X hS 100 .int (Or.inl ⟨rfl, rfl⟩) q276 h dX2_init_58 (Nat.le_of_ble_eq_true rfl) rfl (Nat.le_of_ble_eq_true rfl) (fun x38 σ39 _ h => ?_)
  refine wm_pRF X hS cd_2 13 h dX2_init_60 (Nat.le_of_ble_eq_true rfl) rfl q220 (fun r => by cases r <;> exact ⟨rfl, rfl⟩) rfl hnm rfl (fun σ40 _ h => ?_)
  refine wm_aload_n X 0 dX2_init_63 rfl ?_
  refine wm_bipush (v := 100) X dX2_init_64 (by decide) ?_
  refine wm_newarr (z := 100) X hS 100 .int (Or.inl ⟨rfl, rfl⟩) q276 h dX2_init_66 (Nat.le_of_ble_eq_true rfl) rfl (Nat.le_of_ble_eq_true rfl) (fun x41 σ42 _ h => ?_)
  refine wm_pRF X hS cd_2 14 h dX2_init_68 (Nat.le_of_ble_eq_true rfl) rfl q222 (fun r => by cases r <;> exact ⟨rfl, rfl⟩) rfl hnm rfl (fun σ43 _ h => ?_)
  refine wm_aload_n X 0 dX2_init_71 rfl ?_
  refine wm_bipush (v := 100) X dX2_init_72 (by decide) ?_
  refine wm_newarr (z := 100) X hS 100 .int (Or.inl ⟨rfl, rfl⟩) q276 h dX2_init_74 (Nat.le_of_ble_eq_true rfl) rfl (Nat.le_of_ble_eq_true rfl) (fun x44 σ45 _ h => ?_)
  refine wm_pRF X hS cd_2 15 h dX2_init_76 (Nat.le_of_ble_eq_true rfl) rfl q224 (fun r => by cases r <;> exact ⟨rfl, rfl⟩) rfl hnm rfl (fun σ46 _ h => ?_)
  refine wm_aload_n X 0 dX2_init_79 rfl ?_
  refine wm_bipush (v := 10) X dX2_init_80 (by decide) ?_
  refine wm_newarr (z := 10) X hS 100 .int (Or.inl ⟨rfl, rfl⟩) q276 h dX2_init_82 (Nat.le_of_ble_eq_true rfl) rfl (Nat.le_of_ble_eq_true rfl) (fun x47 σ48 _ h => ?_)
  refine wm_pRF X hS cd_2 16 h dX2_init_84 (Nat.le_of_ble_eq_true rfl) rfl q227 (fun r => by cases r <;> exact ⟨rfl, rfl⟩) rfl hnm rfl (fun σ49 _ h => ?_)
  refine wm_aload_n X 0 dX2_init_87 rfl ?_
  refine wm_bipush (v := 12) X dX2_init_88 (by decide) ?_
  refine wm_newarr (z := 12) X hS 100 .int (Or.inl ⟨rfl, rfl⟩) q276 h dX2_init_90 (Nat.le_of_ble_eq_true rfl) rfl (Nat.le_of_ble_eq_true rfl) (fun x50 σ51 _ h => ?_)
  refine wm_pRF X hS cd_2 17 h dX2_init_92 (Nat.le_of_ble_eq_true rfl) rfl q229 (fun r => by cases r <;> exact ⟨rfl, rfl⟩) rfl hnm rfl (fun σ52 _ h => ?_)
  refine wm_aload_n X 0 dX2_init_95 rfl ?_
  refine wm_sipush (v := 300) X dX2_init_96 (by decide) ?_
  refine wm_newarr (z := 300) X hS 100 .int (Or.inl ⟨rfl, rfl⟩) q276 h dX2_init_99 (Nat.le_of_ble_eq_true rfl) rfl (Nat.le_of_ble_eq_true rfl) (fun x53 σ54 _ h => ?_)
  refine wm_pRF X hS cd_2 18 h dX2_init_101 (Nat.le_of_ble_eq_true rfl) rfl q231 (fun r => by cases r <;> exact ⟨rfl, rfl⟩) rfl hnm rfl (fun σ55 _ h => ?_)
  refine wm_aload_n X 0 dX2_init_104 rfl ?_
  refine wm_gR X hS cd_2 17 h dX2_init_105 (Nat.le_of_ble_eq_true rfl) rfl q229 (fun x56 h => ?_)
  refine wm_iconst (v := (-1)) X dX2_init_108 (by decide) ?_
  refine wm_cS_v (As := [va_rf x56, .int (-1)]) (st := []) X hS h (fun _ hF => ctJ0_fill l hF) mdJ0_fill msJ0_fill q187 dX2_init_109 rfl rfl c1_0 (Nat.le_of_ble_eq_true rfl) ⟨Nat.le_of_ble_eq_true rfl, Nat.le_of_ble_eq_true rfl⟩ ⟨Nat.le_of_ble_eq_true rfl, Nat.le_of_ble_eq_true rfl⟩ (fun σ57 _ h => ?_)
  exact wm_vret X hr h dX2_init_112 (Nat.le_of_ble_eq_true rfl) (Nat.le_of_ble_eq_true rfl)
theorem mdX3_init : MD yX3_init 0 := by unfold MD; decide +kernel
theorem miX3_init : MI yX3_init cX3_init 1 := ⟨q280, q131, q281, rfl⟩
set_option maxHeartbeats 4000000 in
theorem ctX3_init (l : Launch) {h0 : Nat} {σ σf : Mm} (h : FX3_init h0 σ = some σf) : CTv l yX3_init (ws_ yX3_init cX3_init 1 (none)) 1 25 1 400 [va_rf (some h0)] σ σf := by
  refine ct_start (n := 0) mdX3_init (Nat.le_of_ble_eq_true rfl) (c1_r c1_0) (fun p e s m args below meth c D dA sz0 ad0 X hS hr hnm => ?_)
  have X : CX p s m args meth c cX3_init 1 RX3 := X
  generalize mN σ = N0
  unfold FX3_init at h
  refine wm_aload_n X 0 dX3_init_0 rfl ?_
  refine wm_objInit X dX3_init_1 q282 q179 q180 (Nat.le_of_ble_eq_true rfl) c1_0 (Nat.le_of_ble_eq_true rfl) (Nat.le_of_ble_eq_true rfl) ?_
  refine wm_aload_n X 0 dX3_init_4 rfl ?_
  refine wm_sipush (v := 400) X dX3_init_5 (by decide) ?_
  refine wm_newarr (z := 400) X hS 101 .byte (Or.inr ⟨rfl, rfl⟩) q312 h dX3_init_8 (Nat.le_of_ble_eq_true rfl) rfl (Nat.le_of_ble_eq_true rfl) (fun x21 σ22 _ h => ?_)
  refine wm_pRF X hS cd_3 0 h dX3_init_10 (Nat.le_of_ble_eq_true rfl) rfl q283 (fun r => by cases r <;> exact ⟨rfl, rfl⟩) rfl hnm rfl (fun σ23 _ h => ?_)
  refine wm_aload_n X 0 dX3_init_13 rfl ?_
  refine wm_iconst (v := (-1)) X dX3_init_14 (by decide) ?_
  refine wm_pI X hS cd_3 5 h dX3_init_15 (Nat.le_of_ble_eq_true rfl) rfl q294 rfl rfl (fun σ24 _ h => ?_)
  exact wm_vret X hr h dX3_init_18 (Nat.le_of_ble_eq_true rfl) (Nat.le_of_ble_eq_true rfl)
theorem mdX4_init : MD yX4_init 0 := by unfold MD; decide +kernel
theorem miX4_init : MI yX4_init cX4_init 1 := ⟨q316, q132, q317, rfl⟩
set_option maxHeartbeats 4000000 in
theorem ctX4_init (l : Launch) {h0 : Nat} {σ σf : Mm} (h : FX4_init h0 σ = some σf) : CTv l yX4_init (ws_ yX4_init cX4_init 1 (none)) 1 25 0 0 [va_rf (some h0)] σ σf := by
  refine ct_start (n := 0) mdX4_init (Nat.le_of_ble_eq_true rfl) (c1_r c1_0) (fun p e s m args below meth c D dA sz0 ad0 X hS hr hnm => ?_)
  have X : CX p s m args meth c cX4_init 1 RX4 := X
  generalize mN σ = N0
  unfold FX4_init at h
  refine wm_aload_n X 0 dX4_init_0 rfl ?_
  refine wm_objInit X dX4_init_1 q318 q179 q180 (Nat.le_of_ble_eq_true rfl) c1_0 (Nat.le_of_ble_eq_true rfl) (Nat.le_of_ble_eq_true rfl) ?_
  exact wm_vret X hr h dX4_init_4 (Nat.le_of_ble_eq_true rfl) (Nat.le_of_ble_eq_true rfl)
theorem mdJ1_init : MD yJ1_init 0 := by unfold MD; decide +kernel
theorem miJ1_init : MI yJ1_init cJ1_init 1 := ⟨q361, q133, q362, rfl⟩
set_option maxHeartbeats 4000000 in
theorem ctJ1_init (l : Launch) {h0 : Nat} {σ σf : Mm} (h : FJ1_init h0 σ = some σf) : CTv l yJ1_init (ws_ yJ1_init cJ1_init 1 (none)) 1 25 0 0 [va_rf (some h0)] σ σf := by
  refine ct_start (n := 0) mdJ1_init (Nat.le_of_ble_eq_true rfl) (c1_r c1_0) (fun p e s m args below meth c D dA sz0 ad0 X hS hr hnm => ?_)
  have X : CX p s m args meth c cJ1_init 1 RJ1 := X
  generalize mN σ = N0
  unfold FJ1_init at h
  refine wm_aload_n X 0 dJ1_init_0 rfl ?_
  refine wm_objInit X dJ1_init_1 q363 q179 q180 (Nat.le_of_ble_eq_true rfl) c1_0 (Nat.le_of_ble_eq_true rfl) (Nat.le_of_ble_eq_true rfl) ?_
  exact wm_vret X hr h dJ1_init_4 (Nat.le_of_ble_eq_true rfl) (Nat.le_of_ble_eq_true rfl)
theorem mdJ2_init : MD yJ2_init 0 := by unfold MD; decide +kernel
theorem miJ2_init : MI yJ2_init cJ2_init 1 := ⟨q358, q134, q359, rfl⟩
set_option maxHeartbeats 4000000 in
theorem ctJ2_init (l : Launch) {h0 : Nat} {σ σf : Mm} (h : FJ2_init h0 σ = some σf) : CTv l yJ2_init (ws_ yJ2_init cJ2_init 1 (none)) 2 45 0 0 [va_rf (some h0)] σ σf := by
  refine ct_start (n := 0) mdJ2_init (Nat.le_of_ble_eq_true rfl) (c1_r c1_0) (fun p e s m args below meth c D dA sz0 ad0 X hS hr hnm => ?_)
  have X : CX p s m args meth c cJ2_init 1 RJ2 := X
  generalize mN σ = N0
  unfold FJ2_init at h
  refine wm_aload_n X 0 dJ2_init_0 rfl ?_
  obtain ⟨s21, h⟩ := ck_e h
  refine wm_cI_v (As := []) (st := []) X hS h (fun _ hF => ctJ1_init l hF) mdJ1_init miJ1_init q360 dJ2_init_1 rfl rfl c1_0 (Nat.le_of_ble_eq_true rfl) ⟨Nat.le_of_ble_eq_true rfl, Nat.le_of_ble_eq_true rfl⟩ ⟨Nat.le_of_ble_eq_true rfl, Nat.le_of_ble_eq_true rfl⟩ (fun σ22 _ h => ?_)
  refine wm_aload_n X 0 dJ2_init_4 rfl ?_
  refine wm_iconst (v := 0) X dJ2_init_5 (by decide) ?_
  refine wm_pI X hS cd_17 0 h dJ2_init_6 (Nat.le_of_ble_eq_true rfl) rfl q368 rfl rfl (fun σ23 _ h => ?_)
  exact wm_vret X hr h dJ2_init_9 (Nat.le_of_ble_eq_true rfl) (Nat.le_of_ble_eq_true rfl)
theorem mdJ3_init : MD yJ3_init 0 := by unfold MD; decide +kernel
theorem miJ3_init : MI yJ3_init cJ3_init 1 := ⟨q355, q135, q356, rfl⟩
set_option maxHeartbeats 4000000 in
theorem ctJ3_init (l : Launch) {h0 : Nat} {σ σf : Mm} (h : FJ3_init h0 σ = some σf) : CTv l yJ3_init (ws_ yJ3_init cJ3_init 1 (none)) 3 65 0 0 [va_rf (some h0)] σ σf := by
  refine ct_start (n := 0) mdJ3_init (Nat.le_of_ble_eq_true rfl) (c1_r c1_0) (fun p e s m args below meth c D dA sz0 ad0 X hS hr hnm => ?_)
  have X : CX p s m args meth c cJ3_init 1 RJ3 := X
  generalize mN σ = N0
  unfold FJ3_init at h
  refine wm_aload_n X 0 dJ3_init_0 rfl ?_
  obtain ⟨s21, h⟩ := ck_e h
  refine wm_cI_v (As := []) (st := []) X hS h (fun _ hF => ctJ2_init l hF) mdJ2_init miJ2_init q357 dJ3_init_1 rfl rfl c1_0 (Nat.le_of_ble_eq_true rfl) ⟨Nat.le_of_ble_eq_true rfl, Nat.le_of_ble_eq_true rfl⟩ ⟨Nat.le_of_ble_eq_true rfl, Nat.le_of_ble_eq_true rfl⟩ (fun σ22 _ h => ?_)
  refine wm_aload_n X 0 dJ3_init_4 rfl ?_
  refine wm_gst X hS 9 (BIG + 122) (by decide) (by decide) rfl (Nat.le_add_right _ _) dJ3_init_5 q364 ?_
  refine wm_pR X hS cd_17 1 h dJ3_init_8 (Nat.le_of_ble_eq_true rfl) rfl q366 (fun r => by cases r <;> exact ⟨rfl, rfl⟩) rfl (fun σ23 _ h => ?_)
  exact wm_vret X hr h dJ3_init_11 (Nat.le_of_ble_eq_true rfl) (Nat.le_of_ble_eq_true rfl)
theorem mdX5_init : MD yX5_init 1 := by unfold MD; decide +kernel
theorem miX5_init : MI yX5_init cX5_init 2 := ⟨q381, q136, q382, rfl⟩
set_option maxHeartbeats 4000000 in
theorem ctX5_init (l : Launch) {h0 : Nat} {x1 : Option Nat} {σ σf : Mm} (h : FX5_init h0 x1 σ = some σf) : CTv l yX5_init (ws_ yX5_init cX5_init 2 (none)) 1 25 2 20 [va_rf (some h0), va_rf x1] σ σf := by
  refine ct_start (n := 1) mdX5_init (Nat.le_of_ble_eq_true rfl) (c1_r (c1_r c1_0)) (fun p e s m args below meth c D dA sz0 ad0 X hS hr hnm => ?_)
  have X : CX p s m args meth c cX5_init 2 RX5 := X
  generalize mN σ = N0
  unfold FX5_init at h
  refine wm_aload_n X 0 dX5_init_0 rfl ?_
  refine wm_aload_n X 1 dX5_init_1 rfl ?_
  refine wm_pRF X hS cd_5 3 h dX5_init_2 (Nat.le_of_ble_eq_true rfl) rfl q388 (fun r => by cases r <;> exact ⟨rfl, rfl⟩) rfl hnm rfl (fun σ21 _ h => ?_)
  refine wm_aload_n X 0 dX5_init_5 rfl ?_
  refine wm_objInit X dX5_init_6 q383 q179 q180 (Nat.le_of_ble_eq_true rfl) c1_0 (Nat.le_of_ble_eq_true rfl) (Nat.le_of_ble_eq_true rfl) ?_
  refine wm_aload_n X 0 dX5_init_9 rfl ?_
  refine wm_bipush (v := 10) X dX5_init_10 (by decide) ?_
  refine wm_newarr (z := 10) X hS 100 .int (Or.inl ⟨rfl, rfl⟩) q276 h dX5_init_12 (Nat.le_of_ble_eq_true rfl) rfl (Nat.le_of_ble_eq_true rfl) (fun x22 σ23 _ h => ?_)
  refine wm_pRF X hS cd_5 0 h dX5_init_14 (Nat.le_of_ble_eq_true rfl) rfl q384 (fun r => by cases r <;> exact ⟨rfl, rfl⟩) rfl hnm rfl (fun σ24 _ h => ?_)
  refine wm_aload_n X 0 dX5_init_17 rfl ?_
  refine wm_bipush (v := 10) X dX5_init_18 (by decide) ?_
  refine wm_newarr (z := 10) X hS 100 .int (Or.inl ⟨rfl, rfl⟩) q276 h dX5_init_20 (Nat.le_of_ble_eq_true rfl) rfl (Nat.le_of_ble_eq_true rfl) (fun x25 σ26 _ h => ?_)
  refine wm_pRF X hS cd_5 1 h dX5_init_22 (Nat.le_of_ble_eq_true rfl) rfl q386 (fun r => by cases r <;> exact ⟨rfl, rfl⟩) rfl hnm rfl (fun σ27 _ h => ?_)
  exact wm_vret X hr h dX5_init_25 (Nat.le_of_ble_eq_true rfl) (Nat.le_of_ble_eq_true rfl)
theorem mdX6_init : MD yX6_init 1 := by unfold MD; decide +kernel
theorem miX6_init : MI yX6_init cX6_init 2 := ⟨q401, q137, q402, rfl⟩
set_option maxHeartbeats 4000000 in
theorem ctX6_init (l : Launch) {h0 : Nat} {x1 : Option Nat} {σ σf : Mm} (h : FX6_init h0 x1 σ = some σf) : CTv l yX6_init (ws_ yX6_init cX6_init 2 (none)) 1 25 2 1034 [va_rf (some h0), va_rf x1] σ σf := by
  refine ct_start (n := 1) mdX6_init (Nat.le_of_ble_eq_true rfl) (c1_r (c1_r c1_0)) (fun p e s m args below meth c D dA sz0 ad0 X hS hr hnm => ?_)
  have X : CX p s m args meth c cX6_init 2 RX6 := X
  generalize mN σ = N0
  unfold FX6_init at h
  refine wm_aload_n X 0 dX6_init_0 rfl ?_
  refine wm_aload_n X 1 dX6_init_1 rfl ?_
  refine wm_pRF X hS cd_6 2 h dX6_init_2 (Nat.le_of_ble_eq_true rfl) rfl q406 (fun r => by cases r <;> exact ⟨rfl, rfl⟩) rfl hnm rfl (fun σ21 _ h => ?_)
  refine wm_aload_n X 0 dX6_init_5 rfl ?_
  refine wm_objInit X dX6_init_6 q403 q179 q180 (Nat.le_of_ble_eq_true rfl) c1_0 (Nat.le_of_ble_eq_true rfl) (Nat.le_of_ble_eq_true rfl) ?_
  refine wm_aload_n X 0 dX6_init_9 rfl ?_
  refine wm_bipush (v := 10) X dX6_init_10 (by decide) ?_
  refine wm_newarr (z := 10) X hS 100 .int (Or.inl ⟨rfl, rfl⟩) q276 h dX6_init_12 (Nat.le_of_ble_eq_true rfl) rfl (Nat.le_of_ble_eq_true rfl) (fun x22 σ23 _ h => ?_)
  refine wm_pRF X hS cd_6 0 h dX6_init_14 (Nat.le_of_ble_eq_true rfl) rfl q404 (fun r => by cases r <;> exact ⟨rfl, rfl⟩) rfl hnm rfl (fun σ24 _ h => ?_)
  refine wm_aload_n X 0 dX6_init_17 rfl ?_
  refine wm_sipush (v := 1024) X dX6_init_18 (by decide) ?_
  refine wm_newarr (z := 1024) X hS 100 .int (Or.inl ⟨rfl, rfl⟩) q276 h dX6_init_21 (Nat.le_of_ble_eq_true rfl) rfl (Nat.le_of_ble_eq_true rfl) (fun x25 σ26 _ h => ?_)
  refine wm_pRF X hS cd_6 1 h dX6_init_23 (Nat.le_of_ble_eq_true rfl) rfl q405 (fun r => by cases r <;> exact ⟨rfl, rfl⟩) rfl hnm rfl (fun σ27 _ h => ?_)
  exact wm_vret X hr h dX6_init_26 (Nat.le_of_ble_eq_true rfl) (Nat.le_of_ble_eq_true rfl)
theorem mdX7_init : MD yX7_init 1 := by unfold MD; decide +kernel
theorem miX7_init : MI yX7_init cX7_init 2 := ⟨q417, q138, q418, rfl⟩
set_option maxHeartbeats 4000000 in
theorem ctX7_init (l : Launch) {h0 : Nat} {x1 : Option Nat} {σ σf : Mm} (h : FX7_init h0 x1 σ = some σf) : CTv l yX7_init (ws_ yX7_init cX7_init 2 (none)) 1 25 2 10250 [va_rf (some h0), va_rf x1] σ σf := by
  refine ct_start (n := 1) mdX7_init (Nat.le_of_ble_eq_true rfl) (c1_r (c1_r c1_0)) (fun p e s m args below meth c D dA sz0 ad0 X hS hr hnm => ?_)
  have X : CX p s m args meth c cX7_init 2 RX7 := X
  generalize mN σ = N0
  unfold FX7_init at h
  refine wm_aload_n X 0 dX7_init_0 rfl ?_
  refine wm_aload_n X 1 dX7_init_1 rfl ?_
  refine wm_pRF X hS cd_7 3 h dX7_init_2 (Nat.le_of_ble_eq_true rfl) rfl q424 (fun r => by cases r <;> exact ⟨rfl, rfl⟩) rfl hnm rfl (fun σ21 _ h => ?_)
  refine wm_aload_n X 0 dX7_init_5 rfl ?_
  refine wm_objInit X dX7_init_6 q419 q179 q180 (Nat.le_of_ble_eq_true rfl) c1_0 (Nat.le_of_ble_eq_true rfl) (Nat.le_of_ble_eq_true rfl) ?_
  refine wm_aload_n X 0 dX7_init_9 rfl ?_
  refine wm_bipush (v := 10) X dX7_init_10 (by decide) ?_
  refine wm_newarr (z := 10) X hS 100 .int (Or.inl ⟨rfl, rfl⟩) q276 h dX7_init_12 (Nat.le_of_ble_eq_true rfl) rfl (Nat.le_of_ble_eq_true rfl) (fun x22 σ23 _ h => ?_)
  refine wm_pRF X hS cd_7 0 h dX7_init_14 (Nat.le_of_ble_eq_true rfl) rfl q420 (fun r => by cases r <;> exact ⟨rfl, rfl⟩) rfl hnm rfl (fun σ24 _ h => ?_)
  refine wm_aload_n X 0 dX7_init_17 rfl ?_
  refine wm_sipush (v := 10240) X dX7_init_18 (by decide) ?_
  refine wm_newarr (z := 10240) X hS 100 .int (Or.inl ⟨rfl, rfl⟩) q276 h dX7_init_21 (Nat.le_of_ble_eq_true rfl) rfl (Nat.le_of_ble_eq_true rfl) (fun x25 σ26 _ h => ?_)
  refine wm_pRF X hS cd_7 1 h dX7_init_23 (Nat.le_of_ble_eq_true rfl) rfl q421 (fun r => by cases r <;> exact ⟨rfl, rfl⟩) rfl hnm rfl (fun σ27 _ h => ?_)
  exact wm_vret X hr h dX7_init_26 (Nat.le_of_ble_eq_true rfl) (Nat.le_of_ble_eq_true rfl)
theorem mdX1_init : MD yX1_init 0 := by unfold MD; decide +kernel
theorem miX1_init : MI yX1_init cX1_init 1 := ⟨q176, q128, q177, rfl⟩
set_option maxHeartbeats 4000000 in
theorem ctX1_init (l : Launch) {h0 : Nat} {σ σf : Mm} (h : FX1_init h0 σ = some σf) : CTv l yX1_init (ws_ yX1_init cX1_init 1 (none)) 4 85 61 14141 [va_rf (some h0)] σ σf := by
  refine ct_start (n := 0) mdX1_init (Nat.le_of_ble_eq_true rfl) (c1_r c1_0) (fun p e s m args below meth c D dA sz0 ad0 X hS hr hnm => ?_)
  have X : CX p s m args meth c cX1_init 1 RX1 := X
  generalize mN σ = N0
  unfold FX1_init at h
  refine wm_aload_n X 0 dX1_init_0 rfl ?_
  refine wm_objInit X dX1_init_1 q178 q179 q180 (Nat.le_of_ble_eq_true rfl) c1_0 (Nat.le_of_ble_eq_true rfl) (Nat.le_of_ble_eq_true rfl) ?_
  refine wm_aload_n X 0 dX1_init_4 rfl ?_
  refine wm_new X hS cd_2 h dX1_init_5 q181 q182 q129 (Nat.le_of_ble_eq_true rfl) (Nat.le_of_ble_eq_true rfl) (fun x21 σ22 _ h => ?_)
  refine wm_dup X dX1_init_8 (catR _) ?_
  obtain ⟨q23, eq23, h⟩ := Option.bind_eq_some_iff.mp h
  obtain ⟨eq23, s24⟩ := rv_some eq23
  refine wm_cI_v (As := []) (st := [va_rf x21, va_rf (some h0)]) X hS h (fun _ hF => ctX2_init l hF) mdX2_init miX2_init q183 dX1_init_9 rfl (by rw [eq23]; first | done | rfl) (c1_r (c1_r c1_0)) (Nat.le_of_ble_eq_true rfl) ⟨Nat.le_of_ble_eq_true rfl, Nat.le_of_ble_eq_true rfl⟩ ⟨Nat.le_of_ble_eq_true rfl, Nat.le_of_ble_eq_true rfl⟩ (fun σ25 _ h => ?_)
  refine wm_pRF X hS cd_1 0 h dX1_init_12 (Nat.le_of_ble_eq_true rfl) rfl q434 (fun r => by cases r <;> exact ⟨rfl, rfl⟩) rfl hnm rfl (fun σ26 _ h => ?_)
  refine wm_aload_n X 0 dX1_init_15 rfl ?_
  refine wm_new X hS cd_2 h dX1_init_16 q181 q182 q129 (Nat.le_of_ble_eq_true rfl) (Nat.le_of_ble_eq_true rfl) (fun x27 σ28 _ h => ?_)
  refine wm_dup X dX1_init_19 (catR _) ?_
  obtain ⟨q29, eq29, h⟩ := Option.bind_eq_some_iff.mp h
  obtain ⟨eq29, s30⟩ := rv_some eq29
  refine wm_cI_v (As := []) (st := [va_rf x27, va_rf (some h0)]) X hS h (fun _ hF => ctX2_init l hF) mdX2_init miX2_init q183 dX1_init_20 rfl (by rw [eq29]; first | done | rfl) (c1_r (c1_r c1_0)) (Nat.le_of_ble_eq_true rfl) ⟨Nat.le_of_ble_eq_true rfl, Nat.le_of_ble_eq_true rfl⟩ ⟨Nat.le_of_ble_eq_true rfl, Nat.le_of_ble_eq_true rfl⟩ (fun σ31 _ h => ?_)
  refine wm_pRF X hS cd_1 1 h dX1_init_23 (Nat.le_of_ble_eq_true rfl) rfl q438 (fun r => by cases r <;> exact ⟨rfl, rfl⟩) rfl hnm rfl (fun σ32 _ h => ?_)
  refine wm_aload_n X 0 dX1_init_26 rfl ?_
  refine wm_new X hS cd_2 h dX1_init_27 q181 q182 q129 (Nat.le_of_ble_eq_true rfl) (Nat.le_of_ble_eq_true rfl) (fun x33 σ34 _ h => ?_)
  refine wm_dup X dX1_init_30 (catR _) ?_
  obtain ⟨q35, eq35, h⟩ := Option.bind_eq_some_iff.mp h
  obtain ⟨eq35, s36⟩ := rv_some eq35
  refine wm_cI_v (As := []) (st := [va_rf x33, va_rf (some h0)]) X hS h (fun _ hF => ctX2_init l hF) mdX2_init miX2_init q183 dX1_init_31 rfl (by rw [eq35]; first | done | rfl) (c1_r (c1_r c1_0)) (Nat.le_of_ble_eq_true rfl) ⟨Nat.le_of_ble_eq_true rfl, Nat.le_of_ble_eq_true rfl⟩ ⟨Nat.le_of_ble_eq_true rfl, Nat.le_of_ble_eq_true rfl⟩ (fun σ37 _ h => ?_)
  refine wm_pRF X hS cd_1 2 h dX1_init_34 (Nat.le_of_ble_eq_true rfl) rfl q439 (fun r => by cases r <;> exact ⟨rfl, rfl⟩) rfl hnm rfl (fun σ38 _ h => ?_)
  refine wm_aload_n X 0 dX1_init_37 rfl ?_
  refine wm_new X hS cd_3 h dX1_init_38 q277 q278 q131 (Nat.le_of_ble_eq_true rfl) (Nat.le_of_ble_eq_true rfl) (fun x39 σ40 _ h => ?_)
  refine wm_dup X dX1_init_41 (catR _) ?_
  obtain ⟨q41, eq41, h⟩ := Option.bind_eq_some_iff.mp h
  obtain ⟨eq41, s42⟩ := rv_some eq41
  refine wm_cIN_v (As := []) (st := [va_rf x39, va_rf (some h0)]) X hS h (fun _ hF => ctX3_init l hF) mdX3_init miX3_init 20 rfl dX1_init_42 rfl (by rw [eq41]; first | done | rfl) (c1_r (c1_r c1_0)) (Nat.le_of_ble_eq_true rfl) ⟨Nat.le_of_ble_eq_true rfl, Nat.le_of_ble_eq_true rfl⟩ ⟨Nat.le_of_ble_eq_true rfl, Nat.le_of_ble_eq_true rfl⟩ (fun σ43 _ h => ?_)
  refine wm_pRF X hS cd_1 4 h dX1_init_45 (Nat.le_of_ble_eq_true rfl) rfl q441 (fun r => by cases r <;> exact ⟨rfl, rfl⟩) rfl hnm rfl (fun σ44 _ h => ?_)
  refine wm_aload_n X 0 dX1_init_48 rfl ?_
  refine wm_new X hS cd_4 h dX1_init_49 q313 q314 q132 (Nat.le_of_ble_eq_true rfl) (Nat.le_of_ble_eq_true rfl) (fun x45 σ46 _ h => ?_)
  refine wm_dup X dX1_init_52 (catR _) ?_
  obtain ⟨q47, eq47, h⟩ := Option.bind_eq_some_iff.mp h
  obtain ⟨eq47, s48⟩ := rv_some eq47
  refine wm_cIN_v (As := []) (st := [va_rf x45, va_rf (some h0)]) X hS h (fun _ hF => ctX4_init l hF) mdX4_init miX4_init 26 rfl dX1_init_53 rfl (by rw [eq47]; first | done | rfl) (c1_r (c1_r c1_0)) (Nat.le_of_ble_eq_true rfl) ⟨Nat.le_of_ble_eq_true rfl, Nat.le_of_ble_eq_true rfl⟩ ⟨Nat.le_of_ble_eq_true rfl, Nat.le_of_ble_eq_true rfl⟩ (fun σ49 _ h => ?_)
  refine wm_pRF X hS cd_1 5 h dX1_init_56 (Nat.le_of_ble_eq_true rfl) rfl q443 (fun r => by cases r <;> exact ⟨rfl, rfl⟩) rfl hnm rfl (fun σ50 _ h => ?_)
  refine wm_aload_n X 0 dX1_init_59 rfl ?_
  refine wm_new X hS cd_17 h dX1_init_60 q352 q353 q135 (Nat.le_of_ble_eq_true rfl) (Nat.le_of_ble_eq_true rfl) (fun x51 σ52 _ h => ?_)
  refine wm_dup X dX1_init_63 (catR _) ?_
  obtain ⟨q53, eq53, h⟩ := Option.bind_eq_some_iff.mp h
  obtain ⟨eq53, s54⟩ := rv_some eq53
  refine wm_cI_v (As := []) (st := [va_rf x51, va_rf (some h0)]) X hS h (fun _ hF => ctJ3_init l hF) mdJ3_init miJ3_init q354 dX1_init_64 rfl (by rw [eq53]; first | done | rfl) (c1_r (c1_r c1_0)) (Nat.le_of_ble_eq_true rfl) ⟨Nat.le_of_ble_eq_true rfl, Nat.le_of_ble_eq_true rfl⟩ ⟨Nat.le_of_ble_eq_true rfl, Nat.le_of_ble_eq_true rfl⟩ (fun σ55 _ h => ?_)
  refine wm_pRF X hS cd_1 6 h dX1_init_67 (Nat.le_of_ble_eq_true rfl) rfl q444 (fun r => by cases r <;> exact ⟨rfl, rfl⟩) rfl hnm rfl (fun σ56 _ h => ?_)
  refine wm_aload_n X 0 dX1_init_70 rfl ?_
  refine wm_new X hS cd_5 h dX1_init_71 q378 q379 q136 (Nat.le_of_ble_eq_true rfl) (Nat.le_of_ble_eq_true rfl) (fun x57 σ58 _ h => ?_)
  refine wm_dup X dX1_init_74 (catR _) ?_
  refine wm_aload_n X 0 dX1_init_75 rfl ?_
  obtain ⟨q59, eq59, h⟩ := Option.bind_eq_some_iff.mp h
  obtain ⟨eq59, s60⟩ := rv_some eq59
  refine wm_cIN_v (As := [va_rf (some h0)]) (st := [va_rf x57, va_rf (some h0)]) X hS h (fun _ hF => ctX5_init l hF) mdX5_init miX5_init 35 rfl dX1_init_76 rfl (by rw [eq59]; first | done | rfl) (c1_r (c1_r c1_0)) (Nat.le_of_ble_eq_true rfl) ⟨Nat.le_of_ble_eq_true rfl, Nat.le_of_ble_eq_true rfl⟩ ⟨Nat.le_of_ble_eq_true rfl, Nat.le_of_ble_eq_true rfl⟩ (fun σ61 _ h => ?_)
  refine wm_pRF X hS cd_1 7 h dX1_init_79 (Nat.le_of_ble_eq_true rfl) rfl q445 (fun r => by cases r <;> exact ⟨rfl, rfl⟩) rfl hnm rfl (fun σ62 _ h => ?_)
  refine wm_aload_n X 0 dX1_init_82 rfl ?_
  refine wm_new X hS cd_6 h dX1_init_83 q398 q399 q137 (Nat.le_of_ble_eq_true rfl) (Nat.le_of_ble_eq_true rfl) (fun x63 σ64 _ h => ?_)
  refine wm_dup X dX1_init_86 (catR _) ?_
  refine wm_aload_n X 0 dX1_init_87 rfl ?_
  obtain ⟨q65, eq65, h⟩ := Option.bind_eq_some_iff.mp h
  obtain ⟨eq65, s66⟩ := rv_some eq65
  refine wm_cIN_v (As := [va_rf (some h0)]) (st := [va_rf x63, va_rf (some h0)]) X hS h (fun _ hF => ctX6_init l hF) mdX6_init miX6_init 37 rfl dX1_init_88 rfl (by rw [eq65]; first | done | rfl) (c1_r (c1_r c1_0)) (Nat.le_of_ble_eq_true rfl) ⟨Nat.le_of_ble_eq_true rfl, Nat.le_of_ble_eq_true rfl⟩ ⟨Nat.le_of_ble_eq_true rfl, Nat.le_of_ble_eq_true rfl⟩ (fun σ67 _ h => ?_)
  refine wm_pRF X hS cd_1 8 h dX1_init_91 (Nat.le_of_ble_eq_true rfl) rfl q446 (fun r => by cases r <;> exact ⟨rfl, rfl⟩) rfl hnm rfl (fun σ68 _ h => ?_)
  refine wm_aload_n X 0 dX1_init_94 rfl ?_
  refine wm_new X hS cd_7 h dX1_init_95 q414 q415 q138 (Nat.le_of_ble_eq_true rfl) (Nat.le_of_ble_eq_true rfl) (fun x69 σ70 _ h => ?_)
  refine wm_dup X dX1_init_98 (catR _) ?_
  refine wm_aload_n X 0 dX1_init_99 rfl ?_
  obtain ⟨q71, eq71, h⟩ := Option.bind_eq_some_iff.mp h
  obtain ⟨eq71, s72⟩ := rv_some eq71
  refine wm_cIN_v (As := [va_rf (some h0)]) (st := [va_rf x69, va_rf (some h0)]) X hS h (fun _ hF => ctX7_init l hF) mdX7_init miX7_init 38 rfl dX1_init_100 rfl (by rw [eq71]; first | done | rfl) (c1_r (c1_r c1_0)) (Nat.le_of_ble_eq_true rfl) ⟨Nat.le_of_ble_eq_true rfl, Nat.le_of_ble_eq_true rfl⟩ ⟨Nat.le_of_ble_eq_true rfl, Nat.le_of_ble_eq_true rfl⟩ (fun σ73 _ h => ?_)
  refine wm_pRF X hS cd_1 9 h dX1_init_103 (Nat.le_of_ble_eq_true rfl) rfl q447 (fun r => by cases r <;> exact ⟨rfl, rfl⟩) rfl hnm rfl (fun σ74 _ h => ?_)
  refine wm_aload_n X 0 dX1_init_106 rfl ?_
  refine wm_new X hS cd_2 h dX1_init_107 q181 q182 q129 (Nat.le_of_ble_eq_true rfl) (Nat.le_of_ble_eq_true rfl) (fun x75 σ76 _ h => ?_)
  refine wm_dup X dX1_init_110 (catR _) ?_
  obtain ⟨q77, eq77, h⟩ := Option.bind_eq_some_iff.mp h
  obtain ⟨eq77, s78⟩ := rv_some eq77
  refine wm_cI_v (As := []) (st := [va_rf x75, va_rf (some h0)]) X hS h (fun _ hF => ctX2_init l hF) mdX2_init miX2_init q183 dX1_init_111 rfl (by rw [eq77]; first | done | rfl) (c1_r (c1_r c1_0)) (Nat.le_of_ble_eq_true rfl) ⟨Nat.le_of_ble_eq_true rfl, Nat.le_of_ble_eq_true rfl⟩ ⟨Nat.le_of_ble_eq_true rfl, Nat.le_of_ble_eq_true rfl⟩ (fun σ79 _ h => ?_)
  refine wm_pRF X hS cd_1 10 h dX1_init_114 (Nat.le_of_ble_eq_true rfl) rfl q448 (fun r => by cases r <;> exact ⟨rfl, rfl⟩) rfl hnm rfl (fun σ80 _ h => ?_)
  exact wm_vret X hr h dX1_init_117 (Nat.le_of_ble_eq_true rfl) (Nat.le_of_ble_eq_true rfl)
theorem mdX3_add : MD yX3_add 1 := by unfold MD; decide +kernel
theorem mvX3_add : MV yX3_add cX3_add 7 ((some FieldType.int)) := ⟨q477, q478, q131, q479⟩
set_option maxHeartbeats 4000000 in
theorem wX3_add_39 {p : Program} {l : Launch} {e : Env} {s : State} {m : MethodId} {args : Array Value} {below : List Frame} {meth : Method} {c : Code} {D : va_G} {dA : Nat → ClassId} {sz0 : Nat} {ad0 : Nat → Nat} {N0 : Nat} {r : Int32} {σf : Mm} (X : CX p s m args meth c cX3_add 7 RX3) (hS : ST D dA sz0 ad0 s) (hr : meth.sig.returnType = (some FieldType.int)) (hnm : meth.name = yX3_add.name) (h0 : Nat) (y2 : Option Nat) (y3 : Int32) (y4 : Int32) (y5 : Int32) : ∀ (n : Nat) (v6 : Int32) (σ : Mm) (kx75 : Mm → Option (Int32 × Mm)), FX3_add_39 h0 y2 y3 y4 y5 n v6 σ kx75 = some (r, σf) → (∀  (σ : Mm), kx75 σ = some (r, σf) → WMi p l e s m args below meth c 0 0 0 0 7 D dA sz0 ad0 N0 r σf 0 0 σ [(0, va_rf (some h0)), (2, va_rf y2), (3, .int y3), (4, .int y4)] [] 75) → WMi p l e s m args below meth c 0 0 0 0 7 D dA sz0 ad0 N0 r σf 0 0 σ [(0, va_rf (some h0)), (2, va_rf y2), (3, .int y3), (4, .int y4), (5, .int y5), (6, .int v6)] [] 39 := by
  intro n
  induction n with
  | zero =>
    intro v6 σ kx75 h hkx75
    cases h
  | succ n ih =>
    intro v6 σ kx75 h hkx75
    rw [FX3_add_39] at h
    refine wm_iload X 5 dX3_add_39 rfl ?_
    refine wm_if_lt X 75 h dX3_add_41 (by decide) (fun c29 h => ?_) (fun c29 h => ?_)
    · refine wm_sub (ℓ' := [(0, va_rf (some h0)), (2, va_rf y2), (3, .int y3), (4, .int y4)]) [0, 1, 2, 3] rfl ?_
      exact hkx75 _ h
    · refine wm_aload_n X 0 dX3_add_44 rfl ?_
      refine wm_gR X hS cd_3 0 h dX3_add_45 (Nat.le_of_ble_eq_true rfl) rfl q283 (fun x24 h => ?_)
      refine wm_aload_n X 0 dX3_add_48 rfl ?_
      refine wm_gI X hS cd_3 1 h dX3_add_49 (Nat.le_of_ble_eq_true rfl) rfl q286 (fun x25 h => ?_)
      refine wm_iload X 4 dX3_add_52 rfl ?_
      refine wm_iload X 5 dX3_add_54 rfl ?_
      refine wm_ishr X dX3_add_56 ?_
      refine wm_i2b X dX3_add_57 ?_
      refine wm_bastore X hS h dX3_add_58 (fun σ26 _ h => ?_)
      refine wm_aload_n X 0 dX3_add_59 rfl ?_
      refine wm_dup X dX3_add_60 (catR _) ?_
      refine wm_gI X hS cd_3 1 h dX3_add_61 (Nat.le_of_ble_eq_true rfl) rfl q286 (fun x27 h => ?_)
      refine wm_iconst (v := 1) X dX3_add_64 (by decide) ?_
      refine wm_iadd X dX3_add_65 ?_
      refine wm_pI X hS cd_3 1 h dX3_add_66 (Nat.le_of_ble_eq_true rfl) rfl q286 rfl rfl (fun σ28 _ h => ?_)
      refine wm_iinc (v := (v6 + (-8))) (ℓ' := [(6, .int (v6 + (-8))), (0, va_rf (some h0)), (2, va_rf y2), (3, .int y3), (4, .int y4), (5, .int y5)]) X 5 dX3_add_69 rfl rfl (by decide) rfl ?_
      refine wm_goto X 39 dX3_add_72 (by decide) ?_
      refine wm_sub (ℓ' := [(0, va_rf (some h0)), (2, va_rf y2), (3, .int y3), (4, .int y4), (5, .int y5), (6, .int (v6 + (-8)))]) [1, 2, 3, 4, 5, 0] rfl ?_
      exact ih _ _ _ h hkx75
set_option maxHeartbeats 4000000 in
theorem wX3_add_23 {p : Program} {l : Launch} {e : Env} {s : State} {m : MethodId} {args : Array Value} {below : List Frame} {meth : Method} {c : Code} {D : va_G} {dA : Nat → ClassId} {sz0 : Nat} {ad0 : Nat → Nat} {N0 : Nat} {r : Int32} {σf : Mm} (X : CX p s m args meth c cX3_add 7 RX3) (hS : ST D dA sz0 ad0 s) (hr : meth.sig.returnType = (some FieldType.int)) (hnm : meth.name = yX3_add.name) (h0 : Nat) (y2 : Option Nat) (y3 : Int32) : ∀ (n : Nat) (v4 : Int32) (σ : Mm) (kx81 : Mm → Option (Int32 × Mm)), FX3_add_23 h0 y2 y3 n v4 σ kx81 = some (r, σf) → (∀  (σ : Mm), kx81 σ = some (r, σf) → WMi p l e s m args below meth c 0 0 0 0 7 D dA sz0 ad0 N0 r σf 0 0 σ [(0, va_rf (some h0))] [] 81) → WMi p l e s m args below meth c 0 0 0 0 7 D dA sz0 ad0 N0 r σf 0 0 σ [(0, va_rf (some h0)), (2, va_rf y2), (3, .int y3), (4, .int v4)] [] 23 := by
  intro n
  induction n with
  | zero =>
    intro v4 σ kx81 h hkx81
    cases h
  | succ n ih =>
    intro v4 σ kx81 h hkx81
    rw [FX3_add_23] at h
    refine wm_iload X 3 dX3_add_23 rfl ?_
    refine wm_iload_n X 2 dX3_add_25 rfl ?_
    refine wm_icmp_ge X 81 h dX3_add_26 (by decide) (fun c30 h => ?_) (fun c30 h => ?_)
    · refine wm_sub (ℓ' := [(0, va_rf (some h0))]) [0] rfl ?_
      exact hkx81 _ h
    · refine wm_aload_n X 1 dX3_add_29 rfl ?_
      refine wm_iload X 3 dX3_add_30 rfl ?_
      refine wm_iaload X hS h dX3_add_32 (fun x23 h => ?_)
      refine wm_istore (ℓ' := [(5, .int x23), (0, va_rf (some h0)), (2, va_rf y2), (3, .int y3), (4, .int v4)]) X dX3_add_33 (by decide) rfl ?_
      refine wm_bipush (v := 24) X dX3_add_35 (by decide) ?_
      refine wm_istore (ℓ' := [(6, .int 24), (5, .int x23), (0, va_rf (some h0)), (2, va_rf y2), (3, .int y3), (4, .int v4)]) X dX3_add_37 (by decide) rfl ?_
      refine wm_sub (ℓ' := [(0, va_rf (some h0)), (2, va_rf y2), (3, .int y3), (4, .int v4), (5, .int x23), (6, .int 24)]) [2, 3, 4, 5, 1, 0] rfl ?_
      refine wX3_add_39 X hS hr hnm _ _ _ _ _ fu _ _ _ h (fun σ h => ?_)
      · refine wm_iinc (v := (v4 + 1)) (ℓ' := [(4, .int (v4 + 1)), (0, va_rf (some h0)), (2, va_rf y2), (3, .int y3)]) X 3 dX3_add_75 rfl rfl (by decide) rfl ?_
        refine wm_goto X 23 dX3_add_78 (by decide) ?_
        refine wm_sub (ℓ' := [(0, va_rf (some h0)), (2, va_rf y2), (3, .int y3), (4, .int (v4 + 1))]) [1, 2, 3, 0] rfl ?_
        exact ih _ _ _ h hkx81
set_option maxHeartbeats 4000000 in
theorem ctX3_add (l : Launch) {h0 : Nat} {x1 : Option Nat} {σ σf : Mm} {r : Int32} (h : FX3_add h0 x1 σ = some (r, σf)) : CTi l yX3_add (ws_ yX3_add cX3_add 7 ((some FieldType.int))) 0 0 0 0 [va_rf (some h0), va_rf x1] σ r σf := by
  refine ct_start (n := 1) mdX3_add (Nat.le_of_ble_eq_true rfl) (c1_r (c1_r c1_0)) (fun p e s m args below meth c D dA sz0 ad0 X hS hr hnm => ?_)
  have X : CX p s m args meth c cX3_add 7 RX3 := X
  generalize mN σ = N0
  unfold FX3_add at h
  refine wm_aload_n X 0 dX3_add_0 rfl ?_
  refine wm_gI X hS cd_3 1 h dX3_add_1 (Nat.le_of_ble_eq_true rfl) rfl q286 (fun x21 h => ?_)
  refine wm_bipush (v := 20) X dX3_add_4 (by decide) ?_
  refine wm_iadd X dX3_add_6 ?_
  refine wm_sipush (v := 400) X dX3_add_7 (by decide) ?_
  refine wm_icmp_le X 15 h dX3_add_10 (by decide) (fun c32 h => ?_) (fun c32 h => ?_)
  · refine wm_aload_n X 1 dX3_add_15 rfl ?_
    refine wm_astore_n (ℓ' := [(2, va_rf x1), (0, va_rf (some h0)), (1, va_rf x1)]) X dX3_add_16 (by decide) rfl ?_
    refine wm_aload_n X 0 dX3_add_17 rfl ?_
    refine wm_alen X hS 100 (by decide) h dX3_add_18 (fun x22 h => ?_)
    refine wm_istore_n (ℓ' := [(3, .int x22), (2, va_rf x1), (0, va_rf (some h0)), (1, va_rf x1)]) X dX3_add_19 (by decide) rfl ?_
    refine wm_iconst (v := 0) X dX3_add_20 (by decide) ?_
    refine wm_istore (ℓ' := [(4, .int 0), (3, .int x22), (2, va_rf x1), (0, va_rf (some h0)), (1, va_rf x1)]) X dX3_add_21 (by decide) rfl ?_
    refine wm_sub (ℓ' := [(0, va_rf (some h0)), (2, va_rf x1), (3, .int x22), (4, .int 0)]) [3, 2, 1, 0] rfl ?_
    refine wX3_add_23 X hS hr hnm _ _ _ fu _ _ _ h (fun σ h => ?_)
    · refine wm_aload_n X 0 dX3_add_81 rfl ?_
      refine wm_gI X hS cd_3 1 h dX3_add_82 (Nat.le_of_ble_eq_true rfl) rfl q286 (fun x31 h => ?_)
      exact wm_iret X hr h dX3_add_85 (Nat.le_of_ble_eq_true rfl) (Nat.le_of_ble_eq_true rfl)
  · refine wm_iconst (v := (-1)) X dX3_add_13 (by decide) ?_
    exact wm_iret X hr h dX3_add_14 (Nat.le_of_ble_eq_true rfl) (Nat.le_of_ble_eq_true rfl)
theorem mdX1_feed : MD yX1_feed 5 := by unfold MD; decide +kernel
theorem mvX1_feed : MV yX1_feed cX1_feed 6 ((some FieldType.int)) := ⟨q473, q474, q128, q475⟩
set_option maxHeartbeats 4000000 in
theorem ctX1_feed (l : Launch) {h0 : Nat} {x1 : Int32} {x2 : Int32} {x3 : Int32} {x4 : Int32} {x5 : Int32} {σ σf : Mm} {r : Int32} (h : FX1_feed h0 x1 x2 x3 x4 x5 σ = some (r, σf)) : CTi l yX1_feed (ws_ yX1_feed cX1_feed 6 ((some FieldType.int))) 1 26 1 5 [va_rf (some h0), .int x1, .int x2, .int x3, .int x4, .int x5] σ r σf := by
  refine ct_start (n := 5) mdX1_feed (Nat.le_of_ble_eq_true rfl) (c1_r (c1_i (c1_i (c1_i (c1_i (c1_i c1_0)))))) (fun p e s m args below meth c D dA sz0 ad0 X hS hr hnm => ?_)
  have X : CX p s m args meth c cX1_feed 6 RX1 := X
  generalize mN σ = N0
  unfold FX1_feed at h
  refine wm_aload_n X 0 dX1_feed_0 rfl ?_
  refine wm_gR X hS cd_1 4 h dX1_feed_1 (Nat.le_of_ble_eq_true rfl) rfl q441 (fun x21 h => ?_)
  refine wm_iconst (v := 5) X dX1_feed_4 (by decide) ?_
  refine wm_newarr (z := 5) X hS 100 .int (Or.inl ⟨rfl, rfl⟩) q276 h dX1_feed_5 (Nat.le_of_ble_eq_true rfl) rfl (Nat.le_of_ble_eq_true rfl) (fun x22 σ23 _ h => ?_)
  refine wm_dup X dX1_feed_7 (catR _) ?_
  refine wm_iconst (v := 0) X dX1_feed_8 (by decide) ?_
  refine wm_iload_n X 1 dX1_feed_9 rfl ?_
  refine wm_iastore X hS h dX1_feed_10 (fun σ24 _ h => ?_)
  refine wm_dup X dX1_feed_11 (catR _) ?_
  refine wm_iconst (v := 1) X dX1_feed_12 (by decide) ?_
  refine wm_iload_n X 2 dX1_feed_13 rfl ?_
  refine wm_iastore X hS h dX1_feed_14 (fun σ25 _ h => ?_)
  refine wm_dup X dX1_feed_15 (catR _) ?_
  refine wm_iconst (v := 2) X dX1_feed_16 (by decide) ?_
  refine wm_iload_n X 3 dX1_feed_17 rfl ?_
  refine wm_iastore X hS h dX1_feed_18 (fun σ26 _ h => ?_)
  refine wm_dup X dX1_feed_19 (catR _) ?_
  refine wm_iconst (v := 3) X dX1_feed_20 (by decide) ?_
  refine wm_iload X 4 dX1_feed_21 rfl ?_
  refine wm_iastore X hS h dX1_feed_23 (fun σ27 _ h => ?_)
  refine wm_dup X dX1_feed_24 (catR _) ?_
  refine wm_iconst (v := 4) X dX1_feed_25 (by decide) ?_
  refine wm_iload X 5 dX1_feed_26 rfl ?_
  refine wm_iastore X hS h dX1_feed_28 (fun σ28 _ h => ?_)
  obtain ⟨q29, eq29, h⟩ := Option.bind_eq_some_iff.mp h
  obtain ⟨eq29, s30⟩ := rv_some eq29
  refine wm_cV_i (As := [va_rf x22]) (st := []) X hS cd_3 s30 rfl h (fun _ _ hF => ctX3_add l hF) mdX3_add mvX3_add q476 dX1_feed_29 rfl (by rw [eq29]; first | done | rfl) c1_0 (Nat.le_of_ble_eq_true rfl) ⟨Nat.le_of_ble_eq_true rfl, Nat.le_of_ble_eq_true rfl⟩ ⟨Nat.le_of_ble_eq_true rfl, Nat.le_of_ble_eq_true rfl⟩ (fun x31 σ32 _ h => ?_)
  exact wm_iret X hr h dX1_feed_32 (Nat.le_of_ble_eq_true rfl) (Nat.le_of_ble_eq_true rfl)
theorem mdX3_cut : MD yX3_cut 1 := by unfold MD; decide +kernel
theorem mvX3_cut : MV yX3_cut cX3_cut 2 ((some FieldType.boolean)) := ⟨q485, q486, q131, q487⟩
set_option maxHeartbeats 4000000 in
theorem ctX3_cut (l : Launch) {h0 : Nat} {x1 : Int32} {σ σf : Mm} {r : Int32} (h : FX3_cut h0 x1 σ = some (r, σf)) : CTi l yX3_cut (ws_ yX3_cut cX3_cut 2 ((some FieldType.boolean))) 0 0 0 0 [va_rf (some h0), .int x1] σ r σf := by
  refine ct_start (n := 1) mdX3_cut (Nat.le_of_ble_eq_true rfl) (c1_r (c1_i c1_0)) (fun p e s m args below meth c D dA sz0 ad0 X hS hr hnm => ?_)
  have X : CX p s m args meth c cX3_cut 2 RX3 := X
  generalize mN σ = N0
  unfold FX3_cut at h
  refine wm_iload_n X 1 dX3_cut_0 rfl ?_
  refine wm_if_lt X 12 h dX3_cut_1 (by decide) (fun c24 h => ?_) (fun c24 h => ?_)
  · refine wm_iconst (v := 0) X dX3_cut_12 (by decide) ?_
    exact wm_zret X hr h dX3_cut_13 (Nat.le_of_ble_eq_true rfl) (Nat.le_of_ble_eq_true rfl)
  · refine wm_iload_n X 1 dX3_cut_4 rfl ?_
    refine wm_aload_n X 0 dX3_cut_5 rfl ?_
    refine wm_gI X hS cd_3 1 h dX3_cut_6 (Nat.le_of_ble_eq_true rfl) rfl q286 (fun x21 h => ?_)
    refine wm_icmp_le X 14 h dX3_cut_9 (by decide) (fun c23 h => ?_) (fun c23 h => ?_)
    · refine wm_aload_n X 0 dX3_cut_14 rfl ?_
      refine wm_iload_n X 1 dX3_cut_15 rfl ?_
      refine wm_pI X hS cd_3 1 h dX3_cut_16 (Nat.le_of_ble_eq_true rfl) rfl q286 rfl rfl (fun σ22 _ h => ?_)
      refine wm_iconst (v := 1) X dX3_cut_19 (by decide) ?_
      exact wm_zret X hr h dX3_cut_20 (Nat.le_of_ble_eq_true rfl) (Nat.le_of_ble_eq_true rfl)
    · refine wm_iconst (v := 0) X dX3_cut_12 (by decide) ?_
      exact wm_zret X hr h dX3_cut_13 (Nat.le_of_ble_eq_true rfl) (Nat.le_of_ble_eq_true rfl)
theorem mdX1_end : MD yX1_end 1 := by unfold MD; decide +kernel
theorem mvX1_end : MV yX1_end cX1_end 2 ((some FieldType.boolean)) := ⟨q481, q482, q128, q483⟩
set_option maxHeartbeats 4000000 in
theorem ctX1_end (l : Launch) {h0 : Nat} {x1 : Int32} {σ σf : Mm} {r : Int32} (h : FX1_end h0 x1 σ = some (r, σf)) : CTi l yX1_end (ws_ yX1_end cX1_end 2 ((some FieldType.boolean))) 1 21 0 0 [va_rf (some h0), .int x1] σ r σf := by
  refine ct_start (n := 1) mdX1_end (Nat.le_of_ble_eq_true rfl) (c1_r (c1_i c1_0)) (fun p e s m args below meth c D dA sz0 ad0 X hS hr hnm => ?_)
  have X : CX p s m args meth c cX1_end 2 RX1 := X
  generalize mN σ = N0
  unfold FX1_end at h
  refine wm_aload_n X 0 dX1_end_0 rfl ?_
  refine wm_gR X hS cd_1 4 h dX1_end_1 (Nat.le_of_ble_eq_true rfl) rfl q441 (fun x21 h => ?_)
  refine wm_iload_n X 1 dX1_end_4 rfl ?_
  obtain ⟨q22, eq22, h⟩ := Option.bind_eq_some_iff.mp h
  obtain ⟨eq22, s23⟩ := rv_some eq22
  refine wm_cV_i (As := [.int x1]) (st := []) X hS cd_3 s23 rfl h (fun _ _ hF => ctX3_cut l hF) mdX3_cut mvX3_cut q484 dX1_end_5 rfl (by rw [eq22]; first | done | rfl) c1_0 (Nat.le_of_ble_eq_true rfl) ⟨Nat.le_of_ble_eq_true rfl, Nat.le_of_ble_eq_true rfl⟩ ⟨Nat.le_of_ble_eq_true rfl, Nat.le_of_ble_eq_true rfl⟩ (fun x24 σ25 _ h => ?_)
  exact wm_zret X hr h dX1_end_8 (Nat.le_of_ble_eq_true rfl) (Nat.le_of_ble_eq_true rfl)
theorem mdX1_fault : MD yX1_fault 0 := by unfold MD; decide +kernel
theorem mvX1_fault : MV yX1_fault cX1_fault 1 ((some FieldType.int)) := ⟨q489, q490, q128, q491⟩
set_option maxHeartbeats 4000000 in
theorem ctX1_fault (l : Launch) {h0 : Nat} {σ σf : Mm} {r : Int32} (h : FX1_fault h0 σ = some (r, σf)) : CTi l yX1_fault (ws_ yX1_fault cX1_fault 1 ((some FieldType.int))) 0 0 0 0 [va_rf (some h0)] σ r σf := by
  refine ct_start (n := 0) mdX1_fault (Nat.le_of_ble_eq_true rfl) (c1_r c1_0) (fun p e s m args below meth c D dA sz0 ad0 X hS hr hnm => ?_)
  have X : CX p s m args meth c cX1_fault 1 RX1 := X
  generalize mN σ = N0
  unfold FX1_fault at h
  refine wm_aload_n X 0 dX1_fault_0 rfl ?_
  refine wm_gR X hS cd_1 4 h dX1_fault_1 (Nat.le_of_ble_eq_true rfl) rfl q441 (fun x21 h => ?_)
  refine wm_gIN X hS cd_3 5 h dX1_fault_4 (Nat.le_of_ble_eq_true rfl) rfl 25 rfl (fun x22 h => ?_)
  exact wm_iret X hr h dX1_fault_7 (Nat.le_of_ble_eq_true rfl) (Nat.le_of_ble_eq_true rfl)
theorem mdX1_wrongOf : MD yX1_wrongOf 1 := by unfold MD; decide +kernel
theorem msX1_wrongOf : MS yX1_wrongOf cX1_wrongOf 3 ((some FieldType.int)) := ⟨q497, q128, q498⟩
set_option maxHeartbeats 4000000 in
theorem wX1_wrongOf_4 {p : Program} {l : Launch} {e : Env} {s : State} {m : MethodId} {args : Array Value} {below : List Frame} {meth : Method} {c : Code} {D : va_G} {dA : Nat → ClassId} {sz0 : Nat} {ad0 : Nat → Nat} {N0 : Nat} {r : Int32} {σf : Mm} (X : CX p s m args meth c cX1_wrongOf 3 RX1) (hS : ST D dA sz0 ad0 s) (hr : meth.sig.returnType = (some FieldType.int)) (hnm : meth.name = yX1_wrongOf.name) (y0 : Option Nat) : ∀ (n : Nat) (v1 : Int32) (v2 : Int32) (σ : Mm) (kx48 : Int32 → Mm → Option (Int32 × Mm)), FX1_wrongOf_4 y0 n v1 v2 σ kx48 = some (r, σf) → (∀ (w1 : Int32) (σ : Mm), kx48 w1 σ = some (r, σf) → WMi p l e s m args below meth c 0 0 0 0 3 D dA sz0 ad0 N0 r σf 0 0 σ [(1, .int w1)] [] 48) → WMi p l e s m args below meth c 0 0 0 0 3 D dA sz0 ad0 N0 r σf 0 0 σ [(0, va_rf y0), (1, .int v1), (2, .int v2)] [] 4 := by
  intro n
  induction n with
  | zero =>
    intro v1 v2 σ kx48 h hkx48
    cases h
  | succ n ih =>
    intro v1 v2 σ kx48 h hkx48
    rw [FX1_wrongOf_4] at h
    refine wm_iload_n X 2 dX1_wrongOf_4 rfl ?_
    refine wm_aload_n X 0 dX1_wrongOf_5 rfl ?_
    refine wm_gIN X hS cd_2 1 h dX1_wrongOf_6 (Nat.le_of_ble_eq_true rfl) rfl 1 rfl (fun x21 h => ?_)
    refine wm_icmp_ge X 48 h dX1_wrongOf_9 (by decide) (fun c29 h => ?_) (fun c29 h => ?_)
    · refine wm_sub (ℓ' := [(1, .int v1)]) [1] rfl ?_
      exact hkx48 _ _ h
    · refine wm_iload_n X 1 dX1_wrongOf_12 rfl ?_
      refine wm_aload_n X 0 dX1_wrongOf_13 rfl ?_
      refine wm_gRN X hS cd_2 10 h dX1_wrongOf_14 (Nat.le_of_ble_eq_true rfl) rfl 10 rfl (fun x22 h => ?_)
      refine wm_iload_n X 2 dX1_wrongOf_17 rfl ?_
      refine wm_iaload X hS h dX1_wrongOf_18 (fun x23 h => ?_)
      refine wm_iconst (v := (-1)) X dX1_wrongOf_19 (by decide) ?_
      obtain ⟨J40, eJ40, h⟩ := jn_e h
      have hJ40 : ∀ (z24 : Int32) (σ : Mm), J40 z24 σ = some (r, σf) → WMi p l e s m args below meth c 0 0 0 0 3 D dA sz0 ad0 N0 r σf 0 0 σ [(0, va_rf y0), (2, .int v2)] [.int z24, .int v1] 40 := by
        intro z24 σ h
        rw [eJ40] at h
        refine wm_ior X dX1_wrongOf_40 ?_
        refine wm_istore_n (ℓ' := [(1, .int (v1 ||| z24)), (0, va_rf y0), (2, .int v2)]) X dX1_wrongOf_41 (by decide) rfl ?_
        refine wm_iinc (v := (v2 + 1)) (ℓ' := [(2, .int (v2 + 1)), (1, .int (v1 ||| z24)), (0, va_rf y0)]) X 2 dX1_wrongOf_42 rfl rfl (by decide) rfl ?_
        refine wm_goto X 4 dX1_wrongOf_45 (by decide) ?_
        refine wm_sub (ℓ' := [(0, va_rf y0), (1, .int (v1 ||| z24)), (2, .int (v2 + 1))]) [2, 1, 0] rfl ?_
        exact ih _ _ _ _ h hkx48
      clear eJ40
      refine wm_icmp_eq X 39 h dX1_wrongOf_20 (by decide) (fun c28 h => ?_) (fun c28 h => ?_)
      · refine wm_iconst (v := 0) X dX1_wrongOf_39 (by decide) ?_
        refine wm_sub (ℓ' := [(0, va_rf y0), (2, .int v2)]) [0, 2] rfl ?_
        exact hJ40 _ _ h
      · refine wm_aload_n X 0 dX1_wrongOf_23 rfl ?_
        refine wm_gRN X hS cd_2 10 h dX1_wrongOf_24 (Nat.le_of_ble_eq_true rfl) rfl 10 rfl (fun x25 h => ?_)
        refine wm_iload_n X 2 dX1_wrongOf_27 rfl ?_
        refine wm_iaload X hS h dX1_wrongOf_28 (fun x26 h => ?_)
        refine wm_iload_n X 2 dX1_wrongOf_29 rfl ?_
        refine wm_icmp_eq X 39 h dX1_wrongOf_30 (by decide) (fun c27 h => ?_) (fun c27 h => ?_)
        · refine wm_iconst (v := 0) X dX1_wrongOf_39 (by decide) ?_
          refine wm_sub (ℓ' := [(0, va_rf y0), (2, .int v2)]) [0, 2] rfl ?_
          exact hJ40 _ _ h
        · refine wm_iconst (v := 1) X dX1_wrongOf_33 (by decide) ?_
          refine wm_iload_n X 2 dX1_wrongOf_34 rfl ?_
          refine wm_ishl X dX1_wrongOf_35 ?_
          refine wm_goto X 40 dX1_wrongOf_36 (by decide) ?_
          refine wm_sub (ℓ' := [(0, va_rf y0), (2, .int v2)]) [0, 2] rfl ?_
          exact hJ40 _ _ h
set_option maxHeartbeats 4000000 in
theorem ctX1_wrongOf (l : Launch) {x0 : Option Nat} {σ σf : Mm} {r : Int32} (h : FX1_wrongOf x0 σ = some (r, σf)) : CTi l yX1_wrongOf (ws_ yX1_wrongOf cX1_wrongOf 3 ((some FieldType.int))) 0 0 0 0 [va_rf x0] σ r σf := by
  refine ct_start (n := 1) mdX1_wrongOf (Nat.le_of_ble_eq_true rfl) (c1_r c1_0) (fun p e s m args below meth c D dA sz0 ad0 X hS hr hnm => ?_)
  have X : CX p s m args meth c cX1_wrongOf 3 RX1 := X
  generalize mN σ = N0
  unfold FX1_wrongOf at h
  refine wm_iconst (v := 0) X dX1_wrongOf_0 (by decide) ?_
  refine wm_istore_n (ℓ' := [(1, .int 0), (0, va_rf x0)]) X dX1_wrongOf_1 (by decide) rfl ?_
  refine wm_iconst (v := 0) X dX1_wrongOf_2 (by decide) ?_
  refine wm_istore_n (ℓ' := [(2, .int 0), (1, .int 0), (0, va_rf x0)]) X dX1_wrongOf_3 (by decide) rfl ?_
  refine wm_sub (ℓ' := [(0, va_rf x0), (1, .int 0), (2, .int 0)]) [2, 1, 0] rfl ?_
  refine wX1_wrongOf_4 X hS hr hnm _ fu _ _ _ _ h (fun x30 σ h => ?_)
  · refine wm_iload_n X 0 dX1_wrongOf_48 rfl ?_
    exact wm_iret X hr h dX1_wrongOf_49 (Nat.le_of_ble_eq_true rfl) (Nat.le_of_ble_eq_true rfl)
theorem mdX1_wrong : MD yX1_wrong 0 := by unfold MD; decide +kernel
theorem mvX1_wrong : MV yX1_wrong cX1_wrong 1 ((some FieldType.int)) := ⟨q493, q494, q128, q495⟩
set_option maxHeartbeats 4000000 in
theorem ctX1_wrong (l : Launch) {h0 : Nat} {σ σf : Mm} {r : Int32} (h : FX1_wrong h0 σ = some (r, σf)) : CTi l yX1_wrong (ws_ yX1_wrong cX1_wrong 1 ((some FieldType.int))) 1 22 0 0 [va_rf (some h0)] σ r σf := by
  refine ct_start (n := 0) mdX1_wrong (Nat.le_of_ble_eq_true rfl) (c1_r c1_0) (fun p e s m args below meth c D dA sz0 ad0 X hS hr hnm => ?_)
  have X : CX p s m args meth c cX1_wrong 1 RX1 := X
  generalize mN σ = N0
  unfold FX1_wrong at h
  refine wm_aload_n X 0 dX1_wrong_0 rfl ?_
  refine wm_gR X hS cd_1 0 h dX1_wrong_1 (Nat.le_of_ble_eq_true rfl) rfl q434 (fun x21 h => ?_)
  refine wm_cS_i (As := [va_rf x21]) (st := []) X hS h (fun _ _ hF => ctX1_wrongOf l hF) mdX1_wrongOf msX1_wrongOf q496 dX1_wrong_4 rfl rfl c1_0 (Nat.le_of_ble_eq_true rfl) ⟨Nat.le_of_ble_eq_true rfl, Nat.le_of_ble_eq_true rfl⟩ ⟨Nat.le_of_ble_eq_true rfl, Nat.le_of_ble_eq_true rfl⟩ (fun x22 σ23 _ h => ?_)
  exact wm_iret X hr h dX1_wrong_7 (Nat.le_of_ble_eq_true rfl) (Nat.le_of_ble_eq_true rfl)
theorem mdX2_wearer : MD yX2_wearer 1 := by unfold MD; decide +kernel
theorem mvX2_wearer : MV yX2_wearer cX2_wearer 3 ((some FieldType.int)) := ⟨q508, q509, q129, q510⟩
set_option maxHeartbeats 4000000 in
theorem wX2_wearer_2 {p : Program} {l : Launch} {e : Env} {s : State} {m : MethodId} {args : Array Value} {below : List Frame} {meth : Method} {c : Code} {D : va_G} {dA : Nat → ClassId} {sz0 : Nat} {ad0 : Nat → Nat} {N0 : Nat} {r : Int32} {σf : Mm} (X : CX p s m args meth c cX2_wearer 3 RX2) (hS : ST D dA sz0 ad0 s) (hr : meth.sig.returnType = (some FieldType.int)) (hnm : meth.name = yX2_wearer.name) (h0 : Nat) (y1 : Int32) : ∀ (n : Nat) (v2 : Int32) (σ : Mm) (kx28 : Mm → Option (Int32 × Mm)) (kx20 : Int32 → Mm → Option (Int32 × Mm)), FX2_wearer_2 h0 y1 n v2 σ kx28 kx20 = some (r, σf) → (∀  (σ : Mm), kx28 σ = some (r, σf) → WMi p l e s m args below meth c 0 0 0 0 3 D dA sz0 ad0 N0 r σf 0 0 σ [] [] 28) → (∀ (w2 : Int32) (σ : Mm), kx20 w2 σ = some (r, σf) → WMi p l e s m args below meth c 0 0 0 0 3 D dA sz0 ad0 N0 r σf 0 0 σ [(2, .int w2)] [] 20) → WMi p l e s m args below meth c 0 0 0 0 3 D dA sz0 ad0 N0 r σf 0 0 σ [(0, va_rf (some h0)), (1, .int y1), (2, .int v2)] [] 2 := by
  intro n
  induction n with
  | zero =>
    intro v2 σ kx28 kx20 h hkx28 hkx20
    cases h
  | succ n ih =>
    intro v2 σ kx28 kx20 h hkx28 hkx20
    rw [FX2_wearer_2] at h
    refine wm_iload_n X 2 dX2_wearer_2 rfl ?_
    refine wm_aload_n X 0 dX2_wearer_3 rfl ?_
    refine wm_gI X hS cd_2 1 h dX2_wearer_4 (Nat.le_of_ble_eq_true rfl) rfl q192 (fun x21 h => ?_)
    refine wm_icmp_ge X 28 h dX2_wearer_7 (by decide) (fun c25 h => ?_) (fun c25 h => ?_)
    · refine wm_sub (ℓ' := []) [] rfl ?_
      exact hkx28 _ h
    · refine wm_aload_n X 0 dX2_wearer_10 rfl ?_
      refine wm_gR X hS cd_2 10 h dX2_wearer_11 (Nat.le_of_ble_eq_true rfl) rfl q212 (fun x22 h => ?_)
      refine wm_iload_n X 2 dX2_wearer_14 rfl ?_
      refine wm_iaload X hS h dX2_wearer_15 (fun x23 h => ?_)
      refine wm_iload_n X 1 dX2_wearer_16 rfl ?_
      refine wm_icmp_ne X 22 h dX2_wearer_17 (by decide) (fun c24 h => ?_) (fun c24 h => ?_)
      · refine wm_iinc (v := (v2 + 1)) (ℓ' := [(2, .int (v2 + 1)), (0, va_rf (some h0)), (1, .int y1)]) X 2 dX2_wearer_22 rfl rfl (by decide) rfl ?_
        refine wm_goto X 2 dX2_wearer_25 (by decide) ?_
        refine wm_sub (ℓ' := [(0, va_rf (some h0)), (1, .int y1), (2, .int (v2 + 1))]) [1, 2, 0] rfl ?_
        exact ih _ _ _ _ h hkx28 hkx20
      · refine wm_sub (ℓ' := [(2, .int v2)]) [2] rfl ?_
        exact hkx20 _ _ h
set_option maxHeartbeats 4000000 in
theorem ctX2_wearer (l : Launch) {h0 : Nat} {x1 : Int32} {σ σf : Mm} {r : Int32} (h : FX2_wearer h0 x1 σ = some (r, σf)) : CTi l yX2_wearer (ws_ yX2_wearer cX2_wearer 3 ((some FieldType.int))) 0 0 0 0 [va_rf (some h0), .int x1] σ r σf := by
  refine ct_start (n := 1) mdX2_wearer (Nat.le_of_ble_eq_true rfl) (c1_r (c1_i c1_0)) (fun p e s m args below meth c D dA sz0 ad0 X hS hr hnm => ?_)
  have X : CX p s m args meth c cX2_wearer 3 RX2 := X
  generalize mN σ = N0
  unfold FX2_wearer at h
  refine wm_iconst (v := 0) X dX2_wearer_0 (by decide) ?_
  refine wm_istore_n (ℓ' := [(2, .int 0), (0, va_rf (some h0)), (1, .int x1)]) X dX2_wearer_1 (by decide) rfl ?_
  refine wm_sub (ℓ' := [(0, va_rf (some h0)), (1, .int x1), (2, .int 0)]) [1, 2, 0] rfl ?_
  refine wX2_wearer_2 X hS hr hnm _ _ fu _ _ _ _ h (fun σ h => ?_) (fun x26 σ h => ?_)
  · refine wm_iconst (v := (-1)) X dX2_wearer_28 (by decide) ?_
    exact wm_iret X hr h dX2_wearer_29 (Nat.le_of_ble_eq_true rfl) (Nat.le_of_ble_eq_true rfl)
  · refine wm_iload_n X 0 dX2_wearer_20 rfl ?_
    exact wm_iret X hr h dX2_wearer_21 (Nat.le_of_ble_eq_true rfl) (Nat.le_of_ble_eq_true rfl)
theorem mdX2_hookOf : MD yX2_hookOf 1 := by unfold MD; decide +kernel
theorem mvX2_hookOf : MV yX2_hookOf cX2_hookOf 3 ((some FieldType.int)) := ⟨q512, q513, q129, q514⟩
set_option maxHeartbeats 4000000 in
theorem wX2_hookOf_2 {p : Program} {l : Launch} {e : Env} {s : State} {m : MethodId} {args : Array Value} {below : List Frame} {meth : Method} {c : Code} {D : va_G} {dA : Nat → ClassId} {sz0 : Nat} {ad0 : Nat → Nat} {N0 : Nat} {r : Int32} {σf : Mm} (X : CX p s m args meth c cX2_hookOf 3 RX2) (hS : ST D dA sz0 ad0 s) (hr : meth.sig.returnType = (some FieldType.int)) (hnm : meth.name = yX2_hookOf.name) (h0 : Nat) (y1 : Int32) : ∀ (n : Nat) (v2 : Int32) (σ : Mm) (kx28 : Mm → Option (Int32 × Mm)) (kx20 : Int32 → Mm → Option (Int32 × Mm)), FX2_hookOf_2 h0 y1 n v2 σ kx28 kx20 = some (r, σf) → (∀  (σ : Mm), kx28 σ = some (r, σf) → WMi p l e s m args below meth c 0 0 0 0 3 D dA sz0 ad0 N0 r σf 0 0 σ [] [] 28) → (∀ (w2 : Int32) (σ : Mm), kx20 w2 σ = some (r, σf) → WMi p l e s m args below meth c 0 0 0 0 3 D dA sz0 ad0 N0 r σf 0 0 σ [(2, .int w2)] [] 20) → WMi p l e s m args below meth c 0 0 0 0 3 D dA sz0 ad0 N0 r σf 0 0 σ [(0, va_rf (some h0)), (1, .int y1), (2, .int v2)] [] 2 := by
  intro n
  induction n with
  | zero =>
    intro v2 σ kx28 kx20 h hkx28 hkx20
    cases h
  | succ n ih =>
    intro v2 σ kx28 kx20 h hkx28 hkx20
    rw [FX2_hookOf_2] at h
    refine wm_iload_n X 2 dX2_hookOf_2 rfl ?_
    refine wm_aload_n X 0 dX2_hookOf_3 rfl ?_
    refine wm_gI X hS cd_2 2 h dX2_hookOf_4 (Nat.le_of_ble_eq_true rfl) rfl q196 (fun x21 h => ?_)
    refine wm_icmp_ge X 28 h dX2_hookOf_7 (by decide) (fun c25 h => ?_) (fun c25 h => ?_)
    · refine wm_sub (ℓ' := []) [] rfl ?_
      exact hkx28 _ h
    · refine wm_aload_n X 0 dX2_hookOf_10 rfl ?_
      refine wm_gR X hS cd_2 17 h dX2_hookOf_11 (Nat.le_of_ble_eq_true rfl) rfl q229 (fun x22 h => ?_)
      refine wm_iload_n X 2 dX2_hookOf_14 rfl ?_
      refine wm_iaload X hS h dX2_hookOf_15 (fun x23 h => ?_)
      refine wm_iload_n X 1 dX2_hookOf_16 rfl ?_
      refine wm_icmp_ne X 22 h dX2_hookOf_17 (by decide) (fun c24 h => ?_) (fun c24 h => ?_)
      · refine wm_iinc (v := (v2 + 1)) (ℓ' := [(2, .int (v2 + 1)), (0, va_rf (some h0)), (1, .int y1)]) X 2 dX2_hookOf_22 rfl rfl (by decide) rfl ?_
        refine wm_goto X 2 dX2_hookOf_25 (by decide) ?_
        refine wm_sub (ℓ' := [(0, va_rf (some h0)), (1, .int y1), (2, .int (v2 + 1))]) [1, 2, 0] rfl ?_
        exact ih _ _ _ _ h hkx28 hkx20
      · refine wm_sub (ℓ' := [(2, .int v2)]) [2] rfl ?_
        exact hkx20 _ _ h
set_option maxHeartbeats 4000000 in
theorem ctX2_hookOf (l : Launch) {h0 : Nat} {x1 : Int32} {σ σf : Mm} {r : Int32} (h : FX2_hookOf h0 x1 σ = some (r, σf)) : CTi l yX2_hookOf (ws_ yX2_hookOf cX2_hookOf 3 ((some FieldType.int))) 0 0 0 0 [va_rf (some h0), .int x1] σ r σf := by
  refine ct_start (n := 1) mdX2_hookOf (Nat.le_of_ble_eq_true rfl) (c1_r (c1_i c1_0)) (fun p e s m args below meth c D dA sz0 ad0 X hS hr hnm => ?_)
  have X : CX p s m args meth c cX2_hookOf 3 RX2 := X
  generalize mN σ = N0
  unfold FX2_hookOf at h
  refine wm_iconst (v := 0) X dX2_hookOf_0 (by decide) ?_
  refine wm_istore_n (ℓ' := [(2, .int 0), (0, va_rf (some h0)), (1, .int x1)]) X dX2_hookOf_1 (by decide) rfl ?_
  refine wm_sub (ℓ' := [(0, va_rf (some h0)), (1, .int x1), (2, .int 0)]) [1, 2, 0] rfl ?_
  refine wX2_hookOf_2 X hS hr hnm _ _ fu _ _ _ _ h (fun σ h => ?_) (fun x26 σ h => ?_)
  · refine wm_iconst (v := (-1)) X dX2_hookOf_28 (by decide) ?_
    exact wm_iret X hr h dX2_hookOf_29 (Nat.le_of_ble_eq_true rfl) (Nat.le_of_ble_eq_true rfl)
  · refine wm_iload_n X 0 dX2_hookOf_20 rfl ?_
    exact wm_iret X hr h dX2_hookOf_21 (Nat.le_of_ble_eq_true rfl) (Nat.le_of_ble_eq_true rfl)
theorem mdX1_isLost : MD yX1_isLost 1 := by unfold MD; decide +kernel
theorem mvX1_isLost : MV yX1_isLost cX1_isLost 2 ((some FieldType.boolean)) := ⟨q505, qs0, q128, q506⟩
set_option maxHeartbeats 4000000 in
theorem ctX1_isLost (l : Launch) {h0 : Nat} {x1 : Int32} {σ σf : Mm} {r : Int32} (h : FX1_isLost h0 x1 σ = some (r, σf)) : CTi l yX1_isLost (ws_ yX1_isLost cX1_isLost 2 ((some FieldType.boolean))) 1 22 0 0 [va_rf (some h0), .int x1] σ r σf := by
  refine ct_start (n := 1) mdX1_isLost (Nat.le_of_ble_eq_true rfl) (c1_r (c1_i c1_0)) (fun p e s m args below meth c D dA sz0 ad0 X hS hr hnm => ?_)
  have X : CX p s m args meth c cX1_isLost 2 RX1 := X
  generalize mN σ = N0
  unfold FX1_isLost at h
  refine wm_aload_n X 0 dX1_isLost_0 rfl ?_
  refine wm_gR X hS cd_1 0 h dX1_isLost_1 (Nat.le_of_ble_eq_true rfl) rfl q434 (fun x21 h => ?_)
  refine wm_iload_n X 1 dX1_isLost_4 rfl ?_
  obtain ⟨q22, eq22, h⟩ := Option.bind_eq_some_iff.mp h
  obtain ⟨eq22, s23⟩ := rv_some eq22
  refine wm_cV_i (As := [.int x1]) (st := []) X hS cd_2 s23 rfl h (fun _ _ hF => ctX2_wearer l hF) mdX2_wearer mvX2_wearer q507 dX1_isLost_5 rfl (by rw [eq22]; first | done | rfl) c1_0 (Nat.le_of_ble_eq_true rfl) ⟨Nat.le_of_ble_eq_true rfl, Nat.le_of_ble_eq_true rfl⟩ ⟨Nat.le_of_ble_eq_true rfl, Nat.le_of_ble_eq_true rfl⟩ (fun x24 σ25 _ h => ?_)
  refine wm_iconst (v := (-1)) X dX1_isLost_8 (by decide) ?_
  refine wm_icmp_ne X 28 h dX1_isLost_9 (by decide) (fun c32 h => ?_) (fun c32 h => ?_)
  · refine wm_iconst (v := 0) X dX1_isLost_28 (by decide) ?_
    exact wm_zret X hr h dX1_isLost_29 (Nat.le_of_ble_eq_true rfl) (Nat.le_of_ble_eq_true rfl)
  · refine wm_aload_n X 0 dX1_isLost_12 rfl ?_
    refine wm_gR X hS cd_1 0 h dX1_isLost_13 (Nat.le_of_ble_eq_true rfl) rfl q434 (fun x26 h => ?_)
    refine wm_iload_n X 1 dX1_isLost_16 rfl ?_
    obtain ⟨q27, eq27, h⟩ := Option.bind_eq_some_iff.mp h
    obtain ⟨eq27, s28⟩ := rv_some eq27
    refine wm_cV_i (As := [.int x1]) (st := []) X hS cd_2 s28 rfl h (fun _ _ hF => ctX2_hookOf l hF) mdX2_hookOf mvX2_hookOf q511 dX1_isLost_17 rfl (by rw [eq27]; first | done | rfl) c1_0 (Nat.le_of_ble_eq_true rfl) ⟨Nat.le_of_ble_eq_true rfl, Nat.le_of_ble_eq_true rfl⟩ ⟨Nat.le_of_ble_eq_true rfl, Nat.le_of_ble_eq_true rfl⟩ (fun x29 σ30 _ h => ?_)
    refine wm_iconst (v := (-1)) X dX1_isLost_20 (by decide) ?_
    refine wm_icmp_ne X 28 h dX1_isLost_21 (by decide) (fun c31 h => ?_) (fun c31 h => ?_)
    · refine wm_iconst (v := 0) X dX1_isLost_28 (by decide) ?_
      exact wm_zret X hr h dX1_isLost_29 (Nat.le_of_ble_eq_true rfl) (Nat.le_of_ble_eq_true rfl)
    · refine wm_iconst (v := 1) X dX1_isLost_24 (by decide) ?_
      refine wm_goto X 29 dX1_isLost_25 (by decide) ?_
      exact wm_zret X hr h dX1_isLost_29 (Nat.le_of_ble_eq_true rfl) (Nat.le_of_ble_eq_true rfl)
theorem mdX1_lost : MD yX1_lost 0 := by unfold MD; decide +kernel
theorem mvX1_lost : MV yX1_lost cX1_lost 3 ((some FieldType.int)) := ⟨q500, q501, q128, q502⟩
set_option maxHeartbeats 4000000 in
theorem wX1_lost_4 {p : Program} {l : Launch} {e : Env} {s : State} {m : MethodId} {args : Array Value} {below : List Frame} {meth : Method} {c : Code} {D : va_G} {dA : Nat → ClassId} {sz0 : Nat} {ad0 : Nat → Nat} {N0 : Nat} {r : Int32} {σf : Mm} (X : CX p s m args meth c cX1_lost 3 RX1) (hS : ST D dA sz0 ad0 s) (hr : meth.sig.returnType = (some FieldType.int)) (hnm : meth.name = yX1_lost.name) (h0 : Nat) : ∀ (n : Nat) (v1 : Int32) (v2 : Int32) (σ : Mm) (kx39 : Int32 → Mm → Option (Int32 × Mm)), FX1_lost_4 h0 n v1 v2 σ kx39 = some (r, σf) → (∀ (w1 : Int32) (σ : Mm), kx39 w1 σ = some (r, σf) → WMi p l e s m args below meth c 2 43 0 0 3 D dA sz0 ad0 N0 r σf 0 0 σ [(1, .int w1)] [] 39) → WMi p l e s m args below meth c 2 43 0 0 3 D dA sz0 ad0 N0 r σf 0 0 σ [(0, va_rf (some h0)), (1, .int v1), (2, .int v2)] [] 4 := by
  intro n
  induction n with
  | zero =>
    intro v1 v2 σ kx39 h hkx39
    cases h
  | succ n ih =>
    intro v1 v2 σ kx39 h hkx39
    rw [FX1_lost_4] at h
    refine wm_iload_n X 2 dX1_lost_4 rfl ?_
    refine wm_aload_n X 0 dX1_lost_5 rfl ?_
    refine wm_gR X hS cd_1 0 h dX1_lost_6 (Nat.le_of_ble_eq_true rfl) rfl q434 (fun x21 h => ?_)
    refine wm_gIN X hS cd_2 1 h dX1_lost_9 (Nat.le_of_ble_eq_true rfl) rfl 1 rfl (fun x22 h => ?_)
    refine wm_icmp_ge X 39 h dX1_lost_12 (by decide) (fun c28 h => ?_) (fun c28 h => ?_)
    · refine wm_sub (ℓ' := [(1, .int v1)]) [1] rfl ?_
      exact hkx39 _ _ h
    · refine wm_iload_n X 1 dX1_lost_15 rfl ?_
      refine wm_aload_n X 0 dX1_lost_16 rfl ?_
      refine wm_iload_n X 2 dX1_lost_17 rfl ?_
      obtain ⟨s23, h⟩ := ck_e h
      refine wm_cV_i (As := [.int v2]) (st := [.int v1]) X hS cd_1 s23 rfl h (fun _ _ hF => ctX1_isLost l hF) mdX1_isLost mvX1_isLost q503 dX1_lost_18 rfl rfl (c1_i c1_0) (Nat.le_of_ble_eq_true rfl) ⟨Nat.le_of_ble_eq_true rfl, Nat.le_of_ble_eq_true rfl⟩ ⟨Nat.le_of_ble_eq_true rfl, Nat.le_of_ble_eq_true rfl⟩ (fun x24 σ25 _ h => ?_)
      obtain ⟨J31, eJ31, h⟩ := jn_e h
      have hJ31 : ∀ (z26 : Int32) (σ : Mm), J31 z26 σ = some (r, σf) → WMi p l e s m args below meth c 2 43 0 0 3 D dA sz0 ad0 N0 r σf 0 0 σ [(0, va_rf (some h0)), (2, .int v2)] [.int z26, .int v1] 31 := by
        intro z26 σ h
        rw [eJ31] at h
        refine wm_ior X dX1_lost_31 ?_
        refine wm_istore_n (ℓ' := [(1, .int (v1 ||| z26)), (0, va_rf (some h0)), (2, .int v2)]) X dX1_lost_32 (by decide) rfl ?_
        refine wm_iinc (v := (v2 + 1)) (ℓ' := [(2, .int (v2 + 1)), (1, .int (v1 ||| z26)), (0, va_rf (some h0))]) X 2 dX1_lost_33 rfl rfl (by decide) rfl ?_
        refine wm_goto X 4 dX1_lost_36 (by decide) ?_
        refine wm_sub (ℓ' := [(0, va_rf (some h0)), (1, .int (v1 ||| z26)), (2, .int (v2 + 1))]) [2, 1, 0] rfl ?_
        exact ih _ _ _ _ h hkx39
      clear eJ31
      refine wm_if_eq X 30 h dX1_lost_21 (by decide) (fun c27 h => ?_) (fun c27 h => ?_)
      · refine wm_iconst (v := 0) X dX1_lost_30 (by decide) ?_
        refine wm_sub (ℓ' := [(0, va_rf (some h0)), (2, .int v2)]) [0, 2] rfl ?_
        exact hJ31 _ _ h
      · refine wm_iconst (v := 1) X dX1_lost_24 (by decide) ?_
        refine wm_iload_n X 2 dX1_lost_25 rfl ?_
        refine wm_ishl X dX1_lost_26 ?_
        refine wm_goto X 31 dX1_lost_27 (by decide) ?_
        refine wm_sub (ℓ' := [(0, va_rf (some h0)), (2, .int v2)]) [0, 2] rfl ?_
        exact hJ31 _ _ h
set_option maxHeartbeats 4000000 in
theorem ctX1_lost (l : Launch) {h0 : Nat} {σ σf : Mm} {r : Int32} (h : FX1_lost h0 σ = some (r, σf)) : CTi l yX1_lost (ws_ yX1_lost cX1_lost 3 ((some FieldType.int))) 2 43 0 0 [va_rf (some h0)] σ r σf := by
  refine ct_start (n := 0) mdX1_lost (Nat.le_of_ble_eq_true rfl) (c1_r c1_0) (fun p e s m args below meth c D dA sz0 ad0 X hS hr hnm => ?_)
  have X : CX p s m args meth c cX1_lost 3 RX1 := X
  generalize mN σ = N0
  unfold FX1_lost at h
  refine wm_iconst (v := 0) X dX1_lost_0 (by decide) ?_
  refine wm_istore_n (ℓ' := [(1, .int 0), (0, va_rf (some h0))]) X dX1_lost_1 (by decide) rfl ?_
  refine wm_iconst (v := 0) X dX1_lost_2 (by decide) ?_
  refine wm_istore_n (ℓ' := [(2, .int 0), (1, .int 0), (0, va_rf (some h0))]) X dX1_lost_3 (by decide) rfl ?_
  refine wm_sub (ℓ' := [(0, va_rf (some h0)), (1, .int 0), (2, .int 0)]) [2, 1, 0] rfl ?_
  refine wX1_lost_4 X hS hr hnm _ fu _ _ _ _ h (fun x29 σ h => ?_)
  · refine wm_iload_n X 0 dX1_lost_39 rfl ?_
    exact wm_iret X hr h dX1_lost_40 (Nat.le_of_ble_eq_true rfl) (Nat.le_of_ble_eq_true rfl)
theorem mdX2_isTicket : MD yX2_isTicket 1 := by unfold MD; decide +kernel
theorem mvX2_isTicket : MV yX2_isTicket cX2_isTicket 3 ((some FieldType.boolean)) := ⟨q520, q521, q129, q522⟩
set_option maxHeartbeats 4000000 in
theorem wX2_isTicket_2 {p : Program} {l : Launch} {e : Env} {s : State} {m : MethodId} {args : Array Value} {below : List Frame} {meth : Method} {c : Code} {D : va_G} {dA : Nat → ClassId} {sz0 : Nat} {ad0 : Nat → Nat} {N0 : Nat} {r : Int32} {σf : Mm} (X : CX p s m args meth c cX2_isTicket 3 RX2) (hS : ST D dA sz0 ad0 s) (hr : meth.sig.returnType = (some FieldType.boolean)) (hnm : meth.name = yX2_isTicket.name) (h0 : Nat) (y1 : Int32) : ∀ (n : Nat) (v2 : Int32) (σ : Mm) (kx28 : Mm → Option (Int32 × Mm)) (kx20 : Mm → Option (Int32 × Mm)), FX2_isTicket_2 h0 y1 n v2 σ kx28 kx20 = some (r, σf) → (∀  (σ : Mm), kx28 σ = some (r, σf) → WMi p l e s m args below meth c 0 0 0 0 3 D dA sz0 ad0 N0 r σf 0 0 σ [] [] 28) → (∀  (σ : Mm), kx20 σ = some (r, σf) → WMi p l e s m args below meth c 0 0 0 0 3 D dA sz0 ad0 N0 r σf 0 0 σ [] [] 20) → WMi p l e s m args below meth c 0 0 0 0 3 D dA sz0 ad0 N0 r σf 0 0 σ [(0, va_rf (some h0)), (1, .int y1), (2, .int v2)] [] 2 := by
  intro n
  induction n with
  | zero =>
    intro v2 σ kx28 kx20 h hkx28 hkx20
    cases h
  | succ n ih =>
    intro v2 σ kx28 kx20 h hkx28 hkx20
    rw [FX2_isTicket_2] at h
    refine wm_iload_n X 2 dX2_isTicket_2 rfl ?_
    refine wm_aload_n X 0 dX2_isTicket_3 rfl ?_
    refine wm_gI X hS cd_2 1 h dX2_isTicket_4 (Nat.le_of_ble_eq_true rfl) rfl q192 (fun x21 h => ?_)
    refine wm_icmp_ge X 28 h dX2_isTicket_7 (by decide) (fun c25 h => ?_) (fun c25 h => ?_)
    · refine wm_sub (ℓ' := []) [] rfl ?_
      exact hkx28 _ h
    · refine wm_aload_n X 0 dX2_isTicket_10 rfl ?_
      refine wm_gR X hS cd_2 11 h dX2_isTicket_11 (Nat.le_of_ble_eq_true rfl) rfl q215 (fun x22 h => ?_)
      refine wm_iload_n X 2 dX2_isTicket_14 rfl ?_
      refine wm_iaload X hS h dX2_isTicket_15 (fun x23 h => ?_)
      refine wm_iload_n X 1 dX2_isTicket_16 rfl ?_
      refine wm_icmp_ne X 22 h dX2_isTicket_17 (by decide) (fun c24 h => ?_) (fun c24 h => ?_)
      · refine wm_iinc (v := (v2 + 1)) (ℓ' := [(2, .int (v2 + 1)), (0, va_rf (some h0)), (1, .int y1)]) X 2 dX2_isTicket_22 rfl rfl (by decide) rfl ?_
        refine wm_goto X 2 dX2_isTicket_25 (by decide) ?_
        refine wm_sub (ℓ' := [(0, va_rf (some h0)), (1, .int y1), (2, .int (v2 + 1))]) [1, 2, 0] rfl ?_
        exact ih _ _ _ _ h hkx28 hkx20
      · refine wm_sub (ℓ' := []) [] rfl ?_
        exact hkx20 _ h
set_option maxHeartbeats 4000000 in
theorem ctX2_isTicket (l : Launch) {h0 : Nat} {x1 : Int32} {σ σf : Mm} {r : Int32} (h : FX2_isTicket h0 x1 σ = some (r, σf)) : CTi l yX2_isTicket (ws_ yX2_isTicket cX2_isTicket 3 ((some FieldType.boolean))) 0 0 0 0 [va_rf (some h0), .int x1] σ r σf := by
  refine ct_start (n := 1) mdX2_isTicket (Nat.le_of_ble_eq_true rfl) (c1_r (c1_i c1_0)) (fun p e s m args below meth c D dA sz0 ad0 X hS hr hnm => ?_)
  have X : CX p s m args meth c cX2_isTicket 3 RX2 := X
  generalize mN σ = N0
  unfold FX2_isTicket at h
  refine wm_iconst (v := 0) X dX2_isTicket_0 (by decide) ?_
  refine wm_istore_n (ℓ' := [(2, .int 0), (0, va_rf (some h0)), (1, .int x1)]) X dX2_isTicket_1 (by decide) rfl ?_
  refine wm_sub (ℓ' := [(0, va_rf (some h0)), (1, .int x1), (2, .int 0)]) [1, 2, 0] rfl ?_
  refine wX2_isTicket_2 X hS hr hnm _ _ fu _ _ _ _ h (fun σ h => ?_) (fun σ h => ?_)
  · refine wm_iconst (v := 0) X dX2_isTicket_28 (by decide) ?_
    exact wm_zret X hr h dX2_isTicket_29 (Nat.le_of_ble_eq_true rfl) (Nat.le_of_ble_eq_true rfl)
  · refine wm_iconst (v := 1) X dX2_isTicket_20 (by decide) ?_
    exact wm_zret X hr h dX2_isTicket_21 (Nat.le_of_ble_eq_true rfl) (Nat.le_of_ble_eq_true rfl)
theorem mdX1_unclaimed : MD yX1_unclaimed 0 := by unfold MD; decide +kernel
theorem mvX1_unclaimed : MV yX1_unclaimed cX1_unclaimed 3 ((some FieldType.int)) := ⟨q516, q517, q128, q518⟩
set_option maxHeartbeats 4000000 in
theorem wX1_unclaimed_4 {p : Program} {l : Launch} {e : Env} {s : State} {m : MethodId} {args : Array Value} {below : List Frame} {meth : Method} {c : Code} {D : va_G} {dA : Nat → ClassId} {sz0 : Nat} {ad0 : Nat → Nat} {N0 : Nat} {r : Int32} {σf : Mm} (X : CX p s m args meth c cX1_unclaimed 3 RX1) (hS : ST D dA sz0 ad0 s) (hr : meth.sig.returnType = (some FieldType.int)) (hnm : meth.name = yX1_unclaimed.name) (h0 : Nat) : ∀ (n : Nat) (v1 : Int32) (v2 : Int32) (σ : Mm) (kx63 : Int32 → Mm → Option (Int32 × Mm)), FX1_unclaimed_4 h0 n v1 v2 σ kx63 = some (r, σf) → (∀ (w1 : Int32) (σ : Mm), kx63 w1 σ = some (r, σf) → WMi p l e s m args below meth c 1 22 0 0 3 D dA sz0 ad0 N0 r σf 0 0 σ [(1, .int w1)] [] 63) → WMi p l e s m args below meth c 1 22 0 0 3 D dA sz0 ad0 N0 r σf 0 0 σ [(0, va_rf (some h0)), (1, .int v1), (2, .int v2)] [] 4 := by
  intro n
  induction n with
  | zero =>
    intro v1 v2 σ kx63 h hkx63
    cases h
  | succ n ih =>
    intro v1 v2 σ kx63 h hkx63
    rw [FX1_unclaimed_4] at h
    refine wm_iload_n X 2 dX1_unclaimed_4 rfl ?_
    refine wm_aload_n X 0 dX1_unclaimed_5 rfl ?_
    refine wm_gR X hS cd_1 0 h dX1_unclaimed_6 (Nat.le_of_ble_eq_true rfl) rfl q434 (fun x21 h => ?_)
    refine wm_gIN X hS cd_2 2 h dX1_unclaimed_9 (Nat.le_of_ble_eq_true rfl) rfl 2 rfl (fun x22 h => ?_)
    refine wm_icmp_ge X 63 h dX1_unclaimed_12 (by decide) (fun c37 h => ?_) (fun c37 h => ?_)
    · refine wm_sub (ℓ' := [(1, .int v1)]) [1] rfl ?_
      exact hkx63 _ _ h
    · refine wm_iload_n X 1 dX1_unclaimed_15 rfl ?_
      refine wm_aload_n X 0 dX1_unclaimed_16 rfl ?_
      refine wm_gR X hS cd_1 0 h dX1_unclaimed_17 (Nat.le_of_ble_eq_true rfl) rfl q434 (fun x23 h => ?_)
      refine wm_gRN X hS cd_2 17 h dX1_unclaimed_20 (Nat.le_of_ble_eq_true rfl) rfl 17 rfl (fun x24 h => ?_)
      refine wm_iload_n X 2 dX1_unclaimed_23 rfl ?_
      refine wm_iaload X hS h dX1_unclaimed_24 (fun x25 h => ?_)
      refine wm_iconst (v := (-1)) X dX1_unclaimed_25 (by decide) ?_
      obtain ⟨J55, eJ55, h⟩ := jn_e h
      have hJ55 : ∀ (z26 : Int32) (σ : Mm), J55 z26 σ = some (r, σf) → WMi p l e s m args below meth c 1 22 0 0 3 D dA sz0 ad0 N0 r σf 0 0 σ [(0, va_rf (some h0)), (2, .int v2)] [.int z26, .int v1] 55 := by
        intro z26 σ h
        rw [eJ55] at h
        refine wm_ior X dX1_unclaimed_55 ?_
        refine wm_istore_n (ℓ' := [(1, .int (v1 ||| z26)), (0, va_rf (some h0)), (2, .int v2)]) X dX1_unclaimed_56 (by decide) rfl ?_
        refine wm_iinc (v := (v2 + 1)) (ℓ' := [(2, .int (v2 + 1)), (1, .int (v1 ||| z26)), (0, va_rf (some h0))]) X 2 dX1_unclaimed_57 rfl rfl (by decide) rfl ?_
        refine wm_goto X 4 dX1_unclaimed_60 (by decide) ?_
        refine wm_sub (ℓ' := [(0, va_rf (some h0)), (1, .int (v1 ||| z26)), (2, .int (v2 + 1))]) [2, 1, 0] rfl ?_
        exact ih _ _ _ _ h hkx63
      clear eJ55
      refine wm_icmp_eq X 54 h dX1_unclaimed_26 (by decide) (fun c36 h => ?_) (fun c36 h => ?_)
      · refine wm_iconst (v := 0) X dX1_unclaimed_54 (by decide) ?_
        refine wm_sub (ℓ' := [(0, va_rf (some h0)), (2, .int v2)]) [0, 2] rfl ?_
        exact hJ55 _ _ h
      · refine wm_aload_n X 0 dX1_unclaimed_29 rfl ?_
        refine wm_gR X hS cd_1 0 h dX1_unclaimed_30 (Nat.le_of_ble_eq_true rfl) rfl q434 (fun x27 h => ?_)
        refine wm_iload_n X 2 dX1_unclaimed_33 rfl ?_
        obtain ⟨q28, eq28, h⟩ := Option.bind_eq_some_iff.mp h
        obtain ⟨eq28, s29⟩ := rv_some eq28
        refine wm_cV_i (As := [.int v2]) (st := [.int v1]) X hS cd_2 s29 rfl h (fun _ _ hF => ctX2_isTicket l hF) mdX2_isTicket mvX2_isTicket q519 dX1_unclaimed_34 rfl (by rw [eq28]; first | done | rfl) (c1_i c1_0) (Nat.le_of_ble_eq_true rfl) ⟨Nat.le_of_ble_eq_true rfl, Nat.le_of_ble_eq_true rfl⟩ ⟨Nat.le_of_ble_eq_true rfl, Nat.le_of_ble_eq_true rfl⟩ (fun x30 σ31 _ h => ?_)
        refine wm_if_ne X 54 h dX1_unclaimed_37 (by decide) (fun c35 h => ?_) (fun c35 h => ?_)
        · refine wm_iconst (v := 0) X dX1_unclaimed_54 (by decide) ?_
          refine wm_sub (ℓ' := [(0, va_rf (some h0)), (2, .int v2)]) [0, 2] rfl ?_
          exact hJ55 _ _ h
        · refine wm_iconst (v := 1) X dX1_unclaimed_40 (by decide) ?_
          refine wm_aload_n X 0 dX1_unclaimed_41 rfl ?_
          refine wm_gR X hS cd_1 0 h dX1_unclaimed_42 (Nat.le_of_ble_eq_true rfl) rfl q434 (fun x32 h => ?_)
          refine wm_gRN X hS cd_2 17 h dX1_unclaimed_45 (Nat.le_of_ble_eq_true rfl) rfl 17 rfl (fun x33 h => ?_)
          refine wm_iload_n X 2 dX1_unclaimed_48 rfl ?_
          refine wm_iaload X hS h dX1_unclaimed_49 (fun x34 h => ?_)
          refine wm_ishl X dX1_unclaimed_50 ?_
          refine wm_goto X 55 dX1_unclaimed_51 (by decide) ?_
          refine wm_sub (ℓ' := [(0, va_rf (some h0)), (2, .int v2)]) [0, 2] rfl ?_
          exact hJ55 _ _ h
set_option maxHeartbeats 4000000 in
theorem ctX1_unclaimed (l : Launch) {h0 : Nat} {σ σf : Mm} {r : Int32} (h : FX1_unclaimed h0 σ = some (r, σf)) : CTi l yX1_unclaimed (ws_ yX1_unclaimed cX1_unclaimed 3 ((some FieldType.int))) 1 22 0 0 [va_rf (some h0)] σ r σf := by
  refine ct_start (n := 0) mdX1_unclaimed (Nat.le_of_ble_eq_true rfl) (c1_r c1_0) (fun p e s m args below meth c D dA sz0 ad0 X hS hr hnm => ?_)
  have X : CX p s m args meth c cX1_unclaimed 3 RX1 := X
  generalize mN σ = N0
  unfold FX1_unclaimed at h
  refine wm_iconst (v := 0) X dX1_unclaimed_0 (by decide) ?_
  refine wm_istore_n (ℓ' := [(1, .int 0), (0, va_rf (some h0))]) X dX1_unclaimed_1 (by decide) rfl ?_
  refine wm_iconst (v := 0) X dX1_unclaimed_2 (by decide) ?_
  refine wm_istore_n (ℓ' := [(2, .int 0), (1, .int 0), (0, va_rf (some h0))]) X dX1_unclaimed_3 (by decide) rfl ?_
  refine wm_sub (ℓ' := [(0, va_rf (some h0)), (1, .int 0), (2, .int 0)]) [2, 1, 0] rfl ?_
  refine wX1_unclaimed_4 X hS hr hnm _ fu _ _ _ _ h (fun x38 σ h => ?_)
  · refine wm_iload_n X 0 dX1_unclaimed_63 rfl ?_
    exact wm_iret X hr h dX1_unclaimed_64 (Nat.le_of_ble_eq_true rfl) (Nat.le_of_ble_eq_true rfl)
theorem mdX1_has : MD yX1_has 2 := by unfold MD; decide +kernel
theorem msX1_has : MS yX1_has cX1_has 2 ((some FieldType.boolean)) := ⟨q536, q128, q537⟩
set_option maxHeartbeats 4000000 in
theorem ctX1_has (l : Launch) {x0 : Int32} {x1 : Int32} {σ σf : Mm} {r : Int32} (h : FX1_has x0 x1 σ = some (r, σf)) : CTi l yX1_has (ws_ yX1_has cX1_has 2 ((some FieldType.boolean))) 0 0 0 0 [.int x0, .int x1] σ r σf := by
  refine ct_start (n := 2) mdX1_has (Nat.le_of_ble_eq_true rfl) (c1_i (c1_i c1_0)) (fun p e s m args below meth c D dA sz0 ad0 X hS hr hnm => ?_)
  have X : CX p s m args meth c cX1_has 2 RX1 := X
  generalize mN σ = N0
  unfold FX1_has at h
  refine wm_iload_n X 0 dX1_has_0 rfl ?_
  refine wm_iload_n X 1 dX1_has_1 rfl ?_
  refine wm_ishr X dX1_has_2 ?_
  refine wm_iconst (v := 1) X dX1_has_3 (by decide) ?_
  refine wm_iand X dX1_has_4 ?_
  refine wm_iconst (v := 1) X dX1_has_5 (by decide) ?_
  refine wm_icmp_ne X 13 h dX1_has_6 (by decide) (fun c21 h => ?_) (fun c21 h => ?_)
  · refine wm_iconst (v := 0) X dX1_has_13 (by decide) ?_
    exact wm_zret X hr h dX1_has_14 (Nat.le_of_ble_eq_true rfl) (Nat.le_of_ble_eq_true rfl)
  · refine wm_iconst (v := 1) X dX1_has_9 (by decide) ?_
    refine wm_goto X 14 dX1_has_10 (by decide) ?_
    exact wm_zret X hr h dX1_has_14 (Nat.le_of_ble_eq_true rfl) (Nat.le_of_ble_eq_true rfl)
theorem mdX1_ringOf : MD yX1_ringOf 1 := by unfold MD; decide +kernel
theorem mvX1_ringOf : MV yX1_ringOf cX1_ringOf 4 ((some FieldType.int)) := ⟨q533, qs2, q128, q534⟩
set_option maxHeartbeats 4000000 in
theorem wX1_ringOf_4 {p : Program} {l : Launch} {e : Env} {s : State} {m : MethodId} {args : Array Value} {below : List Frame} {meth : Method} {c : Code} {D : va_G} {dA : Nat → ClassId} {sz0 : Nat} {ad0 : Nat → Nat} {N0 : Nat} {r : Int32} {σf : Mm} (X : CX p s m args meth c cX1_ringOf 4 RX1) (hS : ST D dA sz0 ad0 s) (hr : meth.sig.returnType = (some FieldType.int)) (hnm : meth.name = yX1_ringOf.name) (h0 : Nat) : ∀ (n : Nat) (v2 : Int32) (v3 : Int32) (σ : Mm) (kx35 : Int32 → Mm → Option (Int32 × Mm)), FX1_ringOf_4 h0 n v2 v3 σ kx35 = some (r, σf) → (∀ (w2 : Int32) (σ : Mm), kx35 w2 σ = some (r, σf) → WMi p l e s m args below meth c 1 22 0 0 4 D dA sz0 ad0 N0 r σf 0 0 σ [(2, .int w2)] [] 35) → WMi p l e s m args below meth c 1 22 0 0 4 D dA sz0 ad0 N0 r σf 0 0 σ [(0, va_rf (some h0)), (2, .int v2), (3, .int v3)] [] 4 := by
  intro n
  induction n with
  | zero =>
    intro v2 v3 σ kx35 h hkx35
    cases h
  | succ n ih =>
    intro v2 v3 σ kx35 h hkx35
    rw [FX1_ringOf_4] at h
    refine wm_iload_n X 2 dX1_ringOf_4 rfl ?_
    refine wm_iconst (v := (-1)) X dX1_ringOf_5 (by decide) ?_
    refine wm_icmp_eq X 35 h dX1_ringOf_6 (by decide) (fun c29 h => ?_) (fun c29 h => ?_)
    · refine wm_sub (ℓ' := [(2, .int v2)]) [1] rfl ?_
      exact hkx35 _ _ h
    · refine wm_iload_n X 1 dX1_ringOf_9 rfl ?_
      refine wm_iload_n X 2 dX1_ringOf_10 rfl ?_
      refine wm_cS_i (As := [.int v2, .int v3]) (st := []) X hS h (fun _ _ hF => ctX1_has l hF) mdX1_has msX1_has q535 dX1_ringOf_11 rfl rfl c1_0 (Nat.le_of_ble_eq_true rfl) ⟨Nat.le_of_ble_eq_true rfl, Nat.le_of_ble_eq_true rfl⟩ ⟨Nat.le_of_ble_eq_true rfl, Nat.le_of_ble_eq_true rfl⟩ (fun x21 σ22 _ h => ?_)
      refine wm_if_ne X 35 h dX1_ringOf_14 (by decide) (fun c28 h => ?_) (fun c28 h => ?_)
      · refine wm_sub (ℓ' := [(2, .int v2)]) [1] rfl ?_
        exact hkx35 _ _ h
      · refine wm_iload_n X 1 dX1_ringOf_17 rfl ?_
        refine wm_iconst (v := 1) X dX1_ringOf_18 (by decide) ?_
        refine wm_iload_n X 2 dX1_ringOf_19 rfl ?_
        refine wm_ishl X dX1_ringOf_20 ?_
        refine wm_ior X dX1_ringOf_21 ?_
        refine wm_istore_n (ℓ' := [(2, .int (v2 ||| (1 <<< (v3 &&& 31)))), (0, va_rf (some h0)), (3, .int v3)]) X dX1_ringOf_22 (by decide) rfl ?_
        refine wm_aload_n X 1 dX1_ringOf_23 rfl ?_
        refine wm_gR X hS cd_1 0 h dX1_ringOf_24 (Nat.le_of_ble_eq_true rfl) rfl q434 (fun x23 h => ?_)
        refine wm_iload_n X 2 dX1_ringOf_27 rfl ?_
        obtain ⟨q24, eq24, h⟩ := Option.bind_eq_some_iff.mp h
        obtain ⟨eq24, s25⟩ := rv_some eq24
        refine wm_cV_i (As := [.int v3]) (st := []) X hS cd_2 s25 rfl h (fun _ _ hF => ctX2_wearer l hF) mdX2_wearer mvX2_wearer q507 dX1_ringOf_28 rfl (by rw [eq24]; first | done | rfl) c1_0 (Nat.le_of_ble_eq_true rfl) ⟨Nat.le_of_ble_eq_true rfl, Nat.le_of_ble_eq_true rfl⟩ ⟨Nat.le_of_ble_eq_true rfl, Nat.le_of_ble_eq_true rfl⟩ (fun x26 σ27 _ h => ?_)
        refine wm_istore_n (ℓ' := [(3, .int x26), (2, .int (v2 ||| (1 <<< (v3 &&& 31)))), (0, va_rf (some h0))]) X dX1_ringOf_31 (by decide) rfl ?_
        refine wm_goto X 4 dX1_ringOf_32 (by decide) ?_
        refine wm_sub (ℓ' := [(0, va_rf (some h0)), (2, .int (v2 ||| (1 <<< (v3 &&& 31)))), (3, .int x26)]) [2, 1, 0] rfl ?_
        exact ih _ _ _ _ h hkx35
set_option maxHeartbeats 4000000 in
theorem ctX1_ringOf (l : Launch) {h0 : Nat} {x1 : Int32} {σ σf : Mm} {r : Int32} (h : FX1_ringOf h0 x1 σ = some (r, σf)) : CTi l yX1_ringOf (ws_ yX1_ringOf cX1_ringOf 4 ((some FieldType.int))) 1 22 0 0 [va_rf (some h0), .int x1] σ r σf := by
  refine ct_start (n := 1) mdX1_ringOf (Nat.le_of_ble_eq_true rfl) (c1_r (c1_i c1_0)) (fun p e s m args below meth c D dA sz0 ad0 X hS hr hnm => ?_)
  have X : CX p s m args meth c cX1_ringOf 4 RX1 := X
  generalize mN σ = N0
  unfold FX1_ringOf at h
  refine wm_iconst (v := 0) X dX1_ringOf_0 (by decide) ?_
  refine wm_istore_n (ℓ' := [(2, .int 0), (0, va_rf (some h0)), (1, .int x1)]) X dX1_ringOf_1 (by decide) rfl ?_
  refine wm_iload_n X 2 dX1_ringOf_2 rfl ?_
  refine wm_istore_n (ℓ' := [(3, .int x1), (2, .int 0), (0, va_rf (some h0)), (1, .int x1)]) X dX1_ringOf_3 (by decide) rfl ?_
  refine wm_sub (ℓ' := [(0, va_rf (some h0)), (2, .int 0), (3, .int x1)]) [2, 1, 0] rfl ?_
  refine wX1_ringOf_4 X hS hr hnm _ fu _ _ _ _ h (fun x30 σ h => ?_)
  · refine wm_iload_n X 0 dX1_ringOf_35 rfl ?_
    exact wm_iret X hr h dX1_ringOf_36 (Nat.le_of_ble_eq_true rfl) (Nat.le_of_ble_eq_true rfl)
theorem mdJ16_bitCount : MD yJ16_bitCount 1 := by unfold MD; decide +kernel
theorem msJ16_bitCount : MS yJ16_bitCount cJ16_bitCount 1 ((some FieldType.int)) := ⟨q539, q154, q540⟩
set_option maxHeartbeats 4000000 in
theorem ctJ16_bitCount (l : Launch) {x0 : Int32} {σ σf : Mm} {r : Int32} (h : FJ16_bitCount x0 σ = some (r, σf)) : CTi l yJ16_bitCount (ws_ yJ16_bitCount cJ16_bitCount 1 ((some FieldType.int))) 0 0 0 0 [.int x0] σ r σf := by
  refine ct_start (n := 1) mdJ16_bitCount (Nat.le_of_ble_eq_true rfl) (c1_i c1_0) (fun p e s m args below meth c D dA sz0 ad0 X hS hr hnm => ?_)
  have X : CX p s m args meth c cJ16_bitCount 1 RJ16 := X
  generalize mN σ = N0
  unfold FJ16_bitCount at h
  refine wm_iload_n X 0 dJ16_bitCount_0 rfl ?_
  refine wm_iload_n X 0 dJ16_bitCount_1 rfl ?_
  refine wm_iconst (v := 1) X dJ16_bitCount_2 (by decide) ?_
  refine wm_iushr X dJ16_bitCount_3 ?_
  refine wm_ldcw X dJ16_bitCount_4 q541 ?_
  refine wm_iand X dJ16_bitCount_7 ?_
  refine wm_isub X dJ16_bitCount_8 ?_
  refine wm_istore_n (ℓ' := [(0, .int (x0 - ((ush x0 1) &&& 1431655765)))]) X dJ16_bitCount_9 (by decide) rfl ?_
  refine wm_iload_n X 0 dJ16_bitCount_10 rfl ?_
  refine wm_ldcw X dJ16_bitCount_11 q542 ?_
  refine wm_iand X dJ16_bitCount_14 ?_
  refine wm_iload_n X 0 dJ16_bitCount_15 rfl ?_
  refine wm_iconst (v := 2) X dJ16_bitCount_16 (by decide) ?_
  refine wm_iushr X dJ16_bitCount_17 ?_
  refine wm_ldcw X dJ16_bitCount_18 q542 ?_
  refine wm_iand X dJ16_bitCount_21 ?_
  refine wm_iadd X dJ16_bitCount_22 ?_
  refine wm_istore_n (ℓ' := [(0, .int (((x0 - ((ush x0 1) &&& 1431655765)) &&& 858993459) + ((ush (x0 - ((ush x0 1) &&& 1431655765)) 2) &&& 858993459)))]) X dJ16_bitCount_23 (by decide) rfl ?_
  refine wm_iload_n X 0 dJ16_bitCount_24 rfl ?_
  refine wm_iload_n X 0 dJ16_bitCount_25 rfl ?_
  refine wm_iconst (v := 4) X dJ16_bitCount_26 (by decide) ?_
  refine wm_iushr X dJ16_bitCount_27 ?_
  refine wm_iadd X dJ16_bitCount_28 ?_
  refine wm_ldcw X dJ16_bitCount_29 q543 ?_
  refine wm_iand X dJ16_bitCount_32 ?_
  refine wm_istore_n (ℓ' := [(0, .int (((((x0 - ((ush x0 1) &&& 1431655765)) &&& 858993459) + ((ush (x0 - ((ush x0 1) &&& 1431655765)) 2) &&& 858993459)) + (ush (((x0 - ((ush x0 1) &&& 1431655765)) &&& 858993459) + ((ush (x0 - ((ush x0 1) &&& 1431655765)) 2) &&& 858993459)) 4)) &&& 252645135))]) X dJ16_bitCount_33 (by decide) rfl ?_
  refine wm_iload_n X 0 dJ16_bitCount_34 rfl ?_
  refine wm_iload_n X 0 dJ16_bitCount_35 rfl ?_
  refine wm_bipush (v := 8) X dJ16_bitCount_36 (by decide) ?_
  refine wm_iushr X dJ16_bitCount_38 ?_
  refine wm_iadd X dJ16_bitCount_39 ?_
  refine wm_istore_n (ℓ' := [(0, .int ((((((x0 - ((ush x0 1) &&& 1431655765)) &&& 858993459) + ((ush (x0 - ((ush x0 1) &&& 1431655765)) 2) &&& 858993459)) + (ush (((x0 - ((ush x0 1) &&& 1431655765)) &&& 858993459) + ((ush (x0 - ((ush x0 1) &&& 1431655765)) 2) &&& 858993459)) 4)) &&& 252645135) + (ush (((((x0 - ((ush x0 1) &&& 1431655765)) &&& 858993459) + ((ush (x0 - ((ush x0 1) &&& 1431655765)) 2) &&& 858993459)) + (ush (((x0 - ((ush x0 1) &&& 1431655765)) &&& 858993459) + ((ush (x0 - ((ush x0 1) &&& 1431655765)) 2) &&& 858993459)) 4)) &&& 252645135) 8)))]) X dJ16_bitCount_40 (by decide) rfl ?_
  refine wm_iload_n X 0 dJ16_bitCount_41 rfl ?_
  refine wm_iload_n X 0 dJ16_bitCount_42 rfl ?_
  refine wm_bipush (v := 16) X dJ16_bitCount_43 (by decide) ?_
  refine wm_iushr X dJ16_bitCount_45 ?_
  refine wm_iadd X dJ16_bitCount_46 ?_
  refine wm_istore_n (ℓ' := [(0, .int (((((((x0 - ((ush x0 1) &&& 1431655765)) &&& 858993459) + ((ush (x0 - ((ush x0 1) &&& 1431655765)) 2) &&& 858993459)) + (ush (((x0 - ((ush x0 1) &&& 1431655765)) &&& 858993459) + ((ush (x0 - ((ush x0 1) &&& 1431655765)) 2) &&& 858993459)) 4)) &&& 252645135) + (ush (((((x0 - ((ush x0 1) &&& 1431655765)) &&& 858993459) + ((ush (x0 - ((ush x0 1) &&& 1431655765)) 2) &&& 858993459)) + (ush (((x0 - ((ush x0 1) &&& 1431655765)) &&& 858993459) + ((ush (x0 - ((ush x0 1) &&& 1431655765)) 2) &&& 858993459)) 4)) &&& 252645135) 8)) + (ush ((((((x0 - ((ush x0 1) &&& 1431655765)) &&& 858993459) + ((ush (x0 - ((ush x0 1) &&& 1431655765)) 2) &&& 858993459)) + (ush (((x0 - ((ush x0 1) &&& 1431655765)) &&& 858993459) + ((ush (x0 - ((ush x0 1) &&& 1431655765)) 2) &&& 858993459)) 4)) &&& 252645135) + (ush (((((x0 - ((ush x0 1) &&& 1431655765)) &&& 858993459) + ((ush (x0 - ((ush x0 1) &&& 1431655765)) 2) &&& 858993459)) + (ush (((x0 - ((ush x0 1) &&& 1431655765)) &&& 858993459) + ((ush (x0 - ((ush x0 1) &&& 1431655765)) 2) &&& 858993459)) 4)) &&& 252645135) 8)) 16)))]) X dJ16_bitCount_47 (by decide) rfl ?_
  refine wm_iload_n X 0 dJ16_bitCount_48 rfl ?_
  refine wm_bipush (v := 63) X dJ16_bitCount_49 (by decide) ?_
  refine wm_iand X dJ16_bitCount_51 ?_
  exact wm_iret X hr h dJ16_bitCount_52 (Nat.le_of_ble_eq_true rfl) (Nat.le_of_ble_eq_true rfl)
theorem mdJ16_numberOfTrailingZeros : MD yJ16_numberOfTrailingZeros 1 := by unfold MD; decide +kernel
theorem msJ16_numberOfTrailingZeros : MS yJ16_numberOfTrailingZeros cJ16_numberOfTrailingZeros 2 ((some FieldType.int)) := ⟨q545, q154, q546⟩
set_option maxHeartbeats 4000000 in
theorem ctJ16_numberOfTrailingZeros (l : Launch) {x0 : Int32} {σ σf : Mm} {r : Int32} (h : FJ16_numberOfTrailingZeros x0 σ = some (r, σf)) : CTi l yJ16_numberOfTrailingZeros (ws_ yJ16_numberOfTrailingZeros cJ16_numberOfTrailingZeros 2 ((some FieldType.int))) 0 0 0 0 [.int x0] σ r σf := by
  refine ct_start (n := 1) mdJ16_numberOfTrailingZeros (Nat.le_of_ble_eq_true rfl) (c1_i c1_0) (fun p e s m args below meth c D dA sz0 ad0 X hS hr hnm => ?_)
  have X : CX p s m args meth c cJ16_numberOfTrailingZeros 2 RJ16 := X
  generalize mN σ = N0
  unfold FJ16_numberOfTrailingZeros at h
  refine wm_iload_n X 0 dJ16_numberOfTrailingZeros_0 rfl ?_
  refine wm_iconst (v := (-1)) X dJ16_numberOfTrailingZeros_1 (by decide) ?_
  refine wm_ixor X dJ16_numberOfTrailingZeros_2 ?_
  refine wm_iload_n X 0 dJ16_numberOfTrailingZeros_3 rfl ?_
  refine wm_iconst (v := 1) X dJ16_numberOfTrailingZeros_4 (by decide) ?_
  refine wm_isub X dJ16_numberOfTrailingZeros_5 ?_
  refine wm_iand X dJ16_numberOfTrailingZeros_6 ?_
  refine wm_istore_n (ℓ' := [(0, .int ((x0 ^^^ (-1)) &&& (x0 - 1)))]) X dJ16_numberOfTrailingZeros_7 (by decide) rfl ?_
  refine wm_iload_n X 0 dJ16_numberOfTrailingZeros_8 rfl ?_
  refine wm_if_gt X 17 h dJ16_numberOfTrailingZeros_9 (by decide) (fun c33 h => ?_) (fun c33 h => ?_)
  · refine wm_iconst (v := 1) X dJ16_numberOfTrailingZeros_17 (by decide) ?_
    refine wm_istore_n (ℓ' := [(1, .int 1), (0, .int ((x0 ^^^ (-1)) &&& (x0 - 1)))]) X dJ16_numberOfTrailingZeros_18 (by decide) rfl ?_
    refine wm_iload_n X 1 dJ16_numberOfTrailingZeros_19 rfl ?_
    refine wm_ldcw X dJ16_numberOfTrailingZeros_20 q547 ?_
    obtain ⟨J34, eJ34, h⟩ := jn_e h
    have hJ34 : ∀ (x21 : Int32) (x22 : Int32) (σ : Mm), J34 x21 x22 σ = some (r, σf) → WMi p l e s m args below meth c 0 0 0 0 2 D dA sz0 ad0 N0 r σf 0 0 σ [(0, .int x21), (1, .int x22)] [] 34 := by
      intro x21 x22 σ h
      rw [eJ34] at h
      refine wm_iload_n X 0 dJ16_numberOfTrailingZeros_34 rfl ?_
      refine wm_sipush (v := 256) X dJ16_numberOfTrailingZeros_35 (by decide) ?_
      obtain ⟨J49, eJ49, h⟩ := jn_e h
      have hJ49 : ∀ (x23 : Int32) (x24 : Int32) (σ : Mm), J49 x23 x24 σ = some (r, σf) → WMi p l e s m args below meth c 0 0 0 0 2 D dA sz0 ad0 N0 r σf 0 0 σ [(0, .int x23), (1, .int x24)] [] 49 := by
        intro x23 x24 σ h
        rw [eJ49] at h
        refine wm_iload_n X 0 dJ16_numberOfTrailingZeros_49 rfl ?_
        refine wm_bipush (v := 16) X dJ16_numberOfTrailingZeros_50 (by decide) ?_
        obtain ⟨J62, eJ62, h⟩ := jn_e h
        have hJ62 : ∀ (x25 : Int32) (x26 : Int32) (σ : Mm), J62 x25 x26 σ = some (r, σf) → WMi p l e s m args below meth c 0 0 0 0 2 D dA sz0 ad0 N0 r σf 0 0 σ [(0, .int x25), (1, .int x26)] [] 62 := by
          intro x25 x26 σ h
          rw [eJ62] at h
          refine wm_iload_n X 0 dJ16_numberOfTrailingZeros_62 rfl ?_
          refine wm_iconst (v := 4) X dJ16_numberOfTrailingZeros_63 (by decide) ?_
          obtain ⟨J74, eJ74, h⟩ := jn_e h
          have hJ74 : ∀ (x27 : Int32) (x28 : Int32) (σ : Mm), J74 x27 x28 σ = some (r, σf) → WMi p l e s m args below meth c 0 0 0 0 2 D dA sz0 ad0 N0 r σf 0 0 σ [(0, .int x27), (1, .int x28)] [] 74 := by
            intro x27 x28 σ h
            rw [eJ74] at h
            refine wm_iload_n X 1 dJ16_numberOfTrailingZeros_74 rfl ?_
            refine wm_iload_n X 0 dJ16_numberOfTrailingZeros_75 rfl ?_
            refine wm_iconst (v := 1) X dJ16_numberOfTrailingZeros_76 (by decide) ?_
            refine wm_iushr X dJ16_numberOfTrailingZeros_77 ?_
            refine wm_iadd X dJ16_numberOfTrailingZeros_78 ?_
            exact wm_iret X hr h dJ16_numberOfTrailingZeros_79 (Nat.le_of_ble_eq_true rfl) (Nat.le_of_ble_eq_true rfl)
          clear eJ74
          refine wm_icmp_le X 74 h dJ16_numberOfTrailingZeros_64 (by decide) (fun c29 h => ?_) (fun c29 h => ?_)
          · exact hJ74 _ _ _ h
          · refine wm_iinc (v := (x26 + 2)) (ℓ' := [(1, .int (x26 + 2)), (0, .int x25)]) X 1 dJ16_numberOfTrailingZeros_67 rfl rfl (by decide) rfl ?_
            refine wm_iload_n X 1 dJ16_numberOfTrailingZeros_70 rfl ?_
            refine wm_iconst (v := 2) X dJ16_numberOfTrailingZeros_71 (by decide) ?_
            refine wm_iushr X dJ16_numberOfTrailingZeros_72 ?_
            refine wm_istore_n (ℓ' := [(0, .int (ush x25 2)), (1, .int (x26 + 2))]) X dJ16_numberOfTrailingZeros_73 (by decide) rfl ?_
            exact hJ74 _ _ _ h
        clear eJ62
        refine wm_icmp_le X 62 h dJ16_numberOfTrailingZeros_52 (by decide) (fun c30 h => ?_) (fun c30 h => ?_)
        · exact hJ62 _ _ _ h
        · refine wm_iinc (v := (x24 + 4)) (ℓ' := [(1, .int (x24 + 4)), (0, .int x23)]) X 1 dJ16_numberOfTrailingZeros_55 rfl rfl (by decide) rfl ?_
          refine wm_iload_n X 1 dJ16_numberOfTrailingZeros_58 rfl ?_
          refine wm_iconst (v := 4) X dJ16_numberOfTrailingZeros_59 (by decide) ?_
          refine wm_iushr X dJ16_numberOfTrailingZeros_60 ?_
          refine wm_istore_n (ℓ' := [(0, .int (ush x23 4)), (1, .int (x24 + 4))]) X dJ16_numberOfTrailingZeros_61 (by decide) rfl ?_
          exact hJ62 _ _ _ h
      clear eJ49
      refine wm_icmp_le X 49 h dJ16_numberOfTrailingZeros_38 (by decide) (fun c31 h => ?_) (fun c31 h => ?_)
      · exact hJ49 _ _ _ h
      · refine wm_iinc (v := (x22 + 8)) (ℓ' := [(1, .int (x22 + 8)), (0, .int x21)]) X 1 dJ16_numberOfTrailingZeros_41 rfl rfl (by decide) rfl ?_
        refine wm_iload_n X 1 dJ16_numberOfTrailingZeros_44 rfl ?_
        refine wm_bipush (v := 8) X dJ16_numberOfTrailingZeros_45 (by decide) ?_
        refine wm_iushr X dJ16_numberOfTrailingZeros_47 ?_
        refine wm_istore_n (ℓ' := [(0, .int (ush x21 8)), (1, .int (x22 + 8))]) X dJ16_numberOfTrailingZeros_48 (by decide) rfl ?_
        exact hJ49 _ _ _ h
    clear eJ34
    refine wm_icmp_le X 34 h dJ16_numberOfTrailingZeros_23 (by decide) (fun c32 h => ?_) (fun c32 h => ?_)
    · refine wm_sub (ℓ' := [(0, .int ((x0 ^^^ (-1)) &&& (x0 - 1))), (1, .int 1)]) [1, 0] rfl ?_
      exact hJ34 _ _ _ h
    · refine wm_iinc (v := (1 + 16)) (ℓ' := [(1, .int (1 + 16)), (0, .int ((x0 ^^^ (-1)) &&& (x0 - 1)))]) X 0 dJ16_numberOfTrailingZeros_26 rfl rfl (by decide) rfl ?_
      refine wm_iload_n X 1 dJ16_numberOfTrailingZeros_29 rfl ?_
      refine wm_bipush (v := 16) X dJ16_numberOfTrailingZeros_30 (by decide) ?_
      refine wm_iushr X dJ16_numberOfTrailingZeros_32 ?_
      refine wm_istore_n (ℓ' := [(0, .int (ush ((x0 ^^^ (-1)) &&& (x0 - 1)) 16)), (1, .int (1 + 16))]) X dJ16_numberOfTrailingZeros_33 (by decide) rfl ?_
      exact hJ34 _ _ _ h
  · refine wm_iload_n X 0 dJ16_numberOfTrailingZeros_12 rfl ?_
    refine wm_bipush (v := 32) X dJ16_numberOfTrailingZeros_13 (by decide) ?_
    refine wm_iand X dJ16_numberOfTrailingZeros_15 ?_
    exact wm_iret X hr h dJ16_numberOfTrailingZeros_16 (Nat.le_of_ble_eq_true rfl) (Nat.le_of_ble_eq_true rfl)
theorem mdX1_isClosed : MD yX1_isClosed 1 := by unfold MD; decide +kernel
theorem mvX1_isClosed : MV yX1_isClosed cX1_isClosed 4 ((some FieldType.boolean)) := ⟨q550, qs3, q128, q551⟩
set_option maxHeartbeats 4000000 in
theorem wX1_isClosed_11 {p : Program} {l : Launch} {e : Env} {s : State} {m : MethodId} {args : Array Value} {below : List Frame} {meth : Method} {c : Code} {D : va_G} {dA : Nat → ClassId} {sz0 : Nat} {ad0 : Nat → Nat} {N0 : Nat} {r : Int32} {σf : Mm} (X : CX p s m args meth c cX1_isClosed 4 RX1) (hS : ST D dA sz0 ad0 s) (hr : meth.sig.returnType = (some FieldType.boolean)) (hnm : meth.name = yX1_isClosed.name) (h0 : Nat) (y1 : Int32) : ∀ (n : Nat) (v2 : Int32) (v3 : Int32) (σ : Mm) (kx44 : Mm → Option (Int32 × Mm)) (kx27 : Mm → Option (Int32 × Mm)), FX1_isClosed_11 h0 y1 n v2 v3 σ kx44 kx27 = some (r, σf) → (∀  (σ : Mm), kx44 σ = some (r, σf) → WMi p l e s m args below meth c 1 22 0 0 4 D dA sz0 ad0 N0 r σf 0 0 σ [] [] 44) → (∀  (σ : Mm), kx27 σ = some (r, σf) → WMi p l e s m args below meth c 1 22 0 0 4 D dA sz0 ad0 N0 r σf 0 0 σ [] [] 27) → WMi p l e s m args below meth c 1 22 0 0 4 D dA sz0 ad0 N0 r σf 0 0 σ [(0, va_rf (some h0)), (1, .int y1), (2, .int v2), (3, .int v3)] [] 11 := by
  intro n
  induction n with
  | zero =>
    intro v2 v3 σ kx44 kx27 h hkx44 hkx27
    cases h
  | succ n ih =>
    intro v2 v3 σ kx44 kx27 h hkx44 hkx27
    rw [FX1_isClosed_11] at h
    refine wm_iload_n X 3 dX1_isClosed_11 rfl ?_
    refine wm_bipush (v := 10) X dX1_isClosed_12 (by decide) ?_
    refine wm_icmp_ge X 44 h dX1_isClosed_14 (by decide) (fun c33 h => ?_) (fun c33 h => ?_)
    · refine wm_sub (ℓ' := []) [] rfl ?_
      exact hkx44 _ h
    · refine wm_iload_n X 2 dX1_isClosed_17 rfl ?_
      refine wm_iconst (v := (-1)) X dX1_isClosed_18 (by decide) ?_
      refine wm_icmp_eq X 44 h dX1_isClosed_19 (by decide) (fun c32 h => ?_) (fun c32 h => ?_)
      · refine wm_sub (ℓ' := []) [] rfl ?_
        exact hkx44 _ h
      · refine wm_iload_n X 2 dX1_isClosed_22 rfl ?_
        refine wm_iload_n X 1 dX1_isClosed_23 rfl ?_
        refine wm_icmp_ne X 29 h dX1_isClosed_24 (by decide) (fun c31 h => ?_) (fun c31 h => ?_)
        · refine wm_aload_n X 0 dX1_isClosed_29 rfl ?_
          refine wm_gR X hS cd_1 0 h dX1_isClosed_30 (Nat.le_of_ble_eq_true rfl) rfl q434 (fun x26 h => ?_)
          refine wm_iload_n X 2 dX1_isClosed_33 rfl ?_
          obtain ⟨q27, eq27, h⟩ := Option.bind_eq_some_iff.mp h
          obtain ⟨eq27, s28⟩ := rv_some eq27
          refine wm_cV_i (As := [.int v2]) (st := []) X hS cd_2 s28 rfl h (fun _ _ hF => ctX2_wearer l hF) mdX2_wearer mvX2_wearer q507 dX1_isClosed_34 rfl (by rw [eq27]; first | done | rfl) c1_0 (Nat.le_of_ble_eq_true rfl) ⟨Nat.le_of_ble_eq_true rfl, Nat.le_of_ble_eq_true rfl⟩ ⟨Nat.le_of_ble_eq_true rfl, Nat.le_of_ble_eq_true rfl⟩ (fun x29 σ30 _ h => ?_)
          refine wm_istore_n (ℓ' := [(2, .int x29), (0, va_rf (some h0)), (1, .int y1), (3, .int v3)]) X dX1_isClosed_37 (by decide) rfl ?_
          refine wm_iinc (v := (v3 + 1)) (ℓ' := [(3, .int (v3 + 1)), (2, .int x29), (0, va_rf (some h0)), (1, .int y1)]) X 3 dX1_isClosed_38 rfl rfl (by decide) rfl ?_
          refine wm_goto X 11 dX1_isClosed_41 (by decide) ?_
          refine wm_sub (ℓ' := [(0, va_rf (some h0)), (1, .int y1), (2, .int x29), (3, .int (v3 + 1))]) [2, 3, 1, 0] rfl ?_
          exact ih _ _ _ _ _ h hkx44 hkx27
        · refine wm_sub (ℓ' := []) [] rfl ?_
          exact hkx27 _ h
set_option maxHeartbeats 4000000 in
theorem ctX1_isClosed (l : Launch) {h0 : Nat} {x1 : Int32} {σ σf : Mm} {r : Int32} (h : FX1_isClosed h0 x1 σ = some (r, σf)) : CTi l yX1_isClosed (ws_ yX1_isClosed cX1_isClosed 4 ((some FieldType.boolean))) 1 22 0 0 [va_rf (some h0), .int x1] σ r σf := by
  refine ct_start (n := 1) mdX1_isClosed (Nat.le_of_ble_eq_true rfl) (c1_r (c1_i c1_0)) (fun p e s m args below meth c D dA sz0 ad0 X hS hr hnm => ?_)
  have X : CX p s m args meth c cX1_isClosed 4 RX1 := X
  generalize mN σ = N0
  unfold FX1_isClosed at h
  refine wm_aload_n X 0 dX1_isClosed_0 rfl ?_
  refine wm_gR X hS cd_1 0 h dX1_isClosed_1 (Nat.le_of_ble_eq_true rfl) rfl q434 (fun x21 h => ?_)
  refine wm_iload_n X 1 dX1_isClosed_4 rfl ?_
  obtain ⟨q22, eq22, h⟩ := Option.bind_eq_some_iff.mp h
  obtain ⟨eq22, s23⟩ := rv_some eq22
  refine wm_cV_i (As := [.int x1]) (st := []) X hS cd_2 s23 rfl h (fun _ _ hF => ctX2_wearer l hF) mdX2_wearer mvX2_wearer q507 dX1_isClosed_5 rfl (by rw [eq22]; first | done | rfl) c1_0 (Nat.le_of_ble_eq_true rfl) ⟨Nat.le_of_ble_eq_true rfl, Nat.le_of_ble_eq_true rfl⟩ ⟨Nat.le_of_ble_eq_true rfl, Nat.le_of_ble_eq_true rfl⟩ (fun x24 σ25 _ h => ?_)
  refine wm_istore_n (ℓ' := [(2, .int x24), (0, va_rf (some h0)), (1, .int x1)]) X dX1_isClosed_8 (by decide) rfl ?_
  refine wm_iconst (v := 0) X dX1_isClosed_9 (by decide) ?_
  refine wm_istore_n (ℓ' := [(3, .int 0), (2, .int x24), (0, va_rf (some h0)), (1, .int x1)]) X dX1_isClosed_10 (by decide) rfl ?_
  refine wm_sub (ℓ' := [(0, va_rf (some h0)), (1, .int x1), (2, .int x24), (3, .int 0)]) [2, 3, 1, 0] rfl ?_
  refine wX1_isClosed_11 X hS hr hnm _ _ fu _ _ _ _ _ h (fun σ h => ?_) (fun σ h => ?_)
  · refine wm_iconst (v := 0) X dX1_isClosed_44 (by decide) ?_
    exact wm_zret X hr h dX1_isClosed_45 (Nat.le_of_ble_eq_true rfl) (Nat.le_of_ble_eq_true rfl)
  · refine wm_iconst (v := 1) X dX1_isClosed_27 (by decide) ?_
    exact wm_zret X hr h dX1_isClosed_28 (Nat.le_of_ble_eq_true rfl) (Nat.le_of_ble_eq_true rfl)
theorem mdX1_begins : MD yX1_begins 1 := by unfold MD; decide +kernel
theorem mvX1_begins : MV yX1_begins cX1_begins 3 ((some FieldType.boolean)) := ⟨q529, qs1, q128, q530⟩
set_option maxHeartbeats 4000000 in
theorem ctX1_begins (l : Launch) {h0 : Nat} {x1 : Int32} {σ σf : Mm} {r : Int32} (h : FX1_begins h0 x1 σ = some (r, σf)) : CTi l yX1_begins (ws_ yX1_begins cX1_begins 3 ((some FieldType.boolean))) 2 45 0 0 [va_rf (some h0), .int x1] σ r σf := by
  refine ct_start (n := 1) mdX1_begins (Nat.le_of_ble_eq_true rfl) (c1_r (c1_i c1_0)) (fun p e s m args below meth c D dA sz0 ad0 X hS hr hnm => ?_)
  have X : CX p s m args meth c cX1_begins 3 RX1 := X
  generalize mN σ = N0
  unfold FX1_begins at h
  refine wm_aload_n X 0 dX1_begins_0 rfl ?_
  refine wm_iload_n X 1 dX1_begins_1 rfl ?_
  obtain ⟨s21, h⟩ := ck_e h
  refine wm_cV_i (As := [.int x1]) (st := []) X hS cd_1 s21 rfl h (fun _ _ hF => ctX1_ringOf l hF) mdX1_ringOf mvX1_ringOf q531 dX1_begins_2 rfl rfl c1_0 (Nat.le_of_ble_eq_true rfl) ⟨Nat.le_of_ble_eq_true rfl, Nat.le_of_ble_eq_true rfl⟩ ⟨Nat.le_of_ble_eq_true rfl, Nat.le_of_ble_eq_true rfl⟩ (fun x22 σ23 _ h => ?_)
  refine wm_istore_n (ℓ' := [(2, .int x22), (0, va_rf (some h0)), (1, .int x1)]) X dX1_begins_5 (by decide) rfl ?_
  refine wm_iload_n X 0 dX1_begins_6 rfl ?_
  refine wm_cS_i (As := [.int x22]) (st := []) X hS h (fun _ _ hF => ctJ16_bitCount l hF) mdJ16_bitCount msJ16_bitCount q538 dX1_begins_7 rfl rfl c1_0 (Nat.le_of_ble_eq_true rfl) ⟨Nat.le_of_ble_eq_true rfl, Nat.le_of_ble_eq_true rfl⟩ ⟨Nat.le_of_ble_eq_true rfl, Nat.le_of_ble_eq_true rfl⟩ (fun x24 σ25 _ h => ?_)
  refine wm_iconst (v := 1) X dX1_begins_10 (by decide) ?_
  refine wm_icmp_le X 34 h dX1_begins_11 (by decide) (fun c33 h => ?_) (fun c33 h => ?_)
  · refine wm_iconst (v := 0) X dX1_begins_34 (by decide) ?_
    exact wm_zret X hr h dX1_begins_35 (Nat.le_of_ble_eq_true rfl) (Nat.le_of_ble_eq_true rfl)
  · refine wm_iload_n X 0 dX1_begins_14 rfl ?_
    refine wm_cS_i (As := [.int x22]) (st := []) X hS h (fun _ _ hF => ctJ16_numberOfTrailingZeros l hF) mdJ16_numberOfTrailingZeros msJ16_numberOfTrailingZeros q544 dX1_begins_15 rfl rfl c1_0 (Nat.le_of_ble_eq_true rfl) ⟨Nat.le_of_ble_eq_true rfl, Nat.le_of_ble_eq_true rfl⟩ ⟨Nat.le_of_ble_eq_true rfl, Nat.le_of_ble_eq_true rfl⟩ (fun x26 σ27 _ h => ?_)
    refine wm_iload_n X 2 dX1_begins_18 rfl ?_
    refine wm_icmp_ne X 34 h dX1_begins_19 (by decide) (fun c32 h => ?_) (fun c32 h => ?_)
    · refine wm_iconst (v := 0) X dX1_begins_34 (by decide) ?_
      exact wm_zret X hr h dX1_begins_35 (Nat.le_of_ble_eq_true rfl) (Nat.le_of_ble_eq_true rfl)
    · refine wm_aload_n X 1 dX1_begins_22 rfl ?_
      refine wm_iload_n X 2 dX1_begins_23 rfl ?_
      obtain ⟨s28, h⟩ := ck_e h
      refine wm_cV_i (As := [.int x1]) (st := []) X hS cd_1 s28 rfl h (fun _ _ hF => ctX1_isClosed l hF) mdX1_isClosed mvX1_isClosed q548 dX1_begins_24 rfl rfl c1_0 (Nat.le_of_ble_eq_true rfl) ⟨Nat.le_of_ble_eq_true rfl, Nat.le_of_ble_eq_true rfl⟩ ⟨Nat.le_of_ble_eq_true rfl, Nat.le_of_ble_eq_true rfl⟩ (fun x29 σ30 _ h => ?_)
      refine wm_if_eq X 34 h dX1_begins_27 (by decide) (fun c31 h => ?_) (fun c31 h => ?_)
      · refine wm_iconst (v := 0) X dX1_begins_34 (by decide) ?_
        exact wm_zret X hr h dX1_begins_35 (Nat.le_of_ble_eq_true rfl) (Nat.le_of_ble_eq_true rfl)
      · refine wm_iconst (v := 1) X dX1_begins_30 (by decide) ?_
        refine wm_goto X 35 dX1_begins_31 (by decide) ?_
        exact wm_zret X hr h dX1_begins_35 (Nat.le_of_ble_eq_true rfl) (Nat.le_of_ble_eq_true rfl)
theorem mdX1_swaps : MD yX1_swaps 0 := by unfold MD; decide +kernel
theorem mvX1_swaps : MV yX1_swaps cX1_swaps 3 ((some FieldType.int)) := ⟨q524, q525, q128, q526⟩
set_option maxHeartbeats 4000000 in
theorem wX1_swaps_4 {p : Program} {l : Launch} {e : Env} {s : State} {m : MethodId} {args : Array Value} {below : List Frame} {meth : Method} {c : Code} {D : va_G} {dA : Nat → ClassId} {sz0 : Nat} {ad0 : Nat → Nat} {N0 : Nat} {r : Int32} {σf : Mm} (X : CX p s m args meth c cX1_swaps 3 RX1) (hS : ST D dA sz0 ad0 s) (hr : meth.sig.returnType = (some FieldType.int)) (hnm : meth.name = yX1_swaps.name) (h0 : Nat) : ∀ (n : Nat) (v1 : Int32) (v2 : Int32) (σ : Mm) (kx66 : Int32 → Mm → Option (Int32 × Mm)), FX1_swaps_4 h0 n v1 v2 σ kx66 = some (r, σf) → (∀ (w1 : Int32) (σ : Mm), kx66 w1 σ = some (r, σf) → WMi p l e s m args below meth c 3 67 0 0 3 D dA sz0 ad0 N0 r σf 0 0 σ [(1, .int w1)] [] 66) → WMi p l e s m args below meth c 3 67 0 0 3 D dA sz0 ad0 N0 r σf 0 0 σ [(0, va_rf (some h0)), (1, .int v1), (2, .int v2)] [] 4 := by
  intro n
  induction n with
  | zero =>
    intro v1 v2 σ kx66 h hkx66
    cases h
  | succ n ih =>
    intro v1 v2 σ kx66 h hkx66
    rw [FX1_swaps_4] at h
    refine wm_iload_n X 2 dX1_swaps_4 rfl ?_
    refine wm_aload_n X 0 dX1_swaps_5 rfl ?_
    refine wm_gR X hS cd_1 0 h dX1_swaps_6 (Nat.le_of_ble_eq_true rfl) rfl q434 (fun x21 h => ?_)
    refine wm_gIN X hS cd_2 1 h dX1_swaps_9 (Nat.le_of_ble_eq_true rfl) rfl 1 rfl (fun x22 h => ?_)
    refine wm_icmp_ge X 66 h dX1_swaps_12 (by decide) (fun c37 h => ?_) (fun c37 h => ?_)
    · refine wm_sub (ℓ' := [(1, .int v1)]) [1] rfl ?_
      exact hkx66 _ _ h
    · refine wm_iload_n X 1 dX1_swaps_15 rfl ?_
      refine wm_aload_n X 0 dX1_swaps_16 rfl ?_
      refine wm_iload_n X 2 dX1_swaps_17 rfl ?_
      obtain ⟨s23, h⟩ := ck_e h
      refine wm_cV_i (As := [.int v2]) (st := [.int v1]) X hS cd_1 s23 rfl h (fun _ _ hF => ctX1_isLost l hF) mdX1_isLost mvX1_isLost q503 dX1_swaps_18 rfl rfl (c1_i c1_0) (Nat.le_of_ble_eq_true rfl) ⟨Nat.le_of_ble_eq_true rfl, Nat.le_of_ble_eq_true rfl⟩ ⟨Nat.le_of_ble_eq_true rfl, Nat.le_of_ble_eq_true rfl⟩ (fun x24 σ25 _ h => ?_)
      obtain ⟨J42, eJ42, h⟩ := jn_e h
      have hJ42 : ∀ (z26 : Int32) (σ : Mm), J42 z26 σ = some (r, σf) → WMi p l e s m args below meth c 3 67 0 0 3 D dA sz0 ad0 N0 r σf 0 0 σ [(0, va_rf (some h0)), (2, .int v2)] [.int z26, .int v1] 42 := by
        intro z26 σ h
        rw [eJ42] at h
        refine wm_iadd X dX1_swaps_42 ?_
        refine wm_istore_n (ℓ' := [(1, .int (v1 + z26)), (0, va_rf (some h0)), (2, .int v2)]) X dX1_swaps_43 (by decide) rfl ?_
        refine wm_iload_n X 0 dX1_swaps_44 rfl ?_
        refine wm_aload_n X 1 dX1_swaps_45 rfl ?_
        refine wm_iload_n X 2 dX1_swaps_46 rfl ?_
        obtain ⟨s27, h⟩ := ck_e h
        refine wm_cV_i (As := [.int v2]) (st := [.int (v1 + z26)]) X hS cd_1 s27 rfl h (fun _ _ hF => ctX1_begins l hF) mdX1_begins mvX1_begins q527 dX1_swaps_47 rfl rfl (c1_i c1_0) (Nat.le_of_ble_eq_true rfl) ⟨Nat.le_of_ble_eq_true rfl, Nat.le_of_ble_eq_true rfl⟩ ⟨Nat.le_of_ble_eq_true rfl, Nat.le_of_ble_eq_true rfl⟩ (fun x28 σ29 _ h => ?_)
        obtain ⟨J58, eJ58, h⟩ := jn_e h
        have hJ58 : ∀ (z30 : Int32) (σ : Mm), J58 z30 σ = some (r, σf) → WMi p l e s m args below meth c 3 67 0 0 3 D dA sz0 ad0 N0 r σf 0 0 σ [(0, va_rf (some h0)), (2, .int v2)] [.int z30, .int (v1 + z26)] 58 := by
          intro z30 σ h
          rw [eJ58] at h
          refine wm_isub X dX1_swaps_58 ?_
          refine wm_istore_n (ℓ' := [(1, .int ((v1 + z26) - z30)), (0, va_rf (some h0)), (2, .int v2)]) X dX1_swaps_59 (by decide) rfl ?_
          refine wm_iinc (v := (v2 + 1)) (ℓ' := [(2, .int (v2 + 1)), (1, .int ((v1 + z26) - z30)), (0, va_rf (some h0))]) X 2 dX1_swaps_60 rfl rfl (by decide) rfl ?_
          refine wm_goto X 4 dX1_swaps_63 (by decide) ?_
          refine wm_sub (ℓ' := [(0, va_rf (some h0)), (1, .int ((v1 + z26) - z30)), (2, .int (v2 + 1))]) [2, 1, 0] rfl ?_
          exact ih _ _ _ _ h hkx66
        clear eJ58
        refine wm_if_eq X 57 h dX1_swaps_50 (by decide) (fun c31 h => ?_) (fun c31 h => ?_)
        · refine wm_iconst (v := 0) X dX1_swaps_57 (by decide) ?_
          refine wm_sub (ℓ' := [(0, va_rf (some h0)), (2, .int v2)]) [1, 2] rfl ?_
          exact hJ58 _ _ h
        · refine wm_iconst (v := 1) X dX1_swaps_53 (by decide) ?_
          refine wm_goto X 58 dX1_swaps_54 (by decide) ?_
          refine wm_sub (ℓ' := [(0, va_rf (some h0)), (2, .int v2)]) [1, 2] rfl ?_
          exact hJ58 _ _ h
      clear eJ42
      refine wm_if_ne X 41 h dX1_swaps_21 (by decide) (fun c36 h => ?_) (fun c36 h => ?_)
      · refine wm_iconst (v := 0) X dX1_swaps_41 (by decide) ?_
        refine wm_sub (ℓ' := [(0, va_rf (some h0)), (2, .int v2)]) [0, 2] rfl ?_
        exact hJ42 _ _ h
      · refine wm_aload_n X 0 dX1_swaps_24 rfl ?_
        refine wm_gR X hS cd_1 0 h dX1_swaps_25 (Nat.le_of_ble_eq_true rfl) rfl q434 (fun x32 h => ?_)
        refine wm_gRN X hS cd_2 10 h dX1_swaps_28 (Nat.le_of_ble_eq_true rfl) rfl 10 rfl (fun x33 h => ?_)
        refine wm_iload_n X 2 dX1_swaps_31 rfl ?_
        refine wm_iaload X hS h dX1_swaps_32 (fun x34 h => ?_)
        refine wm_iload_n X 2 dX1_swaps_33 rfl ?_
        refine wm_icmp_eq X 41 h dX1_swaps_34 (by decide) (fun c35 h => ?_) (fun c35 h => ?_)
        · refine wm_iconst (v := 0) X dX1_swaps_41 (by decide) ?_
          refine wm_sub (ℓ' := [(0, va_rf (some h0)), (2, .int v2)]) [0, 2] rfl ?_
          exact hJ42 _ _ h
        · refine wm_iconst (v := 1) X dX1_swaps_37 (by decide) ?_
          refine wm_goto X 42 dX1_swaps_38 (by decide) ?_
          refine wm_sub (ℓ' := [(0, va_rf (some h0)), (2, .int v2)]) [0, 2] rfl ?_
          exact hJ42 _ _ h
set_option maxHeartbeats 4000000 in
theorem ctX1_swaps (l : Launch) {h0 : Nat} {σ σf : Mm} {r : Int32} (h : FX1_swaps h0 σ = some (r, σf)) : CTi l yX1_swaps (ws_ yX1_swaps cX1_swaps 3 ((some FieldType.int))) 3 67 0 0 [va_rf (some h0)] σ r σf := by
  refine ct_start (n := 0) mdX1_swaps (Nat.le_of_ble_eq_true rfl) (c1_r c1_0) (fun p e s m args below meth c D dA sz0 ad0 X hS hr hnm => ?_)
  have X : CX p s m args meth c cX1_swaps 3 RX1 := X
  generalize mN σ = N0
  unfold FX1_swaps at h
  refine wm_iconst (v := 0) X dX1_swaps_0 (by decide) ?_
  refine wm_istore_n (ℓ' := [(1, .int 0), (0, va_rf (some h0))]) X dX1_swaps_1 (by decide) rfl ?_
  refine wm_iconst (v := 0) X dX1_swaps_2 (by decide) ?_
  refine wm_istore_n (ℓ' := [(2, .int 0), (1, .int 0), (0, va_rf (some h0))]) X dX1_swaps_3 (by decide) rfl ?_
  refine wm_sub (ℓ' := [(0, va_rf (some h0)), (1, .int 0), (2, .int 0)]) [2, 1, 0] rfl ?_
  refine wX1_swaps_4 X hS hr hnm _ fu _ _ _ _ h (fun x38 σ h => ?_)
  · refine wm_iload_n X 0 dX1_swaps_66 rfl ?_
    exact wm_iret X hr h dX1_swaps_67 (Nat.le_of_ble_eq_true rfl) (Nat.le_of_ble_eq_true rfl)
theorem mdX1_saved : MD yX1_saved 0 := by unfold MD; decide +kernel
theorem mvX1_saved : MV yX1_saved cX1_saved 4 ((some FieldType.int)) := ⟨q553, q554, q128, q555⟩
set_option maxHeartbeats 4000000 in
theorem wX1_saved_4 {p : Program} {l : Launch} {e : Env} {s : State} {m : MethodId} {args : Array Value} {below : List Frame} {meth : Method} {c : Code} {D : va_G} {dA : Nat → ClassId} {sz0 : Nat} {ad0 : Nat → Nat} {N0 : Nat} {r : Int32} {σf : Mm} (X : CX p s m args meth c cX1_saved 4 RX1) (hS : ST D dA sz0 ad0 s) (hr : meth.sig.returnType = (some FieldType.int)) (hnm : meth.name = yX1_saved.name) (h0 : Nat) : ∀ (n : Nat) (v1 : Int32) (v2 : Int32) (σ : Mm) (kx72 : Int32 → Mm → Option (Int32 × Mm)), FX1_saved_4 h0 n v1 v2 σ kx72 = some (r, σf) → (∀ (w1 : Int32) (σ : Mm), kx72 w1 σ = some (r, σf) → WMi p l e s m args below meth c 0 0 0 0 4 D dA sz0 ad0 N0 r σf 0 0 σ [(1, .int w1)] [] 72) → WMi p l e s m args below meth c 0 0 0 0 4 D dA sz0 ad0 N0 r σf 0 0 σ [(0, va_rf (some h0)), (1, .int v1), (2, .int v2)] [] 4 := by
  intro n
  induction n with
  | zero =>
    intro v1 v2 σ kx72 h hkx72
    cases h
  | succ n ih =>
    intro v1 v2 σ kx72 h hkx72
    rw [FX1_saved_4] at h
    refine wm_iload_n X 2 dX1_saved_4 rfl ?_
    refine wm_aload_n X 0 dX1_saved_5 rfl ?_
    refine wm_gR X hS cd_1 0 h dX1_saved_6 (Nat.le_of_ble_eq_true rfl) rfl q434 (fun x21 h => ?_)
    refine wm_gIN X hS cd_2 1 h dX1_saved_9 (Nat.le_of_ble_eq_true rfl) rfl 1 rfl (fun x22 h => ?_)
    refine wm_icmp_ge X 72 h dX1_saved_12 (by decide) (fun c36 h => ?_) (fun c36 h => ?_)
    · refine wm_sub (ℓ' := [(1, .int v1)]) [1] rfl ?_
      exact hkx72 _ _ h
    · refine wm_aload_n X 0 dX1_saved_15 rfl ?_
      refine wm_gR X hS cd_1 0 h dX1_saved_16 (Nat.le_of_ble_eq_true rfl) rfl q434 (fun x23 h => ?_)
      refine wm_gRN X hS cd_2 12 h dX1_saved_19 (Nat.le_of_ble_eq_true rfl) rfl 12 rfl (fun x24 h => ?_)
      refine wm_iload_n X 2 dX1_saved_22 rfl ?_
      refine wm_iaload X hS h dX1_saved_23 (fun x25 h => ?_)
      refine wm_istore_n (ℓ' := [(3, .int x25), (0, va_rf (some h0)), (1, .int v1), (2, .int v2)]) X dX1_saved_24 (by decide) rfl ?_
      refine wm_iload_n X 2 dX1_saved_25 rfl ?_
      refine wm_iload_n X 0 dX1_saved_26 rfl ?_
      refine wm_iconst (v := (-1)) X dX1_saved_27 (by decide) ?_
      obtain ⟨J64, eJ64, h⟩ := jn_e h
      have hJ64 : ∀ (z26 : Int32) (σ : Mm), J64 z26 σ = some (r, σf) → WMi p l e s m args below meth c 0 0 0 0 4 D dA sz0 ad0 N0 r σf 0 0 σ [(0, va_rf (some h0)), (2, .int v2)] [.int z26, .int v1] 64 := by
        intro z26 σ h
        rw [eJ64] at h
        refine wm_ior X dX1_saved_64 ?_
        refine wm_istore_n (ℓ' := [(1, .int (v1 ||| z26)), (0, va_rf (some h0)), (2, .int v2)]) X dX1_saved_65 (by decide) rfl ?_
        refine wm_iinc (v := (v2 + 1)) (ℓ' := [(2, .int (v2 + 1)), (1, .int (v1 ||| z26)), (0, va_rf (some h0))]) X 2 dX1_saved_66 rfl rfl (by decide) rfl ?_
        refine wm_goto X 4 dX1_saved_69 (by decide) ?_
        refine wm_sub (ℓ' := [(0, va_rf (some h0)), (1, .int (v1 ||| z26)), (2, .int (v2 + 1))]) [2, 1, 0] rfl ?_
        exact ih _ _ _ _ h hkx72
      clear eJ64
      refine wm_icmp_eq X 63 h dX1_saved_28 (by decide) (fun c35 h => ?_) (fun c35 h => ?_)
      · refine wm_iconst (v := 0) X dX1_saved_63 (by decide) ?_
        refine wm_sub (ℓ' := [(0, va_rf (some h0)), (2, .int v2)]) [1, 3] rfl ?_
        exact hJ64 _ _ h
      · refine wm_aload_n X 1 dX1_saved_31 rfl ?_
        refine wm_gR X hS cd_1 0 h dX1_saved_32 (Nat.le_of_ble_eq_true rfl) rfl q434 (fun x27 h => ?_)
        refine wm_gRN X hS cd_2 10 h dX1_saved_35 (Nat.le_of_ble_eq_true rfl) rfl 10 rfl (fun x28 h => ?_)
        refine wm_iload_n X 3 dX1_saved_38 rfl ?_
        refine wm_iaload X hS h dX1_saved_39 (fun x29 h => ?_)
        refine wm_iload_n X 0 dX1_saved_40 rfl ?_
        refine wm_icmp_ne X 63 h dX1_saved_41 (by decide) (fun c34 h => ?_) (fun c34 h => ?_)
        · refine wm_iconst (v := 0) X dX1_saved_63 (by decide) ?_
          refine wm_sub (ℓ' := [(0, va_rf (some h0)), (2, .int v2)]) [1, 3] rfl ?_
          exact hJ64 _ _ h
        · refine wm_aload_n X 1 dX1_saved_44 rfl ?_
          refine wm_gR X hS cd_1 0 h dX1_saved_45 (Nat.le_of_ble_eq_true rfl) rfl q434 (fun x30 h => ?_)
          refine wm_gRN X hS cd_2 10 h dX1_saved_48 (Nat.le_of_ble_eq_true rfl) rfl 10 rfl (fun x31 h => ?_)
          refine wm_iload_n X 0 dX1_saved_51 rfl ?_
          refine wm_iaload X hS h dX1_saved_52 (fun x32 h => ?_)
          refine wm_iload_n X 3 dX1_saved_53 rfl ?_
          refine wm_icmp_ne X 63 h dX1_saved_54 (by decide) (fun c33 h => ?_) (fun c33 h => ?_)
          · refine wm_iconst (v := 0) X dX1_saved_63 (by decide) ?_
            refine wm_sub (ℓ' := [(0, va_rf (some h0)), (2, .int v2)]) [1, 3] rfl ?_
            exact hJ64 _ _ h
          · refine wm_iconst (v := 1) X dX1_saved_57 (by decide) ?_
            refine wm_iload_n X 3 dX1_saved_58 rfl ?_
            refine wm_ishl X dX1_saved_59 ?_
            refine wm_goto X 64 dX1_saved_60 (by decide) ?_
            refine wm_sub (ℓ' := [(0, va_rf (some h0)), (2, .int v2)]) [1, 3] rfl ?_
            exact hJ64 _ _ h
set_option maxHeartbeats 4000000 in
theorem ctX1_saved (l : Launch) {h0 : Nat} {σ σf : Mm} {r : Int32} (h : FX1_saved h0 σ = some (r, σf)) : CTi l yX1_saved (ws_ yX1_saved cX1_saved 4 ((some FieldType.int))) 0 0 0 0 [va_rf (some h0)] σ r σf := by
  refine ct_start (n := 0) mdX1_saved (Nat.le_of_ble_eq_true rfl) (c1_r c1_0) (fun p e s m args below meth c D dA sz0 ad0 X hS hr hnm => ?_)
  have X : CX p s m args meth c cX1_saved 4 RX1 := X
  generalize mN σ = N0
  unfold FX1_saved at h
  refine wm_iconst (v := 0) X dX1_saved_0 (by decide) ?_
  refine wm_istore_n (ℓ' := [(1, .int 0), (0, va_rf (some h0))]) X dX1_saved_1 (by decide) rfl ?_
  refine wm_iconst (v := 0) X dX1_saved_2 (by decide) ?_
  refine wm_istore_n (ℓ' := [(2, .int 0), (1, .int 0), (0, va_rf (some h0))]) X dX1_saved_3 (by decide) rfl ?_
  refine wm_sub (ℓ' := [(0, va_rf (some h0)), (1, .int 0), (2, .int 0)]) [2, 1, 0] rfl ?_
  refine wX1_saved_4 X hS hr hnm _ fu _ _ _ _ h (fun x37 σ h => ?_)
  · refine wm_iload_n X 0 dX1_saved_72 rfl ?_
    exact wm_iret X hr h dX1_saved_73 (Nat.le_of_ble_eq_true rfl) (Nat.le_of_ble_eq_true rfl)
theorem mdX1_areUnlike : MD yX1_areUnlike 1 := by unfold MD; decide +kernel
theorem mvX1_areUnlike : MV yX1_areUnlike cX1_areUnlike 4 ((some FieldType.boolean)) := ⟨q562, qs4, q128, q563⟩
set_option maxHeartbeats 4000000 in
theorem wX1_areUnlike_15 {p : Program} {l : Launch} {e : Env} {s : State} {m : MethodId} {args : Array Value} {below : List Frame} {meth : Method} {c : Code} {D : va_G} {dA : Nat → ClassId} {sz0 : Nat} {ad0 : Nat → Nat} {N0 : Nat} {r : Int32} {σf : Mm} (X : CX p s m args meth c cX1_areUnlike 4 RX1) (hS : ST D dA sz0 ad0 s) (hr : meth.sig.returnType = (some FieldType.boolean)) (hnm : meth.name = yX1_areUnlike.name) (h0 : Nat) (y1 : Int32) (y2 : Int32) : ∀ (n : Nat) (v3 : Int32) (σ : Mm) (kx52 : Mm → Option (Int32 × Mm)) (kx44 : Mm → Option (Int32 × Mm)), FX1_areUnlike_15 h0 y1 y2 n v3 σ kx52 kx44 = some (r, σf) → (∀  (σ : Mm), kx52 σ = some (r, σf) → WMi p l e s m args below meth c 0 0 0 0 4 D dA sz0 ad0 N0 r σf 0 0 σ [(0, va_rf (some h0)), (1, .int y1), (2, .int y2)] [] 52) → (∀  (σ : Mm), kx44 σ = some (r, σf) → WMi p l e s m args below meth c 0 0 0 0 4 D dA sz0 ad0 N0 r σf 0 0 σ [] [] 44) → WMi p l e s m args below meth c 0 0 0 0 4 D dA sz0 ad0 N0 r σf 0 0 σ [(0, va_rf (some h0)), (1, .int y1), (2, .int y2), (3, .int v3)] [] 15 := by
  intro n
  induction n with
  | zero =>
    intro v3 σ kx52 kx44 h hkx52 hkx44
    cases h
  | succ n ih =>
    intro v3 σ kx52 kx44 h hkx52 hkx44
    rw [FX1_areUnlike_15] at h
    refine wm_iload_n X 3 dX1_areUnlike_15 rfl ?_
    refine wm_iload_n X 2 dX1_areUnlike_16 rfl ?_
    refine wm_icmp_ge X 52 h dX1_areUnlike_17 (by decide) (fun c30 h => ?_) (fun c30 h => ?_)
    · refine wm_sub (ℓ' := [(0, va_rf (some h0)), (1, .int y1), (2, .int y2)]) [0, 1, 2] rfl ?_
      exact hkx52 _ h
    · refine wm_aload_n X 0 dX1_areUnlike_20 rfl ?_
      refine wm_gR X hS cd_1 0 h dX1_areUnlike_21 (Nat.le_of_ble_eq_true rfl) rfl q434 (fun x23 h => ?_)
      refine wm_gRN X hS cd_2 8 h dX1_areUnlike_24 (Nat.le_of_ble_eq_true rfl) rfl 8 rfl (fun x24 h => ?_)
      refine wm_iload_n X 2 dX1_areUnlike_27 rfl ?_
      refine wm_iaload X hS h dX1_areUnlike_28 (fun x25 h => ?_)
      refine wm_aload_n X 0 dX1_areUnlike_29 rfl ?_
      refine wm_gR X hS cd_1 0 h dX1_areUnlike_30 (Nat.le_of_ble_eq_true rfl) rfl q434 (fun x26 h => ?_)
      refine wm_gRN X hS cd_2 8 h dX1_areUnlike_33 (Nat.le_of_ble_eq_true rfl) rfl 8 rfl (fun x27 h => ?_)
      refine wm_iload_n X 3 dX1_areUnlike_36 rfl ?_
      refine wm_iaload X hS h dX1_areUnlike_37 (fun x28 h => ?_)
      refine wm_ixor X dX1_areUnlike_38 ?_
      refine wm_iload_n X 1 dX1_areUnlike_39 rfl ?_
      refine wm_iand X dX1_areUnlike_40 ?_
      refine wm_if_ne X 46 h dX1_areUnlike_41 (by decide) (fun c29 h => ?_) (fun c29 h => ?_)
      · refine wm_iinc (v := (v3 + 1)) (ℓ' := [(3, .int (v3 + 1)), (0, va_rf (some h0)), (1, .int y1), (2, .int y2)]) X 3 dX1_areUnlike_46 rfl rfl (by decide) rfl ?_
        refine wm_goto X 15 dX1_areUnlike_49 (by decide) ?_
        refine wm_sub (ℓ' := [(0, va_rf (some h0)), (1, .int y1), (2, .int y2), (3, .int (v3 + 1))]) [1, 2, 3, 0] rfl ?_
        exact ih _ _ _ _ h hkx52 hkx44
      · refine wm_sub (ℓ' := []) [] rfl ?_
        exact hkx44 _ h
set_option maxHeartbeats 4000000 in
theorem wX1_areUnlike_2 {p : Program} {l : Launch} {e : Env} {s : State} {m : MethodId} {args : Array Value} {below : List Frame} {meth : Method} {c : Code} {D : va_G} {dA : Nat → ClassId} {sz0 : Nat} {ad0 : Nat → Nat} {N0 : Nat} {r : Int32} {σf : Mm} (X : CX p s m args meth c cX1_areUnlike 4 RX1) (hS : ST D dA sz0 ad0 s) (hr : meth.sig.returnType = (some FieldType.boolean)) (hnm : meth.name = yX1_areUnlike.name) (h0 : Nat) (y1 : Int32) : ∀ (n : Nat) (v2 : Int32) (σ : Mm) (kx58 : Mm → Option (Int32 × Mm)) (kx44 : Mm → Option (Int32 × Mm)), FX1_areUnlike_2 h0 y1 n v2 σ kx58 kx44 = some (r, σf) → (∀  (σ : Mm), kx58 σ = some (r, σf) → WMi p l e s m args below meth c 0 0 0 0 4 D dA sz0 ad0 N0 r σf 0 0 σ [] [] 58) → (∀  (σ : Mm), kx44 σ = some (r, σf) → WMi p l e s m args below meth c 0 0 0 0 4 D dA sz0 ad0 N0 r σf 0 0 σ [] [] 44) → WMi p l e s m args below meth c 0 0 0 0 4 D dA sz0 ad0 N0 r σf 0 0 σ [(0, va_rf (some h0)), (1, .int y1), (2, .int v2)] [] 2 := by
  intro n
  induction n with
  | zero =>
    intro v2 σ kx58 kx44 h hkx58 hkx44
    cases h
  | succ n ih =>
    intro v2 σ kx58 kx44 h hkx58 hkx44
    rw [FX1_areUnlike_2] at h
    refine wm_iload_n X 2 dX1_areUnlike_2 rfl ?_
    refine wm_aload_n X 0 dX1_areUnlike_3 rfl ?_
    refine wm_gR X hS cd_1 0 h dX1_areUnlike_4 (Nat.le_of_ble_eq_true rfl) rfl q434 (fun x21 h => ?_)
    refine wm_gIN X hS cd_2 1 h dX1_areUnlike_7 (Nat.le_of_ble_eq_true rfl) rfl 1 rfl (fun x22 h => ?_)
    refine wm_icmp_ge X 58 h dX1_areUnlike_10 (by decide) (fun c31 h => ?_) (fun c31 h => ?_)
    · refine wm_sub (ℓ' := []) [] rfl ?_
      exact hkx58 _ h
    · refine wm_iconst (v := 0) X dX1_areUnlike_13 (by decide) ?_
      refine wm_istore_n (ℓ' := [(3, .int 0), (0, va_rf (some h0)), (1, .int y1), (2, .int v2)]) X dX1_areUnlike_14 (by decide) rfl ?_
      refine wm_sub (ℓ' := [(0, va_rf (some h0)), (1, .int y1), (2, .int v2), (3, .int 0)]) [1, 2, 3, 0] rfl ?_
      refine wX1_areUnlike_15 X hS hr hnm _ _ _ fu _ _ _ _ h (fun σ h => ?_) (fun σ h => ?_)
      · refine wm_iinc (v := (v2 + 1)) (ℓ' := [(2, .int (v2 + 1)), (0, va_rf (some h0)), (1, .int y1)]) X 2 dX1_areUnlike_52 rfl rfl (by decide) rfl ?_
        refine wm_goto X 2 dX1_areUnlike_55 (by decide) ?_
        refine wm_sub (ℓ' := [(0, va_rf (some h0)), (1, .int y1), (2, .int (v2 + 1))]) [1, 2, 0] rfl ?_
        exact ih _ _ _ _ h hkx58 hkx44
      · exact hkx44 _ h
set_option maxHeartbeats 4000000 in
theorem ctX1_areUnlike (l : Launch) {h0 : Nat} {x1 : Int32} {σ σf : Mm} {r : Int32} (h : FX1_areUnlike h0 x1 σ = some (r, σf)) : CTi l yX1_areUnlike (ws_ yX1_areUnlike cX1_areUnlike 4 ((some FieldType.boolean))) 0 0 0 0 [va_rf (some h0), .int x1] σ r σf := by
  refine ct_start (n := 1) mdX1_areUnlike (Nat.le_of_ble_eq_true rfl) (c1_r (c1_i c1_0)) (fun p e s m args below meth c D dA sz0 ad0 X hS hr hnm => ?_)
  have X : CX p s m args meth c cX1_areUnlike 4 RX1 := X
  generalize mN σ = N0
  unfold FX1_areUnlike at h
  refine wm_iconst (v := 0) X dX1_areUnlike_0 (by decide) ?_
  refine wm_istore_n (ℓ' := [(2, .int 0), (0, va_rf (some h0)), (1, .int x1)]) X dX1_areUnlike_1 (by decide) rfl ?_
  refine wm_sub (ℓ' := [(0, va_rf (some h0)), (1, .int x1), (2, .int 0)]) [1, 2, 0] rfl ?_
  refine wX1_areUnlike_2 X hS hr hnm _ _ fu _ _ _ _ h (fun σ h => ?_) (fun σ h => ?_)
  · refine wm_iconst (v := 1) X dX1_areUnlike_58 (by decide) ?_
    exact wm_zret X hr h dX1_areUnlike_59 (Nat.le_of_ble_eq_true rfl) (Nat.le_of_ble_eq_true rfl)
  · refine wm_iconst (v := 0) X dX1_areUnlike_44 (by decide) ?_
    exact wm_zret X hr h dX1_areUnlike_45 (Nat.le_of_ble_eq_true rfl) (Nat.le_of_ble_eq_true rfl)
theorem mdX1_marks : MD yX1_marks 0 := by unfold MD; decide +kernel
theorem mvX1_marks : MV yX1_marks cX1_marks 3 ((some FieldType.int)) := ⟨q557, q558, q128, q559⟩
set_option maxHeartbeats 4000000 in
theorem wX1_marks_20 {p : Program} {l : Launch} {e : Env} {s : State} {m : MethodId} {args : Array Value} {below : List Frame} {meth : Method} {c : Code} {D : va_G} {dA : Nat → ClassId} {sz0 : Nat} {ad0 : Nat → Nat} {N0 : Nat} {r : Int32} {σf : Mm} (X : CX p s m args meth c cX1_marks 3 RX1) (hS : ST D dA sz0 ad0 s) (hr : meth.sig.returnType = (some FieldType.int)) (hnm : meth.name = yX1_marks.name) (h0 : Nat) : ∀ (n : Nat) (v1 : Int32) (v2 : Int32) (σ : Mm) (kx51 : Int32 → Mm → Option (Int32 × Mm)), FX1_marks_20 h0 n v1 v2 σ kx51 = some (r, σf) → (∀ (w1 : Int32) (σ : Mm), kx51 w1 σ = some (r, σf) → WMi p l e s m args below meth c 1 23 0 0 3 D dA sz0 ad0 N0 r σf 0 0 σ [(1, .int w1)] [] 51) → WMi p l e s m args below meth c 1 23 0 0 3 D dA sz0 ad0 N0 r σf 0 0 σ [(0, va_rf (some h0)), (1, .int v1), (2, .int v2)] [] 20 := by
  intro n
  induction n with
  | zero =>
    intro v1 v2 σ kx51 h hkx51
    cases h
  | succ n ih =>
    intro v1 v2 σ kx51 h hkx51
    rw [FX1_marks_20] at h
    refine wm_iload_n X 2 dX1_marks_20 rfl ?_
    refine wm_if_lt X 51 h dX1_marks_21 (by decide) (fun c33 h => ?_) (fun c33 h => ?_)
    · refine wm_sub (ℓ' := [(1, .int v1)]) [1] rfl ?_
      exact hkx51 _ _ h
    · refine wm_iload_n X 2 dX1_marks_24 rfl ?_
      refine wm_cS_i (As := [.int v2]) (st := []) X hS h (fun _ _ hF => ctJ16_bitCount l hF) mdJ16_bitCount msJ16_bitCount q538 dX1_marks_25 rfl rfl c1_0 (Nat.le_of_ble_eq_true rfl) ⟨Nat.le_of_ble_eq_true rfl, Nat.le_of_ble_eq_true rfl⟩ ⟨Nat.le_of_ble_eq_true rfl, Nat.le_of_ble_eq_true rfl⟩ (fun x24 σ25 _ h => ?_)
      refine wm_iload_n X 1 dX1_marks_28 rfl ?_
      refine wm_cS_i (As := [.int v1]) (st := [.int x24]) X hS h (fun _ _ hF => ctJ16_bitCount l hF) mdJ16_bitCount msJ16_bitCount q538 dX1_marks_29 rfl rfl (c1_i c1_0) (Nat.le_of_ble_eq_true rfl) ⟨Nat.le_of_ble_eq_true rfl, Nat.le_of_ble_eq_true rfl⟩ ⟨Nat.le_of_ble_eq_true rfl, Nat.le_of_ble_eq_true rfl⟩ (fun x26 σ27 _ h => ?_)
      refine wm_icmp_gt X 45 h dX1_marks_32 (by decide) (fun c32 h => ?_) (fun c32 h => ?_)
      · refine wm_iinc (v := (v2 + (-1))) (ℓ' := [(2, .int (v2 + (-1))), (0, va_rf (some h0)), (1, .int v1)]) X 2 dX1_marks_45 rfl rfl (by decide) rfl ?_
        refine wm_goto X 20 dX1_marks_48 (by decide) ?_
        refine wm_sub (ℓ' := [(0, va_rf (some h0)), (1, .int v1), (2, .int (v2 + (-1)))]) [1, 2, 0] rfl ?_
        exact ih _ _ _ _ h hkx51
      · refine wm_aload_n X 0 dX1_marks_35 rfl ?_
        refine wm_iload_n X 2 dX1_marks_36 rfl ?_
        obtain ⟨s28, h⟩ := ck_e h
        refine wm_cV_i (As := [.int v2]) (st := []) X hS cd_1 s28 rfl h (fun _ _ hF => ctX1_areUnlike l hF) mdX1_areUnlike mvX1_areUnlike q560 dX1_marks_37 rfl rfl c1_0 (Nat.le_of_ble_eq_true rfl) ⟨Nat.le_of_ble_eq_true rfl, Nat.le_of_ble_eq_true rfl⟩ ⟨Nat.le_of_ble_eq_true rfl, Nat.le_of_ble_eq_true rfl⟩ (fun x29 σ30 _ h => ?_)
        refine wm_if_eq X 45 h dX1_marks_40 (by decide) (fun c31 h => ?_) (fun c31 h => ?_)
        · refine wm_iinc (v := (v2 + (-1))) (ℓ' := [(2, .int (v2 + (-1))), (0, va_rf (some h0)), (1, .int v1)]) X 2 dX1_marks_45 rfl rfl (by decide) rfl ?_
          refine wm_goto X 20 dX1_marks_48 (by decide) ?_
          refine wm_sub (ℓ' := [(0, va_rf (some h0)), (1, .int v1), (2, .int (v2 + (-1)))]) [1, 2, 0] rfl ?_
          exact ih _ _ _ _ h hkx51
        · refine wm_iload_n X 2 dX1_marks_43 rfl ?_
          refine wm_istore_n (ℓ' := [(1, .int v2), (0, va_rf (some h0)), (2, .int v2)]) X dX1_marks_44 (by decide) rfl ?_
          refine wm_iinc (v := (v2 + (-1))) (ℓ' := [(2, .int (v2 + (-1))), (1, .int v2), (0, va_rf (some h0))]) X 2 dX1_marks_45 rfl rfl (by decide) rfl ?_
          refine wm_goto X 20 dX1_marks_48 (by decide) ?_
          refine wm_sub (ℓ' := [(0, va_rf (some h0)), (1, .int v2), (2, .int (v2 + (-1)))]) [2, 1, 0] rfl ?_
          exact ih _ _ _ _ h hkx51
set_option maxHeartbeats 4000000 in
theorem ctX1_marks (l : Launch) {h0 : Nat} {σ σf : Mm} {r : Int32} (h : FX1_marks h0 σ = some (r, σf)) : CTi l yX1_marks (ws_ yX1_marks cX1_marks 3 ((some FieldType.int))) 1 23 0 0 [va_rf (some h0)] σ r σf := by
  refine ct_start (n := 0) mdX1_marks (Nat.le_of_ble_eq_true rfl) (c1_r c1_0) (fun p e s m args below meth c D dA sz0 ad0 X hS hr hnm => ?_)
  have X : CX p s m args meth c cX1_marks 3 RX1 := X
  generalize mN σ = N0
  unfold FX1_marks at h
  refine wm_aload_n X 0 dX1_marks_0 rfl ?_
  refine wm_sipush (v := 255) X dX1_marks_1 (by decide) ?_
  obtain ⟨s21, h⟩ := ck_e h
  refine wm_cV_i (As := [.int 255]) (st := []) X hS cd_1 s21 rfl h (fun _ _ hF => ctX1_areUnlike l hF) mdX1_areUnlike mvX1_areUnlike q560 dX1_marks_4 rfl rfl c1_0 (Nat.le_of_ble_eq_true rfl) ⟨Nat.le_of_ble_eq_true rfl, Nat.le_of_ble_eq_true rfl⟩ ⟨Nat.le_of_ble_eq_true rfl, Nat.le_of_ble_eq_true rfl⟩ (fun x22 σ23 _ h => ?_)
  refine wm_if_ne X 12 h dX1_marks_7 (by decide) (fun c35 h => ?_) (fun c35 h => ?_)
  · refine wm_sipush (v := 255) X dX1_marks_12 (by decide) ?_
    refine wm_istore_n (ℓ' := [(1, .int 255), (0, va_rf (some h0))]) X dX1_marks_15 (by decide) rfl ?_
    refine wm_sipush (v := 255) X dX1_marks_16 (by decide) ?_
    refine wm_istore_n (ℓ' := [(2, .int 255), (1, .int 255), (0, va_rf (some h0))]) X dX1_marks_19 (by decide) rfl ?_
    refine wm_sub (ℓ' := [(0, va_rf (some h0)), (1, .int 255), (2, .int 255)]) [2, 1, 0] rfl ?_
    refine wX1_marks_20 X hS hr hnm _ fu _ _ _ _ h (fun x34 σ h => ?_)
    · refine wm_iload_n X 0 dX1_marks_51 rfl ?_
      exact wm_iret X hr h dX1_marks_52 (Nat.le_of_ble_eq_true rfl) (Nat.le_of_ble_eq_true rfl)
  · refine wm_iconst (v := (-1)) X dX1_marks_10 (by decide) ?_
    exact wm_iret X hr h dX1_marks_11 (Nat.le_of_ble_eq_true rfl) (Nat.le_of_ble_eq_true rfl)
theorem mdX1_unknown : MD yX1_unknown 0 := by unfold MD; decide +kernel
theorem mvX1_unknown : MV yX1_unknown cX1_unknown 4 ((some FieldType.int)) := ⟨q565, q566, q128, q567⟩
set_option maxHeartbeats 4000000 in
theorem wX1_unknown_17 {p : Program} {l : Launch} {e : Env} {s : State} {m : MethodId} {args : Array Value} {below : List Frame} {meth : Method} {c : Code} {D : va_G} {dA : Nat → ClassId} {sz0 : Nat} {ad0 : Nat → Nat} {N0 : Nat} {r : Int32} {σf : Mm} (X : CX p s m args meth c cX1_unknown 4 RX1) (hS : ST D dA sz0 ad0 s) (hr : meth.sig.returnType = (some FieldType.int)) (hnm : meth.name = yX1_unknown.name) (h0 : Nat) (y2 : Int32) : ∀ (n : Nat) (v1 : Int32) (v3 : Int32) (σ : Mm) (kx70 : Int32 → Mm → Option (Int32 × Mm)), FX1_unknown_17 h0 y2 n v1 v3 σ kx70 = some (r, σf) → (∀ (w1 : Int32) (σ : Mm), kx70 w1 σ = some (r, σf) → WMi p l e s m args below meth c 0 0 0 0 4 D dA sz0 ad0 N0 r σf 0 0 σ [(0, va_rf (some h0)), (1, .int w1), (2, .int y2)] [] 70) → WMi p l e s m args below meth c 0 0 0 0 4 D dA sz0 ad0 N0 r σf 0 0 σ [(0, va_rf (some h0)), (1, .int v1), (2, .int y2), (3, .int v3)] [] 17 := by
  intro n
  induction n with
  | zero =>
    intro v1 v3 σ kx70 h hkx70
    cases h
  | succ n ih =>
    intro v1 v3 σ kx70 h hkx70
    rw [FX1_unknown_17] at h
    refine wm_iload_n X 3 dX1_unknown_17 rfl ?_
    refine wm_aload_n X 0 dX1_unknown_18 rfl ?_
    refine wm_gR X hS cd_1 0 h dX1_unknown_19 (Nat.le_of_ble_eq_true rfl) rfl q434 (fun x23 h => ?_)
    refine wm_gIN X hS cd_2 1 h dX1_unknown_22 (Nat.le_of_ble_eq_true rfl) rfl 1 rfl (fun x24 h => ?_)
    refine wm_icmp_ge X 70 h dX1_unknown_25 (by decide) (fun c34 h => ?_) (fun c34 h => ?_)
    · refine wm_sub (ℓ' := [(0, va_rf (some h0)), (1, .int v1), (2, .int y2)]) [0, 1, 2] rfl ?_
      exact hkx70 _ _ h
    · refine wm_iload_n X 1 dX1_unknown_28 rfl ?_
      refine wm_iload_n X 2 dX1_unknown_29 rfl ?_
      refine wm_iload_n X 3 dX1_unknown_30 rfl ?_
      obtain ⟨J62, eJ62, h⟩ := jn_e h
      have hJ62 : ∀ (z25 : Int32) (σ : Mm), J62 z25 σ = some (r, σf) → WMi p l e s m args below meth c 0 0 0 0 4 D dA sz0 ad0 N0 r σf 0 0 σ [(0, va_rf (some h0)), (2, .int y2), (3, .int v3)] [.int z25, .int v1] 62 := by
        intro z25 σ h
        rw [eJ62] at h
        refine wm_ior X dX1_unknown_62 ?_
        refine wm_istore_n (ℓ' := [(1, .int (v1 ||| z25)), (0, va_rf (some h0)), (2, .int y2), (3, .int v3)]) X dX1_unknown_63 (by decide) rfl ?_
        refine wm_iinc (v := (v3 + 1)) (ℓ' := [(3, .int (v3 + 1)), (1, .int (v1 ||| z25)), (0, va_rf (some h0)), (2, .int y2)]) X 3 dX1_unknown_64 rfl rfl (by decide) rfl ?_
        refine wm_goto X 17 dX1_unknown_67 (by decide) ?_
        refine wm_sub (ℓ' := [(0, va_rf (some h0)), (1, .int (v1 ||| z25)), (2, .int y2), (3, .int (v3 + 1))]) [2, 1, 3, 0] rfl ?_
        exact ih _ _ _ _ h hkx70
      clear eJ62
      refine wm_icmp_eq X 61 h dX1_unknown_31 (by decide) (fun c33 h => ?_) (fun c33 h => ?_)
      · refine wm_iconst (v := 0) X dX1_unknown_61 (by decide) ?_
        refine wm_sub (ℓ' := [(0, va_rf (some h0)), (2, .int y2), (3, .int v3)]) [0, 2, 3] rfl ?_
        exact hJ62 _ _ h
      · refine wm_aload_n X 0 dX1_unknown_34 rfl ?_
        refine wm_gR X hS cd_1 0 h dX1_unknown_35 (Nat.le_of_ble_eq_true rfl) rfl q434 (fun x26 h => ?_)
        refine wm_gRN X hS cd_2 9 h dX1_unknown_38 (Nat.le_of_ble_eq_true rfl) rfl 9 rfl (fun x27 h => ?_)
        refine wm_iload_n X 2 dX1_unknown_41 rfl ?_
        refine wm_iaload X hS h dX1_unknown_42 (fun x28 h => ?_)
        refine wm_aload_n X 0 dX1_unknown_43 rfl ?_
        refine wm_gR X hS cd_1 0 h dX1_unknown_44 (Nat.le_of_ble_eq_true rfl) rfl q434 (fun x29 h => ?_)
        refine wm_gRN X hS cd_2 9 h dX1_unknown_47 (Nat.le_of_ble_eq_true rfl) rfl 9 rfl (fun x30 h => ?_)
        refine wm_iload_n X 3 dX1_unknown_50 rfl ?_
        refine wm_iaload X hS h dX1_unknown_51 (fun x31 h => ?_)
        refine wm_icmp_ne X 61 h dX1_unknown_52 (by decide) (fun c32 h => ?_) (fun c32 h => ?_)
        · refine wm_iconst (v := 0) X dX1_unknown_61 (by decide) ?_
          refine wm_sub (ℓ' := [(0, va_rf (some h0)), (2, .int y2), (3, .int v3)]) [0, 2, 3] rfl ?_
          exact hJ62 _ _ h
        · refine wm_iconst (v := 1) X dX1_unknown_55 (by decide) ?_
          refine wm_iload_n X 2 dX1_unknown_56 rfl ?_
          refine wm_ishl X dX1_unknown_57 ?_
          refine wm_goto X 62 dX1_unknown_58 (by decide) ?_
          refine wm_sub (ℓ' := [(0, va_rf (some h0)), (2, .int y2), (3, .int v3)]) [0, 2, 3] rfl ?_
          exact hJ62 _ _ h
set_option maxHeartbeats 4000000 in
theorem wX1_unknown_4 {p : Program} {l : Launch} {e : Env} {s : State} {m : MethodId} {args : Array Value} {below : List Frame} {meth : Method} {c : Code} {D : va_G} {dA : Nat → ClassId} {sz0 : Nat} {ad0 : Nat → Nat} {N0 : Nat} {r : Int32} {σf : Mm} (X : CX p s m args meth c cX1_unknown 4 RX1) (hS : ST D dA sz0 ad0 s) (hr : meth.sig.returnType = (some FieldType.int)) (hnm : meth.name = yX1_unknown.name) (h0 : Nat) : ∀ (n : Nat) (v1 : Int32) (v2 : Int32) (σ : Mm) (kx76 : Int32 → Mm → Option (Int32 × Mm)), FX1_unknown_4 h0 n v1 v2 σ kx76 = some (r, σf) → (∀ (w1 : Int32) (σ : Mm), kx76 w1 σ = some (r, σf) → WMi p l e s m args below meth c 0 0 0 0 4 D dA sz0 ad0 N0 r σf 0 0 σ [(1, .int w1)] [] 76) → WMi p l e s m args below meth c 0 0 0 0 4 D dA sz0 ad0 N0 r σf 0 0 σ [(0, va_rf (some h0)), (1, .int v1), (2, .int v2)] [] 4 := by
  intro n
  induction n with
  | zero =>
    intro v1 v2 σ kx76 h hkx76
    cases h
  | succ n ih =>
    intro v1 v2 σ kx76 h hkx76
    rw [FX1_unknown_4] at h
    refine wm_iload_n X 2 dX1_unknown_4 rfl ?_
    refine wm_aload_n X 0 dX1_unknown_5 rfl ?_
    refine wm_gR X hS cd_1 0 h dX1_unknown_6 (Nat.le_of_ble_eq_true rfl) rfl q434 (fun x21 h => ?_)
    refine wm_gIN X hS cd_2 1 h dX1_unknown_9 (Nat.le_of_ble_eq_true rfl) rfl 1 rfl (fun x22 h => ?_)
    refine wm_icmp_ge X 76 h dX1_unknown_12 (by decide) (fun c36 h => ?_) (fun c36 h => ?_)
    · refine wm_sub (ℓ' := [(1, .int v1)]) [1] rfl ?_
      exact hkx76 _ _ h
    · refine wm_iconst (v := 0) X dX1_unknown_15 (by decide) ?_
      refine wm_istore_n (ℓ' := [(3, .int 0), (0, va_rf (some h0)), (1, .int v1), (2, .int v2)]) X dX1_unknown_16 (by decide) rfl ?_
      refine wm_sub (ℓ' := [(0, va_rf (some h0)), (1, .int v1), (2, .int v2), (3, .int 0)]) [1, 2, 3, 0] rfl ?_
      refine wX1_unknown_17 X hS hr hnm _ _ fu _ _ _ _ h (fun x35 σ h => ?_)
      · refine wm_iinc (v := (v2 + 1)) (ℓ' := [(2, .int (v2 + 1)), (0, va_rf (some h0)), (1, .int x35)]) X 2 dX1_unknown_70 rfl rfl (by decide) rfl ?_
        refine wm_goto X 4 dX1_unknown_73 (by decide) ?_
        refine wm_sub (ℓ' := [(0, va_rf (some h0)), (1, .int x35), (2, .int (v2 + 1))]) [1, 2, 0] rfl ?_
        exact ih _ _ _ _ h hkx76
set_option maxHeartbeats 4000000 in
theorem ctX1_unknown (l : Launch) {h0 : Nat} {σ σf : Mm} {r : Int32} (h : FX1_unknown h0 σ = some (r, σf)) : CTi l yX1_unknown (ws_ yX1_unknown cX1_unknown 4 ((some FieldType.int))) 0 0 0 0 [va_rf (some h0)] σ r σf := by
  refine ct_start (n := 0) mdX1_unknown (Nat.le_of_ble_eq_true rfl) (c1_r c1_0) (fun p e s m args below meth c D dA sz0 ad0 X hS hr hnm => ?_)
  have X : CX p s m args meth c cX1_unknown 4 RX1 := X
  generalize mN σ = N0
  unfold FX1_unknown at h
  refine wm_iconst (v := 0) X dX1_unknown_0 (by decide) ?_
  refine wm_istore_n (ℓ' := [(1, .int 0), (0, va_rf (some h0))]) X dX1_unknown_1 (by decide) rfl ?_
  refine wm_iconst (v := 0) X dX1_unknown_2 (by decide) ?_
  refine wm_istore_n (ℓ' := [(2, .int 0), (1, .int 0), (0, va_rf (some h0))]) X dX1_unknown_3 (by decide) rfl ?_
  refine wm_sub (ℓ' := [(0, va_rf (some h0)), (1, .int 0), (2, .int 0)]) [2, 1, 0] rfl ?_
  refine wX1_unknown_4 X hS hr hnm _ fu _ _ _ _ h (fun x37 σ h => ?_)
  · refine wm_iload_n X 0 dX1_unknown_76 rfl ?_
    exact wm_iret X hr h dX1_unknown_77 (Nat.le_of_ble_eq_true rfl) (Nat.le_of_ble_eq_true rfl)
theorem mdX5_dearest : MD yX5_dearest 1 := by unfold MD; decide +kernel
theorem mvX5_dearest : MV yX5_dearest cX5_dearest 4 ((some FieldType.int)) := ⟨q580, qs5, q136, q581⟩
set_option maxHeartbeats 4000000 in
theorem wX5_dearest_2 {p : Program} {l : Launch} {e : Env} {s : State} {m : MethodId} {args : Array Value} {below : List Frame} {meth : Method} {c : Code} {D : va_G} {dA : Nat → ClassId} {sz0 : Nat} {ad0 : Nat → Nat} {N0 : Nat} {r : Int32} {σf : Mm} (X : CX p s m args meth c cX5_dearest 4 RX5) (hS : ST D dA sz0 ad0 s) (hr : meth.sig.returnType = (some FieldType.int)) (hnm : meth.name = yX5_dearest.name) (h0 : Nat) (y1 : Int32) : ∀ (n : Nat) (v2 : Int32) (σ : Mm) (kx68 : Mm → Option (Int32 × Mm)) (kx60 : Int32 → Mm → Option (Int32 × Mm)), FX5_dearest_2 h0 y1 n v2 σ kx68 kx60 = some (r, σf) → (∀  (σ : Mm), kx68 σ = some (r, σf) → WMi p l e s m args below meth c 1 22 0 0 4 D dA sz0 ad0 N0 r σf 0 0 σ [(1, .int y1)] [] 68) → (∀ (w3 : Int32) (σ : Mm), kx60 w3 σ = some (r, σf) → WMi p l e s m args below meth c 1 22 0 0 4 D dA sz0 ad0 N0 r σf 0 0 σ [(3, .int w3)] [] 60) → WMi p l e s m args below meth c 1 22 0 0 4 D dA sz0 ad0 N0 r σf 0 0 σ [(0, va_rf (some h0)), (1, .int y1), (2, .int v2)] [] 2 := by
  intro n
  induction n with
  | zero =>
    intro v2 σ kx68 kx60 h hkx68 hkx60
    cases h
  | succ n ih =>
    intro v2 σ kx68 kx60 h hkx68 hkx60
    rw [FX5_dearest_2] at h
    refine wm_iload_n X 2 dX5_dearest_2 rfl ?_
    refine wm_aload_n X 0 dX5_dearest_3 rfl ?_
    refine wm_gR X hS cd_5 3 h dX5_dearest_4 (Nat.le_of_ble_eq_true rfl) rfl q388 (fun x21 h => ?_)
    refine wm_gRN X hS cd_1 0 h dX5_dearest_7 (Nat.le_of_ble_eq_true rfl) rfl 55 rfl (fun x22 h => ?_)
    refine wm_gIN X hS cd_2 1 h dX5_dearest_10 (Nat.le_of_ble_eq_true rfl) rfl 52 rfl (fun x23 h => ?_)
    refine wm_icmp_ge X 68 h dX5_dearest_13 (by decide) (fun c39 h => ?_) (fun c39 h => ?_)
    · refine wm_sub (ℓ' := [(1, .int y1)]) [1] rfl ?_
      exact hkx68 _ h
    · refine wm_aload_n X 0 dX5_dearest_16 rfl ?_
      refine wm_gR X hS cd_5 3 h dX5_dearest_17 (Nat.le_of_ble_eq_true rfl) rfl q388 (fun x24 h => ?_)
      refine wm_gRN X hS cd_1 0 h dX5_dearest_20 (Nat.le_of_ble_eq_true rfl) rfl 55 rfl (fun x25 h => ?_)
      refine wm_aload_n X 0 dX5_dearest_23 rfl ?_
      refine wm_gR X hS cd_5 3 h dX5_dearest_24 (Nat.le_of_ble_eq_true rfl) rfl q388 (fun x26 h => ?_)
      refine wm_gRN X hS cd_1 0 h dX5_dearest_27 (Nat.le_of_ble_eq_true rfl) rfl 55 rfl (fun x27 h => ?_)
      refine wm_gRN X hS cd_2 15 h dX5_dearest_30 (Nat.le_of_ble_eq_true rfl) rfl 54 rfl (fun x28 h => ?_)
      refine wm_bipush (v := 10) X dX5_dearest_33 (by decide) ?_
      refine wm_iload_n X 1 dX5_dearest_35 rfl ?_
      refine wm_imul X dX5_dearest_36 ?_
      refine wm_iload_n X 2 dX5_dearest_37 rfl ?_
      refine wm_iadd X dX5_dearest_38 ?_
      refine wm_iaload X hS h dX5_dearest_39 (fun x29 h => ?_)
      obtain ⟨q30, eq30, h⟩ := Option.bind_eq_some_iff.mp h
      obtain ⟨eq30, s31⟩ := rv_some eq30
      refine wm_cV_i (As := [.int x29]) (st := []) X hS cd_2 s31 rfl h (fun _ _ hF => ctX2_wearer l hF) mdX2_wearer mvX2_wearer q582 dX5_dearest_40 rfl (by rw [eq30]; first | done | rfl) c1_0 (Nat.le_of_ble_eq_true rfl) ⟨Nat.le_of_ble_eq_true rfl, Nat.le_of_ble_eq_true rfl⟩ ⟨Nat.le_of_ble_eq_true rfl, Nat.le_of_ble_eq_true rfl⟩ (fun x32 σ33 _ h => ?_)
      refine wm_istore_n (ℓ' := [(3, .int x32), (0, va_rf (some h0)), (1, .int y1), (2, .int v2)]) X dX5_dearest_43 (by decide) rfl ?_
      refine wm_iload_n X 0 dX5_dearest_44 rfl ?_
      refine wm_iconst (v := (-1)) X dX5_dearest_45 (by decide) ?_
      refine wm_icmp_eq X 62 h dX5_dearest_46 (by decide) (fun c38 h => ?_) (fun c38 h => ?_)
      · refine wm_iinc (v := (v2 + 1)) (ℓ' := [(2, .int (v2 + 1)), (3, .int x32), (0, va_rf (some h0)), (1, .int y1)]) X 3 dX5_dearest_62 rfl rfl (by decide) rfl ?_
        refine wm_goto X 2 dX5_dearest_65 (by decide) ?_
        refine wm_sub (ℓ' := [(0, va_rf (some h0)), (1, .int y1), (2, .int (v2 + 1))]) [2, 3, 0] rfl ?_
        exact ih _ _ _ _ h hkx68 hkx60
      · refine wm_aload_n X 1 dX5_dearest_49 rfl ?_
        refine wm_gI X hS cd_5 2 h dX5_dearest_50 (Nat.le_of_ble_eq_true rfl) rfl q387 (fun x34 h => ?_)
        refine wm_iload_n X 0 dX5_dearest_53 rfl ?_
        refine wm_cSN_i (As := [.int x34, .int x32]) (st := []) X hS h (fun _ _ hF => ctX1_has l hF) mdX1_has msX1_has 56 rfl dX5_dearest_54 rfl rfl c1_0 (Nat.le_of_ble_eq_true rfl) ⟨Nat.le_of_ble_eq_true rfl, Nat.le_of_ble_eq_true rfl⟩ ⟨Nat.le_of_ble_eq_true rfl, Nat.le_of_ble_eq_true rfl⟩ (fun x35 σ36 _ h => ?_)
        refine wm_if_eq X 62 h dX5_dearest_57 (by decide) (fun c37 h => ?_) (fun c37 h => ?_)
        · refine wm_iinc (v := (v2 + 1)) (ℓ' := [(2, .int (v2 + 1)), (3, .int x32), (0, va_rf (some h0)), (1, .int y1)]) X 3 dX5_dearest_62 rfl rfl (by decide) rfl ?_
          refine wm_goto X 2 dX5_dearest_65 (by decide) ?_
          refine wm_sub (ℓ' := [(0, va_rf (some h0)), (1, .int y1), (2, .int (v2 + 1))]) [2, 3, 0] rfl ?_
          exact ih _ _ _ _ h hkx68 hkx60
        · refine wm_sub (ℓ' := [(3, .int x32)]) [0] rfl ?_
          exact hkx60 _ _ h
set_option maxHeartbeats 4000000 in
theorem ctX5_dearest (l : Launch) {h0 : Nat} {x1 : Int32} {σ σf : Mm} {r : Int32} (h : FX5_dearest h0 x1 σ = some (r, σf)) : CTi l yX5_dearest (ws_ yX5_dearest cX5_dearest 4 ((some FieldType.int))) 1 22 0 0 [va_rf (some h0), .int x1] σ r σf := by
  refine ct_start (n := 1) mdX5_dearest (Nat.le_of_ble_eq_true rfl) (c1_r (c1_i c1_0)) (fun p e s m args below meth c D dA sz0 ad0 X hS hr hnm => ?_)
  have X : CX p s m args meth c cX5_dearest 4 RX5 := X
  generalize mN σ = N0
  unfold FX5_dearest at h
  refine wm_iconst (v := 0) X dX5_dearest_0 (by decide) ?_
  refine wm_istore_n (ℓ' := [(2, .int 0), (0, va_rf (some h0)), (1, .int x1)]) X dX5_dearest_1 (by decide) rfl ?_
  refine wm_sub (ℓ' := [(0, va_rf (some h0)), (1, .int x1), (2, .int 0)]) [1, 2, 0] rfl ?_
  refine wX5_dearest_2 X hS hr hnm _ _ fu _ _ _ _ h (fun σ h => ?_) (fun x40 σ h => ?_)
  · refine wm_iload_n X 0 dX5_dearest_68 rfl ?_
    exact wm_iret X hr h dX5_dearest_69 (Nat.le_of_ble_eq_true rfl) (Nat.le_of_ble_eq_true rfl)
  · refine wm_iload_n X 0 dX5_dearest_60 rfl ?_
    exact wm_iret X hr h dX5_dearest_61 (Nat.le_of_ble_eq_true rfl) (Nat.le_of_ble_eq_true rfl)
theorem mdX5_ring : MD yX5_ring 0 := by unfold MD; decide +kernel
theorem mvX5_ring : MV yX5_ring cX5_ring 3 ((some FieldType.int)) := ⟨q585, qs6, q136, q586⟩
set_option maxHeartbeats 4000000 in
theorem wX5_ring_10 {p : Program} {l : Launch} {e : Env} {s : State} {m : MethodId} {args : Array Value} {below : List Frame} {meth : Method} {c : Code} {D : va_G} {dA : Nat → ClassId} {sz0 : Nat} {ad0 : Nat → Nat} {N0 : Nat} {r : Int32} {σf : Mm} (X : CX p s m args meth c cX5_ring 3 RX5) (hS : ST D dA sz0 ad0 s) (hr : meth.sig.returnType = (some FieldType.int)) (hnm : meth.name = yX5_ring.name) (h0 : Nat) : ∀ (n : Nat) (v1 : Int32) (v2 : Int32) (σ : Mm) (kx29 : Int32 → Mm → Option (Int32 × Mm)), FX5_ring_10 h0 n v1 v2 σ kx29 = some (r, σf) → (∀ (w1 : Int32) (σ : Mm), kx29 w1 σ = some (r, σf) → WMi p l e s m args below meth c 1 21 0 0 3 D dA sz0 ad0 N0 r σf 0 0 σ [(0, va_rf (some h0)), (1, .int w1)] [] 29) → WMi p l e s m args below meth c 1 21 0 0 3 D dA sz0 ad0 N0 r σf 0 0 σ [(0, va_rf (some h0)), (1, .int v1), (2, .int v2)] [] 10 := by
  intro n
  induction n with
  | zero =>
    intro v1 v2 σ kx29 h hkx29
    cases h
  | succ n ih =>
    intro v1 v2 σ kx29 h hkx29
    rw [FX5_ring_10] at h
    refine wm_iload_n X 2 dX5_ring_10 rfl ?_
    refine wm_bipush (v := 10) X dX5_ring_11 (by decide) ?_
    refine wm_icmp_ge X 29 h dX5_ring_13 (by decide) (fun c26 h => ?_) (fun c26 h => ?_)
    · refine wm_sub (ℓ' := [(0, va_rf (some h0)), (1, .int v1)]) [0, 1] rfl ?_
      exact hkx29 _ _ h
    · refine wm_aload_n X 0 dX5_ring_16 rfl ?_
      refine wm_gR X hS cd_5 1 h dX5_ring_17 (Nat.le_of_ble_eq_true rfl) rfl q386 (fun x24 h => ?_)
      refine wm_iload_n X 1 dX5_ring_20 rfl ?_
      refine wm_iaload X hS h dX5_ring_21 (fun x25 h => ?_)
      refine wm_istore_n (ℓ' := [(1, .int x25), (0, va_rf (some h0)), (2, .int v2)]) X dX5_ring_22 (by decide) rfl ?_
      refine wm_iinc (v := (v2 + 1)) (ℓ' := [(2, .int (v2 + 1)), (1, .int x25), (0, va_rf (some h0))]) X 2 dX5_ring_23 rfl rfl (by decide) rfl ?_
      refine wm_goto X 10 dX5_ring_26 (by decide) ?_
      refine wm_sub (ℓ' := [(0, va_rf (some h0)), (1, .int x25), (2, .int (v2 + 1))]) [2, 1, 0] rfl ?_
      exact ih _ _ _ _ h hkx29
set_option maxHeartbeats 4000000 in
theorem wX5_ring_31 {p : Program} {l : Launch} {e : Env} {s : State} {m : MethodId} {args : Array Value} {below : List Frame} {meth : Method} {c : Code} {D : va_G} {dA : Nat → ClassId} {sz0 : Nat} {ad0 : Nat → Nat} {N0 : Nat} {r : Int32} {σf : Mm} (X : CX p s m args meth c cX5_ring 3 RX5) (hS : ST D dA sz0 ad0 s) (hr : meth.sig.returnType = (some FieldType.int)) (hnm : meth.name = yX5_ring.name) (h0 : Nat) : ∀ (n : Nat) (v1 : Int32) (v2 : Int32) (σ : Mm) (kx55 : Int32 → Mm → Option (Int32 × Mm)), FX5_ring_31 h0 n v1 v2 σ kx55 = some (r, σf) → (∀ (w2 : Int32) (σ : Mm), kx55 w2 σ = some (r, σf) → WMi p l e s m args below meth c 1 21 0 0 3 D dA sz0 ad0 N0 r σf 0 0 σ [(2, .int w2)] [] 55) → WMi p l e s m args below meth c 1 21 0 0 3 D dA sz0 ad0 N0 r σf 0 0 σ [(0, va_rf (some h0)), (1, .int v1), (2, .int v2)] [] 31 := by
  intro n
  induction n with
  | zero =>
    intro v1 v2 σ kx55 h hkx55
    cases h
  | succ n ih =>
    intro v1 v2 σ kx55 h hkx55
    rw [FX5_ring_31] at h
    refine wm_iload_n X 2 dX5_ring_31 rfl ?_
    refine wm_iload_n X 1 dX5_ring_32 rfl ?_
    refine wm_cSN_i (As := [.int v2, .int v1]) (st := []) X hS h (fun _ _ hF => ctX1_has l hF) mdX1_has msX1_has 56 rfl dX5_ring_33 rfl rfl c1_0 (Nat.le_of_ble_eq_true rfl) ⟨Nat.le_of_ble_eq_true rfl, Nat.le_of_ble_eq_true rfl⟩ ⟨Nat.le_of_ble_eq_true rfl, Nat.le_of_ble_eq_true rfl⟩ (fun x28 σ29 _ h => ?_)
    refine wm_if_ne X 55 h dX5_ring_36 (by decide) (fun c32 h => ?_) (fun c32 h => ?_)
    · refine wm_sub (ℓ' := [(2, .int v2)]) [2] rfl ?_
      exact hkx55 _ _ h
    · refine wm_iload_n X 2 dX5_ring_39 rfl ?_
      refine wm_iconst (v := 1) X dX5_ring_40 (by decide) ?_
      refine wm_iload_n X 1 dX5_ring_41 rfl ?_
      refine wm_ishl X dX5_ring_42 ?_
      refine wm_ior X dX5_ring_43 ?_
      refine wm_istore_n (ℓ' := [(2, .int (v2 ||| (1 <<< (v1 &&& 31)))), (0, va_rf (some h0)), (1, .int v1)]) X dX5_ring_44 (by decide) rfl ?_
      refine wm_aload_n X 1 dX5_ring_45 rfl ?_
      refine wm_gR X hS cd_5 1 h dX5_ring_46 (Nat.le_of_ble_eq_true rfl) rfl q386 (fun x30 h => ?_)
      refine wm_iload_n X 2 dX5_ring_49 rfl ?_
      refine wm_iaload X hS h dX5_ring_50 (fun x31 h => ?_)
      refine wm_istore_n (ℓ' := [(1, .int x31), (2, .int (v2 ||| (1 <<< (v1 &&& 31)))), (0, va_rf (some h0))]) X dX5_ring_51 (by decide) rfl ?_
      refine wm_goto X 31 dX5_ring_52 (by decide) ?_
      refine wm_sub (ℓ' := [(0, va_rf (some h0)), (1, .int x31), (2, .int (v2 ||| (1 <<< (v1 &&& 31))))]) [2, 0, 1] rfl ?_
      exact ih _ _ _ _ h hkx55
set_option maxHeartbeats 4000000 in
theorem ctX5_ring (l : Launch) {h0 : Nat} {σ σf : Mm} {r : Int32} (h : FX5_ring h0 σ = some (r, σf)) : CTi l yX5_ring (ws_ yX5_ring cX5_ring 3 ((some FieldType.int))) 1 21 0 0 [va_rf (some h0)] σ r σf := by
  refine ct_start (n := 0) mdX5_ring (Nat.le_of_ble_eq_true rfl) (c1_r c1_0) (fun p e s m args below meth c D dA sz0 ad0 X hS hr hnm => ?_)
  have X : CX p s m args meth c cX5_ring 3 RX5 := X
  generalize mN σ = N0
  unfold FX5_ring at h
  refine wm_aload_n X 0 dX5_ring_0 rfl ?_
  refine wm_gI X hS cd_5 2 h dX5_ring_1 (Nat.le_of_ble_eq_true rfl) rfl q387 (fun x21 h => ?_)
  refine wm_cS_i (As := [.int x21]) (st := []) X hS h (fun _ _ hF => ctJ16_numberOfTrailingZeros l hF) mdJ16_numberOfTrailingZeros msJ16_numberOfTrailingZeros q587 dX5_ring_4 rfl rfl c1_0 (Nat.le_of_ble_eq_true rfl) ⟨Nat.le_of_ble_eq_true rfl, Nat.le_of_ble_eq_true rfl⟩ ⟨Nat.le_of_ble_eq_true rfl, Nat.le_of_ble_eq_true rfl⟩ (fun x22 σ23 _ h => ?_)
  refine wm_istore_n (ℓ' := [(1, .int x22), (0, va_rf (some h0))]) X dX5_ring_7 (by decide) rfl ?_
  refine wm_iconst (v := 0) X dX5_ring_8 (by decide) ?_
  refine wm_istore_n (ℓ' := [(2, .int 0), (1, .int x22), (0, va_rf (some h0))]) X dX5_ring_9 (by decide) rfl ?_
  refine wm_sub (ℓ' := [(0, va_rf (some h0)), (1, .int x22), (2, .int 0)]) [2, 1, 0] rfl ?_
  refine wX5_ring_10 X hS hr hnm _ fu _ _ _ _ h (fun x27 σ h => ?_)
  · refine wm_iconst (v := 0) X dX5_ring_29 (by decide) ?_
    refine wm_istore_n (ℓ' := [(2, .int 0), (0, va_rf (some h0)), (1, .int x27)]) X dX5_ring_30 (by decide) rfl ?_
    refine wm_sub (ℓ' := [(0, va_rf (some h0)), (1, .int x27), (2, .int 0)]) [1, 2, 0] rfl ?_
    refine wX5_ring_31 X hS hr hnm _ fu _ _ _ _ h (fun x33 σ h => ?_)
    · refine wm_iload_n X 0 dX5_ring_55 rfl ?_
      exact wm_iret X hr h dX5_ring_56 (Nat.le_of_ble_eq_true rfl) (Nat.le_of_ble_eq_true rfl)
theorem mdX5_run : MD yX5_run 0 := by unfold MD; decide +kernel
theorem mvX5_run : MV yX5_run cX5_run 3 ((some (FieldType.object "HungFaces$Trade"))) := ⟨q573, q574, q136, q575⟩
set_option maxHeartbeats 4000000 in
theorem wX5_run_15 {p : Program} {l : Launch} {e : Env} {s : State} {m : MethodId} {args : Array Value} {below : List Frame} {meth : Method} {c : Code} {D : va_G} {dA : Nat → ClassId} {sz0 : Nat} {ad0 : Nat → Nat} {N0 : Nat} {r : Option Nat} {σf : Mm} (X : CX p s m args meth c cX5_run 3 RX5) (hS : ST D dA sz0 ad0 s) (hr : meth.sig.returnType = (some (FieldType.object "HungFaces$Trade"))) (hnm : meth.name = yX5_run.name) (h0 : Nat) : ∀ (n : Nat) (v1 : Int32) (σ : Mm) (kx67 : Mm → Option (Option Nat × Mm)), FX5_run_15 h0 n v1 σ kx67 = some (r, σf) → (∀  (σ : Mm), kx67 σ = some (r, σf) → WMr p l e s m args below meth c 2 45 0 0 3 D dA sz0 ad0 N0 r σf 0 0 σ [(0, va_rf (some h0))] [] 67) → WMr p l e s m args below meth c 2 45 0 0 3 D dA sz0 ad0 N0 r σf 0 0 σ [(0, va_rf (some h0)), (1, .int v1)] [] 15 := by
  intro n
  induction n with
  | zero =>
    intro v1 σ kx67 h hkx67
    cases h
  | succ n ih =>
    intro v1 σ kx67 h hkx67
    rw [FX5_run_15] at h
    refine wm_iload_n X 1 dX5_run_15 rfl ?_
    refine wm_aload_n X 0 dX5_run_16 rfl ?_
    refine wm_gR X hS cd_5 3 h dX5_run_17 (Nat.le_of_ble_eq_true rfl) rfl q388 (fun x24 h => ?_)
    refine wm_gRN X hS cd_1 0 h dX5_run_20 (Nat.le_of_ble_eq_true rfl) rfl 55 rfl (fun x25 h => ?_)
    refine wm_gIN X hS cd_2 1 h dX5_run_23 (Nat.le_of_ble_eq_true rfl) rfl 52 rfl (fun x26 h => ?_)
    refine wm_icmp_ge X 67 h dX5_run_26 (by decide) (fun c35 h => ?_) (fun c35 h => ?_)
    · refine wm_sub (ℓ' := [(0, va_rf (some h0))]) [0] rfl ?_
      exact hkx67 _ h
    · refine wm_aload_n X 0 dX5_run_29 rfl ?_
      refine wm_dup X dX5_run_30 (catR _) ?_
      refine wm_gI X hS cd_5 2 h dX5_run_31 (Nat.le_of_ble_eq_true rfl) rfl q387 (fun x27 h => ?_)
      refine wm_aload_n X 0 dX5_run_34 rfl ?_
      refine wm_gR X hS cd_5 3 h dX5_run_35 (Nat.le_of_ble_eq_true rfl) rfl q388 (fun x28 h => ?_)
      refine wm_gRN X hS cd_1 0 h dX5_run_38 (Nat.le_of_ble_eq_true rfl) rfl 55 rfl (fun x29 h => ?_)
      refine wm_gRN X hS cd_2 10 h dX5_run_41 (Nat.le_of_ble_eq_true rfl) rfl 53 rfl (fun x30 h => ?_)
      refine wm_iload_n X 1 dX5_run_44 rfl ?_
      refine wm_iaload X hS h dX5_run_45 (fun x31 h => ?_)
      refine wm_iconst (v := (-1)) X dX5_run_46 (by decide) ?_
      obtain ⟨J57, eJ57, h⟩ := jn_e h
      have hJ57 : ∀ (z32 : Int32) (σ : Mm), J57 z32 σ = some (r, σf) → WMr p l e s m args below meth c 2 45 0 0 3 D dA sz0 ad0 N0 r σf 0 0 σ [(0, va_rf (some h0)), (1, .int v1)] [.int z32, .int x27, va_rf (some h0)] 57 := by
        intro z32 σ h
        rw [eJ57] at h
        refine wm_ior X dX5_run_57 ?_
        refine wm_pI X hS cd_5 2 h dX5_run_58 (Nat.le_of_ble_eq_true rfl) rfl q387 rfl rfl (fun σ33 _ h => ?_)
        refine wm_iinc (v := (v1 + 1)) (ℓ' := [(1, .int (v1 + 1)), (0, va_rf (some h0))]) X 1 dX5_run_61 rfl rfl (by decide) rfl ?_
        refine wm_goto X 15 dX5_run_64 (by decide) ?_
        refine wm_sub (ℓ' := [(0, va_rf (some h0)), (1, .int (v1 + 1))]) [1, 0] rfl ?_
        exact ih _ _ _ h hkx67
      clear eJ57
      refine wm_icmp_eq X 56 h dX5_run_47 (by decide) (fun c34 h => ?_) (fun c34 h => ?_)
      · refine wm_iconst (v := 0) X dX5_run_56 (by decide) ?_
        exact hJ57 _ _ h
      · refine wm_iconst (v := 1) X dX5_run_50 (by decide) ?_
        refine wm_iload_n X 1 dX5_run_51 rfl ?_
        refine wm_ishl X dX5_run_52 ?_
        refine wm_goto X 57 dX5_run_53 (by decide) ?_
        exact hJ57 _ _ h
set_option maxHeartbeats 4000000 in
theorem wX5_run_76 {p : Program} {l : Launch} {e : Env} {s : State} {m : MethodId} {args : Array Value} {below : List Frame} {meth : Method} {c : Code} {D : va_G} {dA : Nat → ClassId} {sz0 : Nat} {ad0 : Nat → Nat} {N0 : Nat} {r : Option Nat} {σf : Mm} (X : CX p s m args meth c cX5_run 3 RX5) (hS : ST D dA sz0 ad0 s) (hr : meth.sig.returnType = (some (FieldType.object "HungFaces$Trade"))) (hnm : meth.name = yX5_run.name) (h0 : Nat) : ∀ (n : Nat) (v1 : Int32) (σ : Mm) (kx122 : Mm → Option (Option Nat × Mm)), FX5_run_76 h0 n v1 σ kx122 = some (r, σf) → (∀  (σ : Mm), kx122 σ = some (r, σf) → WMr p l e s m args below meth c 2 45 0 0 3 D dA sz0 ad0 N0 r σf 0 0 σ [(0, va_rf (some h0))] [] 122) → WMr p l e s m args below meth c 2 45 0 0 3 D dA sz0 ad0 N0 r σf 0 0 σ [(0, va_rf (some h0)), (1, .int v1)] [] 76 := by
  intro n
  induction n with
  | zero =>
    intro v1 σ kx122 h hkx122
    cases h
  | succ n ih =>
    intro v1 σ kx122 h hkx122
    rw [FX5_run_76] at h
    refine wm_iload_n X 1 dX5_run_76 rfl ?_
    refine wm_aload_n X 0 dX5_run_77 rfl ?_
    refine wm_gR X hS cd_5 3 h dX5_run_78 (Nat.le_of_ble_eq_true rfl) rfl q388 (fun x37 h => ?_)
    refine wm_gRN X hS cd_1 0 h dX5_run_81 (Nat.le_of_ble_eq_true rfl) rfl 55 rfl (fun x38 h => ?_)
    refine wm_gIN X hS cd_2 1 h dX5_run_84 (Nat.le_of_ble_eq_true rfl) rfl 52 rfl (fun x39 h => ?_)
    refine wm_icmp_ge X 122 h dX5_run_87 (by decide) (fun c50 h => ?_) (fun c50 h => ?_)
    · refine wm_sub (ℓ' := [(0, va_rf (some h0))]) [0] rfl ?_
      exact hkx122 _ h
    · refine wm_aload_n X 0 dX5_run_90 rfl ?_
      refine wm_gR X hS cd_5 1 h dX5_run_91 (Nat.le_of_ble_eq_true rfl) rfl q386 (fun x40 h => ?_)
      refine wm_iload_n X 1 dX5_run_94 rfl ?_
      refine wm_aload_n X 0 dX5_run_95 rfl ?_
      refine wm_gI X hS cd_5 2 h dX5_run_96 (Nat.le_of_ble_eq_true rfl) rfl q387 (fun x41 h => ?_)
      refine wm_iload_n X 1 dX5_run_99 rfl ?_
      refine wm_cSN_i (As := [.int x41, .int v1]) (st := [.int v1, va_rf x40]) X hS h (fun _ _ hF => ctX1_has l hF) mdX1_has msX1_has 56 rfl dX5_run_100 rfl rfl (c1_i (c1_r c1_0)) (Nat.le_of_ble_eq_true rfl) ⟨Nat.le_of_ble_eq_true rfl, Nat.le_of_ble_eq_true rfl⟩ ⟨Nat.le_of_ble_eq_true rfl, Nat.le_of_ble_eq_true rfl⟩ (fun x42 σ43 _ h => ?_)
      obtain ⟨J115, eJ115, h⟩ := jn_e h
      have hJ115 : ∀ (z44 : Int32) (σ : Mm), J115 z44 σ = some (r, σf) → WMr p l e s m args below meth c 2 45 0 0 3 D dA sz0 ad0 N0 r σf 0 0 σ [(0, va_rf (some h0)), (1, .int v1)] [.int z44, .int v1, va_rf x40] 115 := by
        intro z44 σ h
        rw [eJ115] at h
        refine wm_iastore X hS h dX5_run_115 (fun σ45 _ h => ?_)
        refine wm_iinc (v := (v1 + 1)) (ℓ' := [(1, .int (v1 + 1)), (0, va_rf (some h0))]) X 1 dX5_run_116 rfl rfl (by decide) rfl ?_
        refine wm_goto X 76 dX5_run_119 (by decide) ?_
        refine wm_sub (ℓ' := [(0, va_rf (some h0)), (1, .int (v1 + 1))]) [1, 0] rfl ?_
        exact ih _ _ _ h hkx122
      clear eJ115
      refine wm_if_eq X 114 h dX5_run_103 (by decide) (fun c49 h => ?_) (fun c49 h => ?_)
      · refine wm_iconst (v := (-1)) X dX5_run_114 (by decide) ?_
        exact hJ115 _ _ h
      · refine wm_aload_n X 0 dX5_run_106 rfl ?_
        refine wm_iload_n X 1 dX5_run_107 rfl ?_
        obtain ⟨s46, h⟩ := ck_e h
        refine wm_cV_i (As := [.int v1]) (st := [.int v1, va_rf x40]) X hS cd_5 s46 rfl h (fun _ _ hF => ctX5_dearest l hF) mdX5_dearest mvX5_dearest q578 dX5_run_108 rfl rfl (c1_i (c1_r c1_0)) (Nat.le_of_ble_eq_true rfl) ⟨Nat.le_of_ble_eq_true rfl, Nat.le_of_ble_eq_true rfl⟩ ⟨Nat.le_of_ble_eq_true rfl, Nat.le_of_ble_eq_true rfl⟩ (fun x47 σ48 _ h => ?_)
        refine wm_goto X 115 dX5_run_111 (by decide) ?_
        exact hJ115 _ _ h
set_option maxHeartbeats 4000000 in
theorem wX5_run_129 {p : Program} {l : Launch} {e : Env} {s : State} {m : MethodId} {args : Array Value} {below : List Frame} {meth : Method} {c : Code} {D : va_G} {dA : Nat → ClassId} {sz0 : Nat} {ad0 : Nat → Nat} {N0 : Nat} {r : Option Nat} {σf : Mm} (X : CX p s m args meth c cX5_run 3 RX5) (hS : ST D dA sz0 ad0 s) (hr : meth.sig.returnType = (some (FieldType.object "HungFaces$Trade"))) (hnm : meth.name = yX5_run.name) (h0 : Nat) (y1 : Int32) : ∀ (n : Nat) (v2 : Int32) (σ : Mm) (kx180 : Mm → Option (Option Nat × Mm)), FX5_run_129 h0 y1 n v2 σ kx180 = some (r, σf) → (∀  (σ : Mm), kx180 σ = some (r, σf) → WMr p l e s m args below meth c 2 45 0 0 3 D dA sz0 ad0 N0 r σf 0 0 σ [(0, va_rf (some h0)), (1, .int y1)] [] 180) → WMr p l e s m args below meth c 2 45 0 0 3 D dA sz0 ad0 N0 r σf 0 0 σ [(0, va_rf (some h0)), (1, .int y1), (2, .int v2)] [] 129 := by
  intro n
  induction n with
  | zero =>
    intro v2 σ kx180 h hkx180
    cases h
  | succ n ih =>
    intro v2 σ kx180 h hkx180
    rw [FX5_run_129] at h
    refine wm_iload_n X 2 dX5_run_129 rfl ?_
    refine wm_aload_n X 0 dX5_run_130 rfl ?_
    refine wm_gR X hS cd_5 3 h dX5_run_131 (Nat.le_of_ble_eq_true rfl) rfl q388 (fun x54 h => ?_)
    refine wm_gRN X hS cd_1 0 h dX5_run_134 (Nat.le_of_ble_eq_true rfl) rfl 55 rfl (fun x55 h => ?_)
    refine wm_gIN X hS cd_2 1 h dX5_run_137 (Nat.le_of_ble_eq_true rfl) rfl 52 rfl (fun x56 h => ?_)
    refine wm_icmp_ge X 180 h dX5_run_140 (by decide) (fun c68 h => ?_) (fun c68 h => ?_)
    · refine wm_sub (ℓ' := [(0, va_rf (some h0)), (1, .int y1)]) [0, 1] rfl ?_
      exact hkx180 _ h
    · refine wm_iload_n X 1 dX5_run_143 rfl ?_
      refine wm_iload_n X 2 dX5_run_144 rfl ?_
      refine wm_cSN_i (As := [.int y1, .int v2]) (st := []) X hS h (fun _ _ hF => ctX1_has l hF) mdX1_has msX1_has 56 rfl dX5_run_145 rfl rfl c1_0 (Nat.le_of_ble_eq_true rfl) ⟨Nat.le_of_ble_eq_true rfl, Nat.le_of_ble_eq_true rfl⟩ ⟨Nat.le_of_ble_eq_true rfl, Nat.le_of_ble_eq_true rfl⟩ (fun x57 σ58 _ h => ?_)
      refine wm_if_eq X 174 h dX5_run_148 (by decide) (fun c67 h => ?_) (fun c67 h => ?_)
      · refine wm_iinc (v := (v2 + 1)) (ℓ' := [(2, .int (v2 + 1)), (0, va_rf (some h0)), (1, .int y1)]) X 2 dX5_run_174 rfl rfl (by decide) rfl ?_
        refine wm_goto X 129 dX5_run_177 (by decide) ?_
        refine wm_sub (ℓ' := [(0, va_rf (some h0)), (1, .int y1), (2, .int (v2 + 1))]) [1, 2, 0] rfl ?_
        exact ih _ _ _ h hkx180
      · refine wm_aload_n X 0 dX5_run_151 rfl ?_
        refine wm_gR X hS cd_5 0 h dX5_run_152 (Nat.le_of_ble_eq_true rfl) rfl q384 (fun x59 h => ?_)
        refine wm_iload_n X 2 dX5_run_155 rfl ?_
        refine wm_aload_n X 0 dX5_run_156 rfl ?_
        refine wm_gR X hS cd_5 3 h dX5_run_157 (Nat.le_of_ble_eq_true rfl) rfl q388 (fun x60 h => ?_)
        refine wm_gRN X hS cd_1 0 h dX5_run_160 (Nat.le_of_ble_eq_true rfl) rfl 55 rfl (fun x61 h => ?_)
        refine wm_gRN X hS cd_2 10 h dX5_run_163 (Nat.le_of_ble_eq_true rfl) rfl 53 rfl (fun x62 h => ?_)
        refine wm_aload_n X 0 dX5_run_166 rfl ?_
        refine wm_gR X hS cd_5 1 h dX5_run_167 (Nat.le_of_ble_eq_true rfl) rfl q386 (fun x63 h => ?_)
        refine wm_iload_n X 2 dX5_run_170 rfl ?_
        refine wm_iaload X hS h dX5_run_171 (fun x64 h => ?_)
        refine wm_iaload X hS h dX5_run_172 (fun x65 h => ?_)
        refine wm_iastore X hS h dX5_run_173 (fun σ66 _ h => ?_)
        refine wm_iinc (v := (v2 + 1)) (ℓ' := [(2, .int (v2 + 1)), (0, va_rf (some h0)), (1, .int y1)]) X 2 dX5_run_174 rfl rfl (by decide) rfl ?_
        refine wm_goto X 129 dX5_run_177 (by decide) ?_
        refine wm_sub (ℓ' := [(0, va_rf (some h0)), (1, .int y1), (2, .int (v2 + 1))]) [1, 2, 0] rfl ?_
        exact ih _ _ _ h hkx180
set_option maxHeartbeats 4000000 in
theorem wX5_run_67 {p : Program} {l : Launch} {e : Env} {s : State} {m : MethodId} {args : Array Value} {below : List Frame} {meth : Method} {c : Code} {D : va_G} {dA : Nat → ClassId} {sz0 : Nat} {ad0 : Nat → Nat} {N0 : Nat} {r : Option Nat} {σf : Mm} (X : CX p s m args meth c cX5_run 3 RX5) (hS : ST D dA sz0 ad0 s) (hr : meth.sig.returnType = (some (FieldType.object "HungFaces$Trade"))) (hnm : meth.name = yX5_run.name) (h0 : Nat) : ∀ (n : Nat)  (σ : Mm) (kx195 : Mm → Option (Option Nat × Mm)), FX5_run_67 h0 n σ kx195 = some (r, σf) → (∀  (σ : Mm), kx195 σ = some (r, σf) → WMr p l e s m args below meth c 2 45 0 0 3 D dA sz0 ad0 N0 r σf 0 0 σ [(0, va_rf (some h0))] [] 195) → WMr p l e s m args below meth c 2 45 0 0 3 D dA sz0 ad0 N0 r σf 0 0 σ [(0, va_rf (some h0))] [] 67 := by
  intro n
  induction n with
  | zero =>
    intro σ kx195 h hkx195
    cases h
  | succ n ih =>
    intro σ kx195 h hkx195
    rw [FX5_run_67] at h
    refine wm_aload_n X 0 dX5_run_67 rfl ?_
    refine wm_gI X hS cd_5 2 h dX5_run_68 (Nat.le_of_ble_eq_true rfl) rfl q387 (fun x36 h => ?_)
    refine wm_if_eq X 195 h dX5_run_71 (by decide) (fun c71 h => ?_) (fun c71 h => ?_)
    · exact hkx195 _ h
    · refine wm_iconst (v := 0) X dX5_run_74 (by decide) ?_
      refine wm_istore_n (ℓ' := [(1, .int 0), (0, va_rf (some h0))]) X dX5_run_75 (by decide) rfl ?_
      refine wm_sub (ℓ' := [(0, va_rf (some h0)), (1, .int 0)]) [1, 0] rfl ?_
      refine wX5_run_76 X hS hr hnm _ fu _ _ _ h (fun σ h => ?_)
      · refine wm_aload_n X 0 dX5_run_122 rfl ?_
        obtain ⟨s51, h⟩ := ck_e h
        refine wm_cV_i (As := []) (st := []) X hS cd_5 s51 rfl h (fun _ _ hF => ctX5_ring l hF) mdX5_ring mvX5_ring q583 dX5_run_123 rfl rfl c1_0 (Nat.le_of_ble_eq_true rfl) ⟨Nat.le_of_ble_eq_true rfl, Nat.le_of_ble_eq_true rfl⟩ ⟨Nat.le_of_ble_eq_true rfl, Nat.le_of_ble_eq_true rfl⟩ (fun x52 σ53 _ h => ?_)
        refine wm_istore_n (ℓ' := [(1, .int x52), (0, va_rf (some h0))]) X dX5_run_126 (by decide) rfl ?_
        refine wm_iconst (v := 0) X dX5_run_127 (by decide) ?_
        refine wm_istore_n (ℓ' := [(2, .int 0), (1, .int x52), (0, va_rf (some h0))]) X dX5_run_128 (by decide) rfl ?_
        refine wm_sub (ℓ' := [(0, va_rf (some h0)), (1, .int x52), (2, .int 0)]) [2, 1, 0] rfl ?_
        refine wX5_run_129 X hS hr hnm _ _ fu _ _ _ h (fun σ h => ?_)
        · refine wm_aload_n X 0 dX5_run_180 rfl ?_
          refine wm_dup X dX5_run_181 (catR _) ?_
          refine wm_gI X hS cd_5 2 h dX5_run_182 (Nat.le_of_ble_eq_true rfl) rfl q387 (fun x69 h => ?_)
          refine wm_iload_n X 1 dX5_run_185 rfl ?_
          refine wm_iconst (v := (-1)) X dX5_run_186 (by decide) ?_
          refine wm_ixor X dX5_run_187 ?_
          refine wm_iand X dX5_run_188 ?_
          refine wm_pI X hS cd_5 2 h dX5_run_189 (Nat.le_of_ble_eq_true rfl) rfl q387 rfl rfl (fun σ70 _ h => ?_)
          refine wm_goto X 67 dX5_run_192 (by decide) ?_
          refine wm_sub (ℓ' := [(0, va_rf (some h0))]) [0] rfl ?_
          exact ih _ _ h hkx195
set_option maxHeartbeats 4000000 in
theorem ctX5_run (l : Launch) {h0 : Nat} {σ σf : Mm} {r : Option Nat} (h : FX5_run h0 σ = some (r, σf)) : CTr l yX5_run (ws_ yX5_run cX5_run 3 ((some (FieldType.object "HungFaces$Trade")))) 2 45 0 0 [va_rf (some h0)] σ r σf := by
  refine ct_start (n := 0) mdX5_run (Nat.le_of_ble_eq_true rfl) (c1_r c1_0) (fun p e s m args below meth c D dA sz0 ad0 X hS hr hnm => ?_)
  have X : CX p s m args meth c cX5_run 3 RX5 := X
  generalize mN σ = N0
  unfold FX5_run at h
  refine wm_aload_n X 0 dX5_run_0 rfl ?_
  refine wm_gR X hS cd_5 0 h dX5_run_1 (Nat.le_of_ble_eq_true rfl) rfl q384 (fun x21 h => ?_)
  refine wm_iconst (v := (-1)) X dX5_run_4 (by decide) ?_
  refine wm_cS_v (As := [va_rf x21, .int (-1)]) (st := []) X hS h (fun _ hF => ctJ0_fill l hF) mdJ0_fill msJ0_fill q576 dX5_run_5 rfl rfl c1_0 (Nat.le_of_ble_eq_true rfl) ⟨Nat.le_of_ble_eq_true rfl, Nat.le_of_ble_eq_true rfl⟩ ⟨Nat.le_of_ble_eq_true rfl, Nat.le_of_ble_eq_true rfl⟩ (fun σ22 _ h => ?_)
  refine wm_aload_n X 0 dX5_run_8 rfl ?_
  refine wm_iconst (v := 0) X dX5_run_9 (by decide) ?_
  refine wm_pI X hS cd_5 2 h dX5_run_10 (Nat.le_of_ble_eq_true rfl) rfl q387 rfl rfl (fun σ23 _ h => ?_)
  refine wm_iconst (v := 0) X dX5_run_13 (by decide) ?_
  refine wm_istore_n (ℓ' := [(1, .int 0), (0, va_rf (some h0))]) X dX5_run_14 (by decide) rfl ?_
  refine wm_sub (ℓ' := [(0, va_rf (some h0)), (1, .int 0)]) [1, 0] rfl ?_
  refine wX5_run_15 X hS hr hnm _ fu _ _ _ h (fun σ h => ?_)
  · refine wX5_run_67 X hS hr hnm _ fu _ _ h (fun σ h => ?_)
    · refine wm_aload_n X 0 dX5_run_195 rfl ?_
      exact wm_aret X hr (Or.inl ⟨_, rfl⟩) h dX5_run_196 (Nat.le_of_ble_eq_true rfl) (Nat.le_of_ble_eq_true rfl)
theorem mdX1_gains : MD yX1_gains 0 := by unfold MD; decide +kernel
theorem mvX1_gains : MV yX1_gains cX1_gains 3 ((some FieldType.int)) := ⟨q569, q570, q128, q571⟩
set_option maxHeartbeats 4000000 in
theorem wX1_gains_12 {p : Program} {l : Launch} {e : Env} {s : State} {m : MethodId} {args : Array Value} {below : List Frame} {meth : Method} {c : Code} {D : va_G} {dA : Nat → ClassId} {sz0 : Nat} {ad0 : Nat → Nat} {N0 : Nat} {r : Int32} {σf : Mm} (X : CX p s m args meth c cX1_gains 3 RX1) (hS : ST D dA sz0 ad0 s) (hr : meth.sig.returnType = (some FieldType.int)) (hnm : meth.name = yX1_gains.name) (h0 : Nat) : ∀ (n : Nat) (v1 : Int32) (v2 : Int32) (σ : Mm) (kx58 : Int32 → Mm → Option (Int32 × Mm)), FX1_gains_12 h0 n v1 v2 σ kx58 = some (r, σf) → (∀ (w1 : Int32) (σ : Mm), kx58 w1 σ = some (r, σf) → WMi p l e s m args below meth c 3 67 0 0 3 D dA sz0 ad0 N0 r σf 0 0 σ [(1, .int w1)] [] 58) → WMi p l e s m args below meth c 3 67 0 0 3 D dA sz0 ad0 N0 r σf 0 0 σ [(0, va_rf (some h0)), (1, .int v1), (2, .int v2)] [] 12 := by
  intro n
  induction n with
  | zero =>
    intro v1 v2 σ kx58 h hkx58
    cases h
  | succ n ih =>
    intro v1 v2 σ kx58 h hkx58
    rw [FX1_gains_12] at h
    refine wm_iload_n X 2 dX1_gains_12 rfl ?_
    refine wm_aload_n X 0 dX1_gains_13 rfl ?_
    refine wm_gR X hS cd_1 0 h dX1_gains_14 (Nat.le_of_ble_eq_true rfl) rfl q434 (fun x26 h => ?_)
    refine wm_gIN X hS cd_2 1 h dX1_gains_17 (Nat.le_of_ble_eq_true rfl) rfl 1 rfl (fun x27 h => ?_)
    refine wm_icmp_ge X 58 h dX1_gains_20 (by decide) (fun c36 h => ?_) (fun c36 h => ?_)
    · refine wm_sub (ℓ' := [(1, .int v1)]) [1] rfl ?_
      exact hkx58 _ _ h
    · refine wm_iload_n X 1 dX1_gains_23 rfl ?_
      refine wm_aload_n X 0 dX1_gains_24 rfl ?_
      refine wm_gR X hS cd_1 7 h dX1_gains_25 (Nat.le_of_ble_eq_true rfl) rfl q445 (fun x28 h => ?_)
      refine wm_gRN X hS cd_5 0 h dX1_gains_28 (Nat.le_of_ble_eq_true rfl) rfl 36 rfl (fun x29 h => ?_)
      refine wm_iload_n X 2 dX1_gains_31 rfl ?_
      refine wm_iaload X hS h dX1_gains_32 (fun x30 h => ?_)
      refine wm_aload_n X 0 dX1_gains_33 rfl ?_
      refine wm_gR X hS cd_1 0 h dX1_gains_34 (Nat.le_of_ble_eq_true rfl) rfl q434 (fun x31 h => ?_)
      refine wm_gRN X hS cd_2 10 h dX1_gains_37 (Nat.le_of_ble_eq_true rfl) rfl 10 rfl (fun x32 h => ?_)
      refine wm_iload_n X 2 dX1_gains_40 rfl ?_
      refine wm_iaload X hS h dX1_gains_41 (fun x33 h => ?_)
      obtain ⟨J50, eJ50, h⟩ := jn_e h
      have hJ50 : ∀ (z34 : Int32) (σ : Mm), J50 z34 σ = some (r, σf) → WMi p l e s m args below meth c 3 67 0 0 3 D dA sz0 ad0 N0 r σf 0 0 σ [(0, va_rf (some h0)), (2, .int v2)] [.int z34, .int v1] 50 := by
        intro z34 σ h
        rw [eJ50] at h
        refine wm_iadd X dX1_gains_50 ?_
        refine wm_istore_n (ℓ' := [(1, .int (v1 + z34)), (0, va_rf (some h0)), (2, .int v2)]) X dX1_gains_51 (by decide) rfl ?_
        refine wm_iinc (v := (v2 + 1)) (ℓ' := [(2, .int (v2 + 1)), (1, .int (v1 + z34)), (0, va_rf (some h0))]) X 2 dX1_gains_52 rfl rfl (by decide) rfl ?_
        refine wm_goto X 12 dX1_gains_55 (by decide) ?_
        refine wm_sub (ℓ' := [(0, va_rf (some h0)), (1, .int (v1 + z34)), (2, .int (v2 + 1))]) [2, 1, 0] rfl ?_
        exact ih _ _ _ _ h hkx58
      clear eJ50
      refine wm_icmp_eq X 49 h dX1_gains_42 (by decide) (fun c35 h => ?_) (fun c35 h => ?_)
      · refine wm_iconst (v := 0) X dX1_gains_49 (by decide) ?_
        refine wm_sub (ℓ' := [(0, va_rf (some h0)), (2, .int v2)]) [0, 2] rfl ?_
        exact hJ50 _ _ h
      · refine wm_iconst (v := 1) X dX1_gains_45 (by decide) ?_
        refine wm_goto X 50 dX1_gains_46 (by decide) ?_
        refine wm_sub (ℓ' := [(0, va_rf (some h0)), (2, .int v2)]) [0, 2] rfl ?_
        exact hJ50 _ _ h
set_option maxHeartbeats 4000000 in
theorem ctX1_gains (l : Launch) {h0 : Nat} {σ σf : Mm} {r : Int32} (h : FX1_gains h0 σ = some (r, σf)) : CTi l yX1_gains (ws_ yX1_gains cX1_gains 3 ((some FieldType.int))) 3 67 0 0 [va_rf (some h0)] σ r σf := by
  refine ct_start (n := 0) mdX1_gains (Nat.le_of_ble_eq_true rfl) (c1_r c1_0) (fun p e s m args below meth c D dA sz0 ad0 X hS hr hnm => ?_)
  have X : CX p s m args meth c cX1_gains 3 RX1 := X
  generalize mN σ = N0
  unfold FX1_gains at h
  refine wm_aload_n X 0 dX1_gains_0 rfl ?_
  refine wm_gR X hS cd_1 7 h dX1_gains_1 (Nat.le_of_ble_eq_true rfl) rfl q445 (fun x21 h => ?_)
  obtain ⟨q22, eq22, h⟩ := Option.bind_eq_some_iff.mp h
  obtain ⟨eq22, s23⟩ := rv_some eq22
  refine wm_cV_r (As := []) (st := []) X hS cd_5 s23 rfl h (fun _ _ hF => ctX5_run l hF) mdX5_run mvX5_run q572 dX1_gains_4 rfl (by rw [eq22]; first | done | rfl) c1_0 (Nat.le_of_ble_eq_true rfl) ⟨Nat.le_of_ble_eq_true rfl, Nat.le_of_ble_eq_true rfl⟩ ⟨Nat.le_of_ble_eq_true rfl, Nat.le_of_ble_eq_true rfl⟩ (fun x24 σ25 _ h => ?_)
  refine wm_pop X dX1_gains_7 (catR _) ?_
  refine wm_iconst (v := 0) X dX1_gains_8 (by decide) ?_
  refine wm_istore_n (ℓ' := [(1, .int 0), (0, va_rf (some h0))]) X dX1_gains_9 (by decide) rfl ?_
  refine wm_iconst (v := 0) X dX1_gains_10 (by decide) ?_
  refine wm_istore_n (ℓ' := [(2, .int 0), (1, .int 0), (0, va_rf (some h0))]) X dX1_gains_11 (by decide) rfl ?_
  refine wm_sub (ℓ' := [(0, va_rf (some h0)), (1, .int 0), (2, .int 0)]) [2, 1, 0] rfl ?_
  refine wX1_gains_12 X hS hr hnm _ fu _ _ _ _ h (fun x37 σ h => ?_)
  · refine wm_iload_n X 0 dX1_gains_58 rfl ?_
    exact wm_iret X hr h dX1_gains_59 (Nat.le_of_ble_eq_true rfl) (Nat.le_of_ble_eq_true rfl)
theorem mdX2_withTickets : MD yX2_withTickets 0 := by unfold MD; decide +kernel
theorem mvX2_withTickets : MV yX2_withTickets cX2_withTickets 3 ((some FieldType.int)) := ⟨q597, q598, q129, q599⟩
set_option maxHeartbeats 4000000 in
theorem wX2_withTickets_4 {p : Program} {l : Launch} {e : Env} {s : State} {m : MethodId} {args : Array Value} {below : List Frame} {meth : Method} {c : Code} {D : va_G} {dA : Nat → ClassId} {sz0 : Nat} {ad0 : Nat → Nat} {N0 : Nat} {r : Int32} {σf : Mm} (X : CX p s m args meth c cX2_withTickets 3 RX2) (hS : ST D dA sz0 ad0 s) (hr : meth.sig.returnType = (some FieldType.int)) (hnm : meth.name = yX2_withTickets.name) (h0 : Nat) : ∀ (n : Nat) (v1 : Int32) (v2 : Int32) (σ : Mm) (kx38 : Int32 → Mm → Option (Int32 × Mm)), FX2_withTickets_4 h0 n v1 v2 σ kx38 = some (r, σf) → (∀ (w1 : Int32) (σ : Mm), kx38 w1 σ = some (r, σf) → WMi p l e s m args below meth c 0 0 0 0 3 D dA sz0 ad0 N0 r σf 0 0 σ [(1, .int w1)] [] 38) → WMi p l e s m args below meth c 0 0 0 0 3 D dA sz0 ad0 N0 r σf 0 0 σ [(0, va_rf (some h0)), (1, .int v1), (2, .int v2)] [] 4 := by
  intro n
  induction n with
  | zero =>
    intro v1 v2 σ kx38 h hkx38
    cases h
  | succ n ih =>
    intro v1 v2 σ kx38 h hkx38
    rw [FX2_withTickets_4] at h
    refine wm_iload_n X 2 dX2_withTickets_4 rfl ?_
    refine wm_aload_n X 0 dX2_withTickets_5 rfl ?_
    refine wm_gI X hS cd_2 1 h dX2_withTickets_6 (Nat.le_of_ble_eq_true rfl) rfl q192 (fun x21 h => ?_)
    refine wm_icmp_ge X 38 h dX2_withTickets_9 (by decide) (fun c26 h => ?_) (fun c26 h => ?_)
    · refine wm_sub (ℓ' := [(1, .int v1)]) [1] rfl ?_
      exact hkx38 _ _ h
    · refine wm_iload_n X 1 dX2_withTickets_12 rfl ?_
      refine wm_aload_n X 0 dX2_withTickets_13 rfl ?_
      refine wm_gR X hS cd_2 11 h dX2_withTickets_14 (Nat.le_of_ble_eq_true rfl) rfl q215 (fun x22 h => ?_)
      refine wm_iload_n X 2 dX2_withTickets_17 rfl ?_
      refine wm_iaload X hS h dX2_withTickets_18 (fun x23 h => ?_)
      refine wm_iconst (v := (-1)) X dX2_withTickets_19 (by decide) ?_
      obtain ⟨J30, eJ30, h⟩ := jn_e h
      have hJ30 : ∀ (z24 : Int32) (σ : Mm), J30 z24 σ = some (r, σf) → WMi p l e s m args below meth c 0 0 0 0 3 D dA sz0 ad0 N0 r σf 0 0 σ [(0, va_rf (some h0)), (2, .int v2)] [.int z24, .int v1] 30 := by
        intro z24 σ h
        rw [eJ30] at h
        refine wm_ior X dX2_withTickets_30 ?_
        refine wm_istore_n (ℓ' := [(1, .int (v1 ||| z24)), (0, va_rf (some h0)), (2, .int v2)]) X dX2_withTickets_31 (by decide) rfl ?_
        refine wm_iinc (v := (v2 + 1)) (ℓ' := [(2, .int (v2 + 1)), (1, .int (v1 ||| z24)), (0, va_rf (some h0))]) X 2 dX2_withTickets_32 rfl rfl (by decide) rfl ?_
        refine wm_goto X 4 dX2_withTickets_35 (by decide) ?_
        refine wm_sub (ℓ' := [(0, va_rf (some h0)), (1, .int (v1 ||| z24)), (2, .int (v2 + 1))]) [2, 1, 0] rfl ?_
        exact ih _ _ _ _ h hkx38
      clear eJ30
      refine wm_icmp_eq X 29 h dX2_withTickets_20 (by decide) (fun c25 h => ?_) (fun c25 h => ?_)
      · refine wm_iconst (v := 0) X dX2_withTickets_29 (by decide) ?_
        refine wm_sub (ℓ' := [(0, va_rf (some h0)), (2, .int v2)]) [0, 2] rfl ?_
        exact hJ30 _ _ h
      · refine wm_iconst (v := 1) X dX2_withTickets_23 (by decide) ?_
        refine wm_iload_n X 2 dX2_withTickets_24 rfl ?_
        refine wm_ishl X dX2_withTickets_25 ?_
        refine wm_goto X 30 dX2_withTickets_26 (by decide) ?_
        refine wm_sub (ℓ' := [(0, va_rf (some h0)), (2, .int v2)]) [0, 2] rfl ?_
        exact hJ30 _ _ h
set_option maxHeartbeats 4000000 in
theorem ctX2_withTickets (l : Launch) {h0 : Nat} {σ σf : Mm} {r : Int32} (h : FX2_withTickets h0 σ = some (r, σf)) : CTi l yX2_withTickets (ws_ yX2_withTickets cX2_withTickets 3 ((some FieldType.int))) 0 0 0 0 [va_rf (some h0)] σ r σf := by
  refine ct_start (n := 0) mdX2_withTickets (Nat.le_of_ble_eq_true rfl) (c1_r c1_0) (fun p e s m args below meth c D dA sz0 ad0 X hS hr hnm => ?_)
  have X : CX p s m args meth c cX2_withTickets 3 RX2 := X
  generalize mN σ = N0
  unfold FX2_withTickets at h
  refine wm_iconst (v := 0) X dX2_withTickets_0 (by decide) ?_
  refine wm_istore_n (ℓ' := [(1, .int 0), (0, va_rf (some h0))]) X dX2_withTickets_1 (by decide) rfl ?_
  refine wm_iconst (v := 0) X dX2_withTickets_2 (by decide) ?_
  refine wm_istore_n (ℓ' := [(2, .int 0), (1, .int 0), (0, va_rf (some h0))]) X dX2_withTickets_3 (by decide) rfl ?_
  refine wm_sub (ℓ' := [(0, va_rf (some h0)), (1, .int 0), (2, .int 0)]) [2, 1, 0] rfl ?_
  refine wX2_withTickets_4 X hS hr hnm _ fu _ _ _ _ h (fun x27 σ h => ?_)
  · refine wm_iload_n X 0 dX2_withTickets_38 rfl ?_
    exact wm_iret X hr h dX2_withTickets_39 (Nat.le_of_ble_eq_true rfl) (Nat.le_of_ble_eq_true rfl)
theorem mdX1_kth : MD yX1_kth 2 := by unfold MD; decide +kernel
theorem msX1_kth : MS yX1_kth cX1_kth 4 ((some FieldType.int)) := ⟨q602, q128, q603⟩
set_option maxHeartbeats 4000000 in
theorem wX1_kth_4 {p : Program} {l : Launch} {e : Env} {s : State} {m : MethodId} {args : Array Value} {below : List Frame} {meth : Method} {c : Code} {D : va_G} {dA : Nat → ClassId} {sz0 : Nat} {ad0 : Nat → Nat} {N0 : Nat} {r : Int32} {σf : Mm} (X : CX p s m args meth c cX1_kth 4 RX1) (hS : ST D dA sz0 ad0 s) (hr : meth.sig.returnType = (some FieldType.int)) (hnm : meth.name = yX1_kth.name) (y1 : Int32) : ∀ (n : Nat) (v2 : Int32) (v3 : Int32) (σ : Mm) (kx21 : Int32 → Mm → Option (Int32 × Mm)), FX1_kth_4 y1 n v2 v3 σ kx21 = some (r, σf) → (∀ (w2 : Int32) (σ : Mm), kx21 w2 σ = some (r, σf) → WMi p l e s m args below meth c 1 21 0 0 4 D dA sz0 ad0 N0 r σf 0 0 σ [(2, .int w2)] [] 21) → WMi p l e s m args below meth c 1 21 0 0 4 D dA sz0 ad0 N0 r σf 0 0 σ [(1, .int y1), (2, .int v2), (3, .int v3)] [] 4 := by
  intro n
  induction n with
  | zero =>
    intro v2 v3 σ kx21 h hkx21
    cases h
  | succ n ih =>
    intro v2 v3 σ kx21 h hkx21
    rw [FX1_kth_4] at h
    refine wm_iload_n X 2 dX1_kth_4 rfl ?_
    refine wm_iload_n X 0 dX1_kth_5 rfl ?_
    refine wm_icmp_ge X 21 h dX1_kth_6 (by decide) (fun c21 h => ?_) (fun c21 h => ?_)
    · refine wm_sub (ℓ' := [(2, .int v2)]) [1] rfl ?_
      exact hkx21 _ _ h
    · refine wm_iload_n X 1 dX1_kth_9 rfl ?_
      refine wm_iload_n X 1 dX1_kth_10 rfl ?_
      refine wm_iconst (v := 1) X dX1_kth_11 (by decide) ?_
      refine wm_isub X dX1_kth_12 ?_
      refine wm_iand X dX1_kth_13 ?_
      refine wm_istore_n (ℓ' := [(2, .int (v2 &&& (v2 - 1))), (1, .int y1), (3, .int v3)]) X dX1_kth_14 (by decide) rfl ?_
      refine wm_iinc (v := (v3 + 1)) (ℓ' := [(3, .int (v3 + 1)), (2, .int (v2 &&& (v2 - 1))), (1, .int y1)]) X 2 dX1_kth_15 rfl rfl (by decide) rfl ?_
      refine wm_goto X 4 dX1_kth_18 (by decide) ?_
      refine wm_sub (ℓ' := [(1, .int y1), (2, .int (v2 &&& (v2 - 1))), (3, .int (v3 + 1))]) [2, 1, 0] rfl ?_
      exact ih _ _ _ _ h hkx21
set_option maxHeartbeats 4000000 in
theorem ctX1_kth (l : Launch) {x0 : Int32} {x1 : Int32} {σ σf : Mm} {r : Int32} (h : FX1_kth x0 x1 σ = some (r, σf)) : CTi l yX1_kth (ws_ yX1_kth cX1_kth 4 ((some FieldType.int))) 1 21 0 0 [.int x0, .int x1] σ r σf := by
  refine ct_start (n := 2) mdX1_kth (Nat.le_of_ble_eq_true rfl) (c1_i (c1_i c1_0)) (fun p e s m args below meth c D dA sz0 ad0 X hS hr hnm => ?_)
  have X : CX p s m args meth c cX1_kth 4 RX1 := X
  generalize mN σ = N0
  unfold FX1_kth at h
  refine wm_iload_n X 0 dX1_kth_0 rfl ?_
  refine wm_istore_n (ℓ' := [(2, .int x0), (0, .int x0), (1, .int x1)]) X dX1_kth_1 (by decide) rfl ?_
  refine wm_iconst (v := 0) X dX1_kth_2 (by decide) ?_
  refine wm_istore_n (ℓ' := [(3, .int 0), (2, .int x0), (0, .int x0), (1, .int x1)]) X dX1_kth_3 (by decide) rfl ?_
  refine wm_sub (ℓ' := [(1, .int x1), (2, .int x0), (3, .int 0)]) [3, 1, 0] rfl ?_
  refine wX1_kth_4 X hS hr hnm _ fu _ _ _ _ h (fun x22 σ h => ?_)
  · refine wm_iload_n X 0 dX1_kth_21 rfl ?_
    refine wm_cS_i (As := [.int x22]) (st := []) X hS h (fun _ _ hF => ctJ16_numberOfTrailingZeros l hF) mdJ16_numberOfTrailingZeros msJ16_numberOfTrailingZeros q544 dX1_kth_22 rfl rfl c1_0 (Nat.le_of_ble_eq_true rfl) ⟨Nat.le_of_ble_eq_true rfl, Nat.le_of_ble_eq_true rfl⟩ ⟨Nat.le_of_ble_eq_true rfl, Nat.le_of_ble_eq_true rfl⟩ (fun x23 σ24 _ h => ?_)
    exact wm_iret X hr h dX1_kth_25 (Nat.le_of_ble_eq_true rfl) (Nat.le_of_ble_eq_true rfl)
theorem mdX7_hookOf : MD yX7_hookOf 1 := by unfold MD; decide +kernel
theorem mvX7_hookOf : MV yX7_hookOf cX7_hookOf 2 ((some FieldType.int)) := ⟨q616, qs8, q138, q617⟩
set_option maxHeartbeats 4000000 in
theorem ctX7_hookOf (l : Launch) {h0 : Nat} {x1 : Int32} {σ σf : Mm} {r : Int32} (h : FX7_hookOf h0 x1 σ = some (r, σf)) : CTi l yX7_hookOf (ws_ yX7_hookOf cX7_hookOf 2 ((some FieldType.int))) 0 0 0 0 [va_rf (some h0), .int x1] σ r σf := by
  refine ct_start (n := 1) mdX7_hookOf (Nat.le_of_ble_eq_true rfl) (c1_r (c1_i c1_0)) (fun p e s m args below meth c D dA sz0 ad0 X hS hr hnm => ?_)
  have X : CX p s m args meth c cX7_hookOf 2 RX7 := X
  generalize mN σ = N0
  unfold FX7_hookOf at h
  refine wm_iload_n X 1 dX7_hookOf_0 rfl ?_
  refine wm_iconst (v := (-1)) X dX7_hookOf_1 (by decide) ?_
  refine wm_icmp_ne X 9 h dX7_hookOf_2 (by decide) (fun c27 h => ?_) (fun c27 h => ?_)
  · refine wm_aload_n X 0 dX7_hookOf_9 rfl ?_
    refine wm_gR X hS cd_7 3 h dX7_hookOf_10 (Nat.le_of_ble_eq_true rfl) rfl q424 (fun x21 h => ?_)
    refine wm_gRN X hS cd_1 0 h dX7_hookOf_13 (Nat.le_of_ble_eq_true rfl) rfl 66 rfl (fun x22 h => ?_)
    refine wm_gRN X hS cd_2 11 h dX7_hookOf_16 (Nat.le_of_ble_eq_true rfl) rfl 65 rfl (fun x23 h => ?_)
    refine wm_aload_n X 0 dX7_hookOf_19 rfl ?_
    refine wm_gR X hS cd_7 0 h dX7_hookOf_20 (Nat.le_of_ble_eq_true rfl) rfl q420 (fun x24 h => ?_)
    refine wm_iload_n X 1 dX7_hookOf_23 rfl ?_
    refine wm_iaload X hS h dX7_hookOf_24 (fun x25 h => ?_)
    refine wm_iaload X hS h dX7_hookOf_25 (fun x26 h => ?_)
    exact wm_iret X hr h dX7_hookOf_26 (Nat.le_of_ble_eq_true rfl) (Nat.le_of_ble_eq_true rfl)
  · refine wm_iconst (v := 0) X dX7_hookOf_5 (by decide) ?_
    refine wm_goto X 26 dX7_hookOf_6 (by decide) ?_
    exact wm_iret X hr h dX7_hookOf_26 (Nat.le_of_ble_eq_true rfl) (Nat.le_of_ble_eq_true rfl)
theorem mdX7_by : MD yX7_by 3 := by unfold MD; decide +kernel
theorem mvX7_by : MV yX7_by cX7_by 6 ((some FieldType.int)) := ⟨q612, qs7, q138, q613⟩
set_option maxHeartbeats 4000000 in
theorem ctX7_by (l : Launch) {h0 : Nat} {x1 : Int32} {x2 : Int32} {x3 : Int32} {σ σf : Mm} {r : Int32} (h : FX7_by h0 x1 x2 x3 σ = some (r, σf)) : CTi l yX7_by (ws_ yX7_by cX7_by 6 ((some FieldType.int))) 1 25 0 0 [va_rf (some h0), .int x1, .int x2, .int x3] σ r σf := by
  refine ct_start (n := 3) mdX7_by (Nat.le_of_ble_eq_true rfl) (c1_r (c1_i (c1_i (c1_i c1_0)))) (fun p e s m args below meth c D dA sz0 ad0 X hS hr hnm => ?_)
  have X : CX p s m args meth c cX7_by 6 RX7 := X
  generalize mN σ = N0
  unfold FX7_by at h
  refine wm_aload_n X 0 dX7_by_0 rfl ?_
  refine wm_iload_n X 2 dX7_by_1 rfl ?_
  obtain ⟨s21, h⟩ := ck_e h
  refine wm_cV_i (As := [.int x2]) (st := []) X hS cd_7 s21 rfl h (fun _ _ hF => ctX7_hookOf l hF) mdX7_hookOf mvX7_hookOf q614 dX7_by_2 rfl rfl c1_0 (Nat.le_of_ble_eq_true rfl) ⟨Nat.le_of_ble_eq_true rfl, Nat.le_of_ble_eq_true rfl⟩ ⟨Nat.le_of_ble_eq_true rfl, Nat.le_of_ble_eq_true rfl⟩ (fun x22 σ23 _ h => ?_)
  refine wm_aload_n X 0 dX7_by_5 rfl ?_
  refine wm_iload_n X 3 dX7_by_6 rfl ?_
  obtain ⟨s24, h⟩ := ck_e h
  refine wm_cV_i (As := [.int x3]) (st := [.int x22]) X hS cd_7 s24 rfl h (fun _ _ hF => ctX7_hookOf l hF) mdX7_hookOf mvX7_hookOf q614 dX7_by_7 rfl rfl (c1_i c1_0) (Nat.le_of_ble_eq_true rfl) ⟨Nat.le_of_ble_eq_true rfl, Nat.le_of_ble_eq_true rfl⟩ ⟨Nat.le_of_ble_eq_true rfl, Nat.le_of_ble_eq_true rfl⟩ (fun x25 σ26 _ h => ?_)
  refine wm_isub X dX7_by_10 ?_
  refine wm_mabs X dX7_by_11 q618 q619 q146 q620 (Nat.le_of_ble_eq_true rfl) c1_0 (Nat.le_of_ble_eq_true rfl) (Nat.le_of_ble_eq_true rfl) (Nat.le_of_ble_eq_true rfl) (Nat.le_of_ble_eq_true rfl) ?_
  refine wm_iconst (v := 1) X dX7_by_14 (by decide) ?_
  refine wm_iadd X dX7_by_15 ?_
  refine wm_istore (ℓ' := [(4, .int ((iabs (x22 - x25)) + 1)), (0, va_rf (some h0)), (1, .int x1), (2, .int x2), (3, .int x3)]) X dX7_by_16 (by decide) rfl ?_
  refine wm_aload_n X 1 dX7_by_18 rfl ?_
  refine wm_gI X hS cd_7 2 h dX7_by_19 (Nat.le_of_ble_eq_true rfl) rfl q422 (fun x27 h => ?_)
  refine wm_iload_n X 2 dX7_by_22 rfl ?_
  refine wm_cS_i (As := [.int x1]) (st := [.int x27]) X hS h (fun _ _ hF => ctJ16_bitCount l hF) mdJ16_bitCount msJ16_bitCount q600 dX7_by_23 rfl rfl (c1_i c1_0) (Nat.le_of_ble_eq_true rfl) ⟨Nat.le_of_ble_eq_true rfl, Nat.le_of_ble_eq_true rfl⟩ ⟨Nat.le_of_ble_eq_true rfl, Nat.le_of_ble_eq_true rfl⟩ (fun x28 σ29 _ h => ?_)
  refine wm_isub X dX7_by_26 ?_
  refine wm_istore (ℓ' := [(5, .int (x27 - x28)), (4, .int ((iabs (x22 - x25)) + 1)), (0, va_rf (some h0)), (1, .int x1), (2, .int x2), (3, .int x3)]) X dX7_by_27 (by decide) rfl ?_
  refine wm_iload X 1 dX7_by_29 rfl ?_
  refine wm_iload X 0 dX7_by_31 rfl ?_
  refine wm_imul X dX7_by_33 ?_
  refine wm_aload_n X 2 dX7_by_34 rfl ?_
  refine wm_gR X hS cd_7 1 h dX7_by_35 (Nat.le_of_ble_eq_true rfl) rfl q421 (fun x30 h => ?_)
  refine wm_iload_n X 5 dX7_by_38 rfl ?_
  refine wm_bipush (v := 10) X dX7_by_39 (by decide) ?_
  refine wm_ishl X dX7_by_41 ?_
  refine wm_iload_n X 3 dX7_by_42 rfl ?_
  refine wm_ior X dX7_by_43 ?_
  refine wm_iconst (v := 1) X dX7_by_44 (by decide) ?_
  refine wm_iload_n X 5 dX7_by_45 rfl ?_
  refine wm_ishl X dX7_by_46 ?_
  refine wm_ior X dX7_by_47 ?_
  refine wm_iaload X hS h dX7_by_48 (fun x31 h => ?_)
  refine wm_iadd X dX7_by_49 ?_
  exact wm_iret X hr h dX7_by_50 (Nat.le_of_ble_eq_true rfl) (Nat.le_of_ble_eq_true rfl)
theorem mdX7_rest : MD yX7_rest 2 := by unfold MD; decide +kernel
theorem mvX7_rest : MV yX7_rest cX7_rest 5 ((some FieldType.int)) := ⟨q605, q606, q138, q607⟩
set_option maxHeartbeats 4000000 in
theorem wX7_rest_20 {p : Program} {l : Launch} {e : Env} {s : State} {m : MethodId} {args : Array Value} {below : List Frame} {meth : Method} {c : Code} {D : va_G} {dA : Nat → ClassId} {sz0 : Nat} {ad0 : Nat → Nat} {N0 : Nat} {r : Int32} {σf : Mm} (X : CX p s m args meth c cX7_rest 5 RX7) (hS : ST D dA sz0 ad0 s) (hr : meth.sig.returnType = (some FieldType.int)) (hnm : meth.name = yX7_rest.name) (h0 : Nat) (y1 : Int32) (y2 : Int32) : ∀ (n : Nat) (v3 : Int32) (v4 : Int32) (σ : Mm) (kx57 : Int32 → Mm → Option (Int32 × Mm)), FX7_rest_20 h0 y1 y2 n v3 v4 σ kx57 = some (r, σf) → (∀ (w3 : Int32) (σ : Mm), kx57 w3 σ = some (r, σf) → WMi p l e s m args below meth c 2 50 0 0 5 D dA sz0 ad0 N0 r σf 0 0 σ [(3, .int w3)] [] 57) → WMi p l e s m args below meth c 2 50 0 0 5 D dA sz0 ad0 N0 r σf 0 0 σ [(0, va_rf (some h0)), (1, .int y1), (2, .int y2), (3, .int v3), (4, .int v4)] [] 20 := by
  intro n
  induction n with
  | zero =>
    intro v3 v4 σ kx57 h hkx57
    cases h
  | succ n ih =>
    intro v3 v4 σ kx57 h hkx57
    rw [FX7_rest_20] at h
    refine wm_iload X 4 dX7_rest_20 rfl ?_
    refine wm_aload_n X 0 dX7_rest_22 rfl ?_
    refine wm_gI X hS cd_7 2 h dX7_rest_23 (Nat.le_of_ble_eq_true rfl) rfl q422 (fun x22 h => ?_)
    refine wm_icmp_ge X 57 h dX7_rest_26 (by decide) (fun c29 h => ?_) (fun c29 h => ?_)
    · refine wm_sub (ℓ' := [(3, .int v3)]) [3] rfl ?_
      exact hkx57 _ _ h
    · refine wm_iload_n X 1 dX7_rest_29 rfl ?_
      refine wm_iload X 4 dX7_rest_30 rfl ?_
      refine wm_cSN_i (As := [.int y1, .int v4]) (st := []) X hS h (fun _ _ hF => ctX1_has l hF) mdX1_has msX1_has 68 rfl dX7_rest_32 rfl rfl c1_0 (Nat.le_of_ble_eq_true rfl) ⟨Nat.le_of_ble_eq_true rfl, Nat.le_of_ble_eq_true rfl⟩ ⟨Nat.le_of_ble_eq_true rfl, Nat.le_of_ble_eq_true rfl⟩ (fun x23 σ24 _ h => ?_)
      refine wm_if_ne X 51 h dX7_rest_35 (by decide) (fun c28 h => ?_) (fun c28 h => ?_)
      · refine wm_iinc (v := (v4 + 1)) (ℓ' := [(4, .int (v4 + 1)), (0, va_rf (some h0)), (1, .int y1), (2, .int y2), (3, .int v3)]) X 4 dX7_rest_51 rfl rfl (by decide) rfl ?_
        refine wm_goto X 20 dX7_rest_54 (by decide) ?_
        refine wm_sub (ℓ' := [(0, va_rf (some h0)), (1, .int y1), (2, .int y2), (3, .int v3), (4, .int (v4 + 1))]) [1, 2, 3, 4, 0] rfl ?_
        exact ih _ _ _ _ h hkx57
      · refine wm_iload_n X 3 dX7_rest_38 rfl ?_
        refine wm_aload_n X 0 dX7_rest_39 rfl ?_
        refine wm_iload_n X 1 dX7_rest_40 rfl ?_
        refine wm_iload_n X 2 dX7_rest_41 rfl ?_
        refine wm_iload X 4 dX7_rest_42 rfl ?_
        obtain ⟨s25, h⟩ := ck_e h
        refine wm_cV_i (As := [.int y1, .int y2, .int v4]) (st := [.int v3]) X hS cd_7 s25 rfl h (fun _ _ hF => ctX7_by l hF) mdX7_by mvX7_by q610 dX7_rest_44 rfl rfl (c1_i c1_0) (Nat.le_of_ble_eq_true rfl) ⟨Nat.le_of_ble_eq_true rfl, Nat.le_of_ble_eq_true rfl⟩ ⟨Nat.le_of_ble_eq_true rfl, Nat.le_of_ble_eq_true rfl⟩ (fun x26 σ27 _ h => ?_)
        refine wm_mmin X dX7_rest_47 q621 q622 q146 q623 (Nat.le_of_ble_eq_true rfl) c1_0 (Nat.le_of_ble_eq_true rfl) (Nat.le_of_ble_eq_true rfl) (Nat.le_of_ble_eq_true rfl) (Nat.le_of_ble_eq_true rfl) ?_
        refine wm_istore_n (ℓ' := [(3, .int (imin v3 x26)), (0, va_rf (some h0)), (1, .int y1), (2, .int y2), (4, .int v4)]) X dX7_rest_50 (by decide) rfl ?_
        refine wm_iinc (v := (v4 + 1)) (ℓ' := [(4, .int (v4 + 1)), (3, .int (imin v3 x26)), (0, va_rf (some h0)), (1, .int y1), (2, .int y2)]) X 4 dX7_rest_51 rfl rfl (by decide) rfl ?_
        refine wm_goto X 20 dX7_rest_54 (by decide) ?_
        refine wm_sub (ℓ' := [(0, va_rf (some h0)), (1, .int y1), (2, .int y2), (3, .int (imin v3 x26)), (4, .int (v4 + 1))]) [2, 3, 4, 1, 0] rfl ?_
        exact ih _ _ _ _ h hkx57
set_option maxHeartbeats 4000000 in
theorem ctX7_rest (l : Launch) {h0 : Nat} {x1 : Int32} {x2 : Int32} {σ σf : Mm} {r : Int32} (h : FX7_rest h0 x1 x2 σ = some (r, σf)) : CTi l yX7_rest (ws_ yX7_rest cX7_rest 5 ((some FieldType.int))) 2 50 0 0 [va_rf (some h0), .int x1, .int x2] σ r σf := by
  refine ct_start (n := 2) mdX7_rest (Nat.le_of_ble_eq_true rfl) (c1_r (c1_i (c1_i c1_0))) (fun p e s m args below meth c D dA sz0 ad0 X hS hr hnm => ?_)
  have X : CX p s m args meth c cX7_rest 5 RX7 := X
  generalize mN σ = N0
  unfold FX7_rest at h
  refine wm_iload_n X 1 dX7_rest_0 rfl ?_
  refine wm_iconst (v := 1) X dX7_rest_1 (by decide) ?_
  refine wm_aload_n X 0 dX7_rest_2 rfl ?_
  refine wm_gI X hS cd_7 2 h dX7_rest_3 (Nat.le_of_ble_eq_true rfl) rfl q422 (fun x21 h => ?_)
  refine wm_ishl X dX7_rest_6 ?_
  refine wm_iconst (v := 1) X dX7_rest_7 (by decide) ?_
  refine wm_isub X dX7_rest_8 ?_
  refine wm_icmp_ne X 14 h dX7_rest_9 (by decide) (fun c31 h => ?_) (fun c31 h => ?_)
  · refine wm_ldc X dX7_rest_14 q608 ?_
    refine wm_istore_n (ℓ' := [(3, .int 100000), (0, va_rf (some h0)), (1, .int x1), (2, .int x2)]) X dX7_rest_16 (by decide) rfl ?_
    refine wm_iconst (v := 0) X dX7_rest_17 (by decide) ?_
    refine wm_istore (ℓ' := [(4, .int 0), (3, .int 100000), (0, va_rf (some h0)), (1, .int x1), (2, .int x2)]) X dX7_rest_18 (by decide) rfl ?_
    refine wm_sub (ℓ' := [(0, va_rf (some h0)), (1, .int x1), (2, .int x2), (3, .int 100000), (4, .int 0)]) [2, 3, 4, 1, 0] rfl ?_
    refine wX7_rest_20 X hS hr hnm _ _ _ fu _ _ _ _ h (fun x30 σ h => ?_)
    · refine wm_iload_n X 0 dX7_rest_57 rfl ?_
      exact wm_iret X hr h dX7_rest_58 (Nat.le_of_ble_eq_true rfl) (Nat.le_of_ble_eq_true rfl)
  · refine wm_iconst (v := 0) X dX7_rest_12 (by decide) ?_
    exact wm_iret X hr h dX7_rest_13 (Nat.le_of_ble_eq_true rfl) (Nat.le_of_ble_eq_true rfl)
theorem mdX7_begins : MD yX7_begins 0 := by unfold MD; decide +kernel
theorem mvX7_begins : MV yX7_begins cX7_begins 4 ((some (FieldType.object "HungFaces$Queue"))) := ⟨q593, q594, q138, q595⟩
set_option maxHeartbeats 4000000 in
theorem wX7_begins_21 {p : Program} {l : Launch} {e : Env} {s : State} {m : MethodId} {args : Array Value} {below : List Frame} {meth : Method} {c : Code} {D : va_G} {dA : Nat → ClassId} {sz0 : Nat} {ad0 : Nat → Nat} {N0 : Nat} {r : Option Nat} {σf : Mm} (X : CX p s m args meth c cX7_begins 4 RX7) (hS : ST D dA sz0 ad0 s) (hr : meth.sig.returnType = (some (FieldType.object "HungFaces$Queue"))) (hnm : meth.name = yX7_begins.name) (h0 : Nat) (y1 : Int32) : ∀ (n : Nat) (v2 : Int32) (σ : Mm) (kx46 : Mm → Option (Option Nat × Mm)), FX7_begins_21 h0 y1 n v2 σ kx46 = some (r, σf) → (∀  (σ : Mm), kx46 σ = some (r, σf) → WMr p l e s m args below meth c 3 74 0 0 4 D dA sz0 ad0 N0 r σf 0 0 σ [(0, va_rf (some h0))] [] 46) → WMr p l e s m args below meth c 3 74 0 0 4 D dA sz0 ad0 N0 r σf 0 0 σ [(0, va_rf (some h0)), (1, .int y1), (2, .int v2)] [] 21 := by
  intro n
  induction n with
  | zero =>
    intro v2 σ kx46 h hkx46
    cases h
  | succ n ih =>
    intro v2 σ kx46 h hkx46
    rw [FX7_begins_21] at h
    refine wm_iload_n X 2 dX7_begins_21 rfl ?_
    refine wm_aload_n X 0 dX7_begins_22 rfl ?_
    refine wm_gI X hS cd_7 2 h dX7_begins_23 (Nat.le_of_ble_eq_true rfl) rfl q422 (fun x30 h => ?_)
    refine wm_icmp_ge X 46 h dX7_begins_26 (by decide) (fun c35 h => ?_) (fun c35 h => ?_)
    · refine wm_sub (ℓ' := [(0, va_rf (some h0))]) [0] rfl ?_
      exact hkx46 _ h
    · refine wm_aload_n X 0 dX7_begins_29 rfl ?_
      refine wm_gR X hS cd_7 0 h dX7_begins_30 (Nat.le_of_ble_eq_true rfl) rfl q420 (fun x31 h => ?_)
      refine wm_iload_n X 2 dX7_begins_33 rfl ?_
      refine wm_iload_n X 1 dX7_begins_34 rfl ?_
      refine wm_iload_n X 2 dX7_begins_35 rfl ?_
      refine wm_cSN_i (As := [.int y1, .int v2]) (st := [.int v2, va_rf x31]) X hS h (fun _ _ hF => ctX1_kth l hF) mdX1_kth msX1_kth 67 rfl dX7_begins_36 rfl rfl (c1_i (c1_r c1_0)) (Nat.le_of_ble_eq_true rfl) ⟨Nat.le_of_ble_eq_true rfl, Nat.le_of_ble_eq_true rfl⟩ ⟨Nat.le_of_ble_eq_true rfl, Nat.le_of_ble_eq_true rfl⟩ (fun x32 σ33 _ h => ?_)
      refine wm_iastore X hS h dX7_begins_39 (fun σ34 _ h => ?_)
      refine wm_iinc (v := (v2 + 1)) (ℓ' := [(2, .int (v2 + 1)), (0, va_rf (some h0)), (1, .int y1)]) X 2 dX7_begins_40 rfl rfl (by decide) rfl ?_
      refine wm_goto X 21 dX7_begins_43 (by decide) ?_
      refine wm_sub (ℓ' := [(0, va_rf (some h0)), (1, .int y1), (2, .int (v2 + 1))]) [1, 2, 0] rfl ?_
      exact ih _ _ _ h hkx46
set_option maxHeartbeats 4000000 in
theorem wX7_begins_61 {p : Program} {l : Launch} {e : Env} {s : State} {m : MethodId} {args : Array Value} {below : List Frame} {meth : Method} {c : Code} {D : va_G} {dA : Nat → ClassId} {sz0 : Nat} {ad0 : Nat → Nat} {N0 : Nat} {r : Option Nat} {σf : Mm} (X : CX p s m args meth c cX7_begins 4 RX7) (hS : ST D dA sz0 ad0 s) (hr : meth.sig.returnType = (some (FieldType.object "HungFaces$Queue"))) (hnm : meth.name = yX7_begins.name) (h0 : Nat) (y2 : Int32) : ∀ (n : Nat) (v3 : Int32) (σ : Mm) (kx92 : Mm → Option (Option Nat × Mm)), FX7_begins_61 h0 y2 n v3 σ kx92 = some (r, σf) → (∀  (σ : Mm), kx92 σ = some (r, σf) → WMr p l e s m args below meth c 3 74 0 0 4 D dA sz0 ad0 N0 r σf 0 0 σ [(0, va_rf (some h0)), (2, .int y2)] [] 92) → WMr p l e s m args below meth c 3 74 0 0 4 D dA sz0 ad0 N0 r σf 0 0 σ [(0, va_rf (some h0)), (2, .int y2), (3, .int v3)] [] 61 := by
  intro n
  induction n with
  | zero =>
    intro v3 σ kx92 h hkx92
    cases h
  | succ n ih =>
    intro v3 σ kx92 h hkx92
    rw [FX7_begins_61] at h
    refine wm_iload_n X 2 dX7_begins_61 rfl ?_
    refine wm_aload_n X 0 dX7_begins_62 rfl ?_
    refine wm_gI X hS cd_7 2 h dX7_begins_63 (Nat.le_of_ble_eq_true rfl) rfl q422 (fun x37 h => ?_)
    refine wm_icmp_ge X 92 h dX7_begins_66 (by decide) (fun c43 h => ?_) (fun c43 h => ?_)
    · refine wm_sub (ℓ' := [(0, va_rf (some h0)), (2, .int y2)]) [0, 1] rfl ?_
      exact hkx92 _ h
    · refine wm_aload_n X 0 dX7_begins_69 rfl ?_
      refine wm_gR X hS cd_7 1 h dX7_begins_70 (Nat.le_of_ble_eq_true rfl) rfl q421 (fun x38 h => ?_)
      refine wm_iload_n X 2 dX7_begins_73 rfl ?_
      refine wm_bipush (v := 10) X dX7_begins_74 (by decide) ?_
      refine wm_ishl X dX7_begins_76 ?_
      refine wm_iload_n X 1 dX7_begins_77 rfl ?_
      refine wm_ior X dX7_begins_78 ?_
      refine wm_aload_n X 0 dX7_begins_79 rfl ?_
      refine wm_iload_n X 1 dX7_begins_80 rfl ?_
      refine wm_iload_n X 2 dX7_begins_81 rfl ?_
      obtain ⟨s39, h⟩ := ck_e h
      refine wm_cV_i (As := [.int y2, .int v3]) (st := [.int ((v3 <<< (10 &&& 31)) ||| y2), va_rf x38]) X hS cd_7 s39 rfl h (fun _ _ hF => ctX7_rest l hF) mdX7_rest mvX7_rest q604 dX7_begins_82 rfl rfl (c1_i (c1_r c1_0)) (Nat.le_of_ble_eq_true rfl) ⟨Nat.le_of_ble_eq_true rfl, Nat.le_of_ble_eq_true rfl⟩ ⟨Nat.le_of_ble_eq_true rfl, Nat.le_of_ble_eq_true rfl⟩ (fun x40 σ41 _ h => ?_)
      refine wm_iastore X hS h dX7_begins_85 (fun σ42 _ h => ?_)
      refine wm_iinc (v := (v3 + 1)) (ℓ' := [(3, .int (v3 + 1)), (0, va_rf (some h0)), (2, .int y2)]) X 2 dX7_begins_86 rfl rfl (by decide) rfl ?_
      refine wm_goto X 61 dX7_begins_89 (by decide) ?_
      refine wm_sub (ℓ' := [(0, va_rf (some h0)), (2, .int y2), (3, .int (v3 + 1))]) [1, 2, 0] rfl ?_
      exact ih _ _ _ h hkx92
set_option maxHeartbeats 4000000 in
theorem wX7_begins_55 {p : Program} {l : Launch} {e : Env} {s : State} {m : MethodId} {args : Array Value} {below : List Frame} {meth : Method} {c : Code} {D : va_G} {dA : Nat → ClassId} {sz0 : Nat} {ad0 : Nat → Nat} {N0 : Nat} {r : Option Nat} {σf : Mm} (X : CX p s m args meth c cX7_begins 4 RX7) (hS : ST D dA sz0 ad0 s) (hr : meth.sig.returnType = (some (FieldType.object "HungFaces$Queue"))) (hnm : meth.name = yX7_begins.name) (h0 : Nat) : ∀ (n : Nat) (v2 : Int32) (σ : Mm) (kx98 : Mm → Option (Option Nat × Mm)), FX7_begins_55 h0 n v2 σ kx98 = some (r, σf) → (∀  (σ : Mm), kx98 σ = some (r, σf) → WMr p l e s m args below meth c 3 74 0 0 4 D dA sz0 ad0 N0 r σf 0 0 σ [(0, va_rf (some h0))] [] 98) → WMr p l e s m args below meth c 3 74 0 0 4 D dA sz0 ad0 N0 r σf 0 0 σ [(0, va_rf (some h0)), (2, .int v2)] [] 55 := by
  intro n
  induction n with
  | zero =>
    intro v2 σ kx98 h hkx98
    cases h
  | succ n ih =>
    intro v2 σ kx98 h hkx98
    rw [FX7_begins_55] at h
    refine wm_iload_n X 1 dX7_begins_55 rfl ?_
    refine wm_if_le X 98 h dX7_begins_56 (by decide) (fun c44 h => ?_) (fun c44 h => ?_)
    · refine wm_sub (ℓ' := [(0, va_rf (some h0))]) [0] rfl ?_
      exact hkx98 _ h
    · refine wm_iconst (v := 0) X dX7_begins_59 (by decide) ?_
      refine wm_istore_n (ℓ' := [(3, .int 0), (0, va_rf (some h0)), (2, .int v2)]) X dX7_begins_60 (by decide) rfl ?_
      refine wm_sub (ℓ' := [(0, va_rf (some h0)), (2, .int v2), (3, .int 0)]) [1, 2, 0] rfl ?_
      refine wX7_begins_61 X hS hr hnm _ _ fu _ _ _ h (fun σ h => ?_)
      · refine wm_iinc (v := (v2 + (-1))) (ℓ' := [(2, .int (v2 + (-1))), (0, va_rf (some h0))]) X 1 dX7_begins_92 rfl rfl (by decide) rfl ?_
        refine wm_goto X 55 dX7_begins_95 (by decide) ?_
        refine wm_sub (ℓ' := [(0, va_rf (some h0)), (2, .int (v2 + (-1)))]) [1, 0] rfl ?_
        exact ih _ _ _ h hkx98
set_option maxHeartbeats 4000000 in
theorem ctX7_begins (l : Launch) {h0 : Nat} {σ σf : Mm} {r : Option Nat} (h : FX7_begins h0 σ = some (r, σf)) : CTr l yX7_begins (ws_ yX7_begins cX7_begins 4 ((some (FieldType.object "HungFaces$Queue")))) 3 74 0 0 [va_rf (some h0)] σ r σf := by
  refine ct_start (n := 0) mdX7_begins (Nat.le_of_ble_eq_true rfl) (c1_r c1_0) (fun p e s m args below meth c D dA sz0 ad0 X hS hr hnm => ?_)
  have X : CX p s m args meth c cX7_begins 4 RX7 := X
  generalize mN σ = N0
  unfold FX7_begins at h
  refine wm_aload_n X 0 dX7_begins_0 rfl ?_
  refine wm_gR X hS cd_7 3 h dX7_begins_1 (Nat.le_of_ble_eq_true rfl) rfl q424 (fun x21 h => ?_)
  refine wm_gRN X hS cd_1 0 h dX7_begins_4 (Nat.le_of_ble_eq_true rfl) rfl 66 rfl (fun x22 h => ?_)
  obtain ⟨q23, eq23, h⟩ := Option.bind_eq_some_iff.mp h
  obtain ⟨eq23, s24⟩ := rv_some eq23
  refine wm_cV_i (As := []) (st := []) X hS cd_2 s24 rfl h (fun _ _ hF => ctX2_withTickets l hF) mdX2_withTickets mvX2_withTickets q596 dX7_begins_7 rfl (by rw [eq23]; first | done | rfl) c1_0 (Nat.le_of_ble_eq_true rfl) ⟨Nat.le_of_ble_eq_true rfl, Nat.le_of_ble_eq_true rfl⟩ ⟨Nat.le_of_ble_eq_true rfl, Nat.le_of_ble_eq_true rfl⟩ (fun x25 σ26 _ h => ?_)
  refine wm_istore_n (ℓ' := [(1, .int x25), (0, va_rf (some h0))]) X dX7_begins_10 (by decide) rfl ?_
  refine wm_aload_n X 1 dX7_begins_11 rfl ?_
  refine wm_iload_n X 0 dX7_begins_12 rfl ?_
  refine wm_cS_i (As := [.int x25]) (st := [va_rf (some h0)]) X hS h (fun _ _ hF => ctJ16_bitCount l hF) mdJ16_bitCount msJ16_bitCount q600 dX7_begins_13 rfl rfl (c1_r c1_0) (Nat.le_of_ble_eq_true rfl) ⟨Nat.le_of_ble_eq_true rfl, Nat.le_of_ble_eq_true rfl⟩ ⟨Nat.le_of_ble_eq_true rfl, Nat.le_of_ble_eq_true rfl⟩ (fun x27 σ28 _ h => ?_)
  refine wm_pI X hS cd_7 2 h dX7_begins_16 (Nat.le_of_ble_eq_true rfl) rfl q422 rfl rfl (fun σ29 _ h => ?_)
  refine wm_iconst (v := 0) X dX7_begins_19 (by decide) ?_
  refine wm_istore_n (ℓ' := [(2, .int 0), (1, .int x25), (0, va_rf (some h0))]) X dX7_begins_20 (by decide) rfl ?_
  refine wm_sub (ℓ' := [(0, va_rf (some h0)), (1, .int x25), (2, .int 0)]) [2, 1, 0] rfl ?_
  refine wX7_begins_21 X hS hr hnm _ _ fu _ _ _ h (fun σ h => ?_)
  · refine wm_iconst (v := 1) X dX7_begins_46 (by decide) ?_
    refine wm_aload_n X 0 dX7_begins_47 rfl ?_
    refine wm_gI X hS cd_7 2 h dX7_begins_48 (Nat.le_of_ble_eq_true rfl) rfl q422 (fun x36 h => ?_)
    refine wm_ishl X dX7_begins_51 ?_
    refine wm_iconst (v := 1) X dX7_begins_52 (by decide) ?_
    refine wm_isub X dX7_begins_53 ?_
    refine wm_istore_n (ℓ' := [(2, .int ((1 <<< (x36 &&& 31)) - 1)), (0, va_rf (some h0))]) X dX7_begins_54 (by decide) rfl ?_
    refine wm_sub (ℓ' := [(0, va_rf (some h0)), (2, .int ((1 <<< (x36 &&& 31)) - 1))]) [1, 0] rfl ?_
    refine wX7_begins_55 X hS hr hnm _ fu _ _ _ h (fun σ h => ?_)
    · refine wm_aload_n X 0 dX7_begins_98 rfl ?_
      exact wm_aret X hr (Or.inl ⟨_, rfl⟩) h dX7_begins_99 (Nat.le_of_ble_eq_true rfl) (Nat.le_of_ble_eq_true rfl)
theorem mdX1_in : MD yX1_in 3 := by unfold MD; decide +kernel
theorem msX1_in : MS yX1_in cX1_in 3 ((some FieldType.boolean)) := ⟨q626, q128, q627⟩
set_option maxHeartbeats 4000000 in
theorem ctX1_in (l : Launch) {x0 : Int32} {x1 : Int32} {x2 : Int32} {σ σf : Mm} {r : Int32} (h : FX1_in x0 x1 x2 σ = some (r, σf)) : CTi l yX1_in (ws_ yX1_in cX1_in 3 ((some FieldType.boolean))) 0 0 0 0 [.int x0, .int x1, .int x2] σ r σf := by
  refine ct_start (n := 3) mdX1_in (Nat.le_of_ble_eq_true rfl) (c1_i (c1_i (c1_i c1_0))) (fun p e s m args below meth c D dA sz0 ad0 X hS hr hnm => ?_)
  have X : CX p s m args meth c cX1_in 3 RX1 := X
  generalize mN σ = N0
  unfold FX1_in at h
  refine wm_iload_n X 0 dX1_in_0 rfl ?_
  refine wm_iload_n X 1 dX1_in_1 rfl ?_
  refine wm_icmp_lt X 14 h dX1_in_2 (by decide) (fun c22 h => ?_) (fun c22 h => ?_)
  · refine wm_iconst (v := 0) X dX1_in_14 (by decide) ?_
    exact wm_zret X hr h dX1_in_15 (Nat.le_of_ble_eq_true rfl) (Nat.le_of_ble_eq_true rfl)
  · refine wm_iload_n X 0 dX1_in_5 rfl ?_
    refine wm_iload_n X 2 dX1_in_6 rfl ?_
    refine wm_icmp_gt X 14 h dX1_in_7 (by decide) (fun c21 h => ?_) (fun c21 h => ?_)
    · refine wm_iconst (v := 0) X dX1_in_14 (by decide) ?_
      exact wm_zret X hr h dX1_in_15 (Nat.le_of_ble_eq_true rfl) (Nat.le_of_ble_eq_true rfl)
    · refine wm_iconst (v := 1) X dX1_in_10 (by decide) ?_
      refine wm_goto X 15 dX1_in_11 (by decide) ?_
      exact wm_zret X hr h dX1_in_15 (Nat.le_of_ble_eq_true rfl) (Nat.le_of_ble_eq_true rfl)
theorem mdX7_kthServed : MD yX7_kthServed 1 := by unfold MD; decide +kernel
theorem mvX7_kthServed : MV yX7_kthServed cX7_kthServed 7 ((some FieldType.int)) := ⟨q629, q630, q138, q631⟩
set_option maxHeartbeats 4000000 in
theorem wX7_kthServed_24 {p : Program} {l : Launch} {e : Env} {s : State} {m : MethodId} {args : Array Value} {below : List Frame} {meth : Method} {c : Code} {D : va_G} {dA : Nat → ClassId} {sz0 : Nat} {ad0 : Nat → Nat} {N0 : Nat} {r : Int32} {σf : Mm} (X : CX p s m args meth c cX7_kthServed 7 RX7) (hS : ST D dA sz0 ad0 s) (hr : meth.sig.returnType = (some FieldType.int)) (hnm : meth.name = yX7_kthServed.name) (h0 : Nat) (y1 : Int32) (y2 : Int32) (y3 : Int32) (y4 : Int32) (y5 : Int32) : ∀ (n : Nat) (v6 : Int32) (σ : Mm) (kx52 : Int32 → Mm → Option (Int32 × Mm)), FX7_kthServed_24 h0 y1 y2 y3 y4 y5 n v6 σ kx52 = some (r, σf) → (∀ (w6 : Int32) (σ : Mm), kx52 w6 σ = some (r, σf) → WMi p l e s m args below meth c 3 74 0 0 7 D dA sz0 ad0 N0 r σf 0 0 σ [(0, va_rf (some h0)), (1, .int y1), (2, .int y2), (4, .int y4), (6, .int w6)] [] 52) → WMi p l e s m args below meth c 3 74 0 0 7 D dA sz0 ad0 N0 r σf 0 0 σ [(0, va_rf (some h0)), (1, .int y1), (2, .int y2), (3, .int y3), (4, .int y4), (5, .int y5), (6, .int v6)] [] 24 := by
  intro n
  induction n with
  | zero =>
    intro v6 σ kx52 h hkx52
    cases h
  | succ n ih =>
    intro v6 σ kx52 h hkx52
    rw [FX7_kthServed_24] at h
    refine wm_iload_n X 2 dX7_kthServed_24 rfl ?_
    refine wm_iload X 6 dX7_kthServed_25 rfl ?_
    refine wm_cSN_i (As := [.int y2, .int v6]) (st := []) X hS h (fun _ _ hF => ctX1_has l hF) mdX1_has msX1_has 68 rfl dX7_kthServed_27 rfl rfl c1_0 (Nat.le_of_ble_eq_true rfl) ⟨Nat.le_of_ble_eq_true rfl, Nat.le_of_ble_eq_true rfl⟩ ⟨Nat.le_of_ble_eq_true rfl, Nat.le_of_ble_eq_true rfl⟩ (fun x24 σ25 _ h => ?_)
    refine wm_if_ne X 46 h dX7_kthServed_30 (by decide) (fun c30 h => ?_) (fun c30 h => ?_)
    · refine wm_iinc (v := (v6 + 1)) (ℓ' := [(6, .int (v6 + 1)), (0, va_rf (some h0)), (1, .int y1), (2, .int y2), (3, .int y3), (4, .int y4), (5, .int y5)]) X 6 dX7_kthServed_46 rfl rfl (by decide) rfl ?_
      refine wm_goto X 24 dX7_kthServed_49 (by decide) ?_
      refine wm_sub (ℓ' := [(0, va_rf (some h0)), (1, .int y1), (2, .int y2), (3, .int y3), (4, .int y4), (5, .int y5), (6, .int (v6 + 1))]) [1, 2, 3, 4, 5, 6, 0] rfl ?_
      exact ih _ _ _ h hkx52
    · refine wm_aload_n X 0 dX7_kthServed_33 rfl ?_
      refine wm_iload_n X 2 dX7_kthServed_34 rfl ?_
      refine wm_iload_n X 3 dX7_kthServed_35 rfl ?_
      refine wm_iload X 6 dX7_kthServed_36 rfl ?_
      obtain ⟨s26, h⟩ := ck_e h
      refine wm_cV_i (As := [.int y2, .int y3, .int v6]) (st := []) X hS cd_7 s26 rfl h (fun _ _ hF => ctX7_by l hF) mdX7_by mvX7_by q610 dX7_kthServed_38 rfl rfl c1_0 (Nat.le_of_ble_eq_true rfl) ⟨Nat.le_of_ble_eq_true rfl, Nat.le_of_ble_eq_true rfl⟩ ⟨Nat.le_of_ble_eq_true rfl, Nat.le_of_ble_eq_true rfl⟩ (fun x27 σ28 _ h => ?_)
      refine wm_iload X 5 dX7_kthServed_41 rfl ?_
      refine wm_icmp_eq X 52 h dX7_kthServed_43 (by decide) (fun c29 h => ?_) (fun c29 h => ?_)
      · refine wm_sub (ℓ' := [(0, va_rf (some h0)), (1, .int y1), (2, .int y2), (4, .int y4), (6, .int v6)]) [0, 1, 2, 4, 6] rfl ?_
        exact hkx52 _ _ h
      · refine wm_iinc (v := (v6 + 1)) (ℓ' := [(6, .int (v6 + 1)), (0, va_rf (some h0)), (1, .int y1), (2, .int y2), (3, .int y3), (4, .int y4), (5, .int y5)]) X 6 dX7_kthServed_46 rfl rfl (by decide) rfl ?_
        refine wm_goto X 24 dX7_kthServed_49 (by decide) ?_
        refine wm_sub (ℓ' := [(0, va_rf (some h0)), (1, .int y1), (2, .int y2), (3, .int y3), (4, .int y4), (5, .int y5), (6, .int (v6 + 1))]) [1, 2, 3, 4, 5, 6, 0] rfl ?_
        exact ih _ _ _ h hkx52
set_option maxHeartbeats 4000000 in
theorem wX7_kthServed_7 {p : Program} {l : Launch} {e : Env} {s : State} {m : MethodId} {args : Array Value} {below : List Frame} {meth : Method} {c : Code} {D : va_G} {dA : Nat → ClassId} {sz0 : Nat} {ad0 : Nat → Nat} {N0 : Nat} {r : Int32} {σf : Mm} (X : CX p s m args meth c cX7_kthServed 7 RX7) (hS : ST D dA sz0 ad0 s) (hr : meth.sig.returnType = (some FieldType.int)) (hnm : meth.name = yX7_kthServed.name) (h0 : Nat) (y1 : Int32) : ∀ (n : Nat) (v2 : Int32) (v3 : Int32) (v4 : Int32) (σ : Mm) (kx68 : Int32 → Mm → Option (Int32 × Mm)), FX7_kthServed_7 h0 y1 n v2 v3 v4 σ kx68 = some (r, σf) → (∀ (w3 : Int32) (σ : Mm), kx68 w3 σ = some (r, σf) → WMi p l e s m args below meth c 3 74 0 0 7 D dA sz0 ad0 N0 r σf 0 0 σ [(0, va_rf (some h0)), (3, .int w3)] [] 68) → WMi p l e s m args below meth c 3 74 0 0 7 D dA sz0 ad0 N0 r σf 0 0 σ [(0, va_rf (some h0)), (1, .int y1), (2, .int v2), (3, .int v3), (4, .int v4)] [] 7 := by
  intro n
  induction n with
  | zero =>
    intro v2 v3 v4 σ kx68 h hkx68
    cases h
  | succ n ih =>
    intro v2 v3 v4 σ kx68 h hkx68
    rw [FX7_kthServed_7] at h
    refine wm_iload X 4 dX7_kthServed_7 rfl ?_
    refine wm_iload_n X 1 dX7_kthServed_9 rfl ?_
    refine wm_icmp_gt X 68 h dX7_kthServed_10 (by decide) (fun c32 h => ?_) (fun c32 h => ?_)
    · refine wm_sub (ℓ' := [(0, va_rf (some h0)), (3, .int v3)]) [0, 3] rfl ?_
      exact hkx68 _ _ h
    · refine wm_aload_n X 0 dX7_kthServed_13 rfl ?_
      refine wm_iload_n X 2 dX7_kthServed_14 rfl ?_
      refine wm_iload_n X 3 dX7_kthServed_15 rfl ?_
      obtain ⟨s21, h⟩ := ck_e h
      refine wm_cV_i (As := [.int v2, .int v3]) (st := []) X hS cd_7 s21 rfl h (fun _ _ hF => ctX7_rest l hF) mdX7_rest mvX7_rest q604 dX7_kthServed_16 rfl rfl c1_0 (Nat.le_of_ble_eq_true rfl) ⟨Nat.le_of_ble_eq_true rfl, Nat.le_of_ble_eq_true rfl⟩ ⟨Nat.le_of_ble_eq_true rfl, Nat.le_of_ble_eq_true rfl⟩ (fun x22 σ23 _ h => ?_)
      refine wm_istore (ℓ' := [(5, .int x22), (0, va_rf (some h0)), (1, .int y1), (2, .int v2), (3, .int v3), (4, .int v4)]) X dX7_kthServed_19 (by decide) rfl ?_
      refine wm_iconst (v := 0) X dX7_kthServed_21 (by decide) ?_
      refine wm_istore (ℓ' := [(6, .int 0), (5, .int x22), (0, va_rf (some h0)), (1, .int y1), (2, .int v2), (3, .int v3), (4, .int v4)]) X dX7_kthServed_22 (by decide) rfl ?_
      refine wm_sub (ℓ' := [(0, va_rf (some h0)), (1, .int y1), (2, .int v2), (3, .int v3), (4, .int v4), (5, .int x22), (6, .int 0)]) [2, 3, 4, 5, 6, 1, 0] rfl ?_
      refine wX7_kthServed_24 X hS hr hnm _ _ _ _ _ _ fu _ _ _ h (fun x31 σ h => ?_)
      · refine wm_iload_n X 2 dX7_kthServed_52 rfl ?_
        refine wm_iconst (v := 1) X dX7_kthServed_53 (by decide) ?_
        refine wm_iload X 4 dX7_kthServed_54 rfl ?_
        refine wm_ishl X dX7_kthServed_56 ?_
        refine wm_ior X dX7_kthServed_57 ?_
        refine wm_istore_n (ℓ' := [(2, .int (v2 ||| (1 <<< (x31 &&& 31)))), (0, va_rf (some h0)), (1, .int y1), (4, .int v4), (6, .int x31)]) X dX7_kthServed_58 (by decide) rfl ?_
        refine wm_iload X 4 dX7_kthServed_59 rfl ?_
        refine wm_istore_n (ℓ' := [(3, .int x31), (2, .int (v2 ||| (1 <<< (x31 &&& 31)))), (0, va_rf (some h0)), (1, .int y1), (4, .int v4), (6, .int x31)]) X dX7_kthServed_61 (by decide) rfl ?_
        refine wm_iinc (v := (v4 + 1)) (ℓ' := [(4, .int (v4 + 1)), (3, .int x31), (2, .int (v2 ||| (1 <<< (x31 &&& 31)))), (0, va_rf (some h0)), (1, .int y1), (6, .int x31)]) X 4 dX7_kthServed_62 rfl rfl (by decide) rfl ?_
        refine wm_goto X 7 dX7_kthServed_65 (by decide) ?_
        refine wm_sub (ℓ' := [(0, va_rf (some h0)), (1, .int y1), (2, .int (v2 ||| (1 <<< (x31 &&& 31)))), (3, .int x31), (4, .int (v4 + 1))]) [3, 4, 2, 1, 0] rfl ?_
        exact ih _ _ _ _ _ h hkx68
set_option maxHeartbeats 4000000 in
theorem ctX7_kthServed (l : Launch) {h0 : Nat} {x1 : Int32} {σ σf : Mm} {r : Int32} (h : FX7_kthServed h0 x1 σ = some (r, σf)) : CTi l yX7_kthServed (ws_ yX7_kthServed cX7_kthServed 7 ((some FieldType.int))) 3 74 0 0 [va_rf (some h0), .int x1] σ r σf := by
  refine ct_start (n := 1) mdX7_kthServed (Nat.le_of_ble_eq_true rfl) (c1_r (c1_i c1_0)) (fun p e s m args below meth c D dA sz0 ad0 X hS hr hnm => ?_)
  have X : CX p s m args meth c cX7_kthServed 7 RX7 := X
  generalize mN σ = N0
  unfold FX7_kthServed at h
  refine wm_iconst (v := 0) X dX7_kthServed_0 (by decide) ?_
  refine wm_istore_n (ℓ' := [(2, .int 0), (0, va_rf (some h0)), (1, .int x1)]) X dX7_kthServed_1 (by decide) rfl ?_
  refine wm_iconst (v := (-1)) X dX7_kthServed_2 (by decide) ?_
  refine wm_istore_n (ℓ' := [(3, .int (-1)), (2, .int 0), (0, va_rf (some h0)), (1, .int x1)]) X dX7_kthServed_3 (by decide) rfl ?_
  refine wm_iconst (v := 0) X dX7_kthServed_4 (by decide) ?_
  refine wm_istore (ℓ' := [(4, .int 0), (3, .int (-1)), (2, .int 0), (0, va_rf (some h0)), (1, .int x1)]) X dX7_kthServed_5 (by decide) rfl ?_
  refine wm_sub (ℓ' := [(0, va_rf (some h0)), (1, .int x1), (2, .int 0), (3, .int (-1)), (4, .int 0)]) [3, 4, 2, 1, 0] rfl ?_
  refine wX7_kthServed_7 X hS hr hnm _ _ fu _ _ _ _ _ h (fun x33 σ h => ?_)
  · refine wm_aload_n X 0 dX7_kthServed_68 rfl ?_
    refine wm_gR X hS cd_7 0 h dX7_kthServed_69 (Nat.le_of_ble_eq_true rfl) rfl q420 (fun x34 h => ?_)
    refine wm_iload_n X 1 dX7_kthServed_72 rfl ?_
    refine wm_iaload X hS h dX7_kthServed_73 (fun x35 h => ?_)
    exact wm_iret X hr h dX7_kthServed_74 (Nat.le_of_ble_eq_true rfl) (Nat.le_of_ble_eq_true rfl)
theorem mdX1_queue : MD yX1_queue 1 := by unfold MD; decide +kernel
theorem mvX1_queue : MV yX1_queue cX1_queue 2 ((some FieldType.int)) := ⟨q589, q590, q128, q591⟩
set_option maxHeartbeats 4000000 in
theorem ctX1_queue (l : Launch) {h0 : Nat} {x1 : Int32} {σ σf : Mm} {r : Int32} (h : FX1_queue h0 x1 σ = some (r, σf)) : CTi l yX1_queue (ws_ yX1_queue cX1_queue 2 ((some FieldType.int))) 4 100 0 0 [va_rf (some h0), .int x1] σ r σf := by
  refine ct_start (n := 1) mdX1_queue (Nat.le_of_ble_eq_true rfl) (c1_r (c1_i c1_0)) (fun p e s m args below meth c D dA sz0 ad0 X hS hr hnm => ?_)
  have X : CX p s m args meth c cX1_queue 2 RX1 := X
  generalize mN σ = N0
  unfold FX1_queue at h
  refine wm_aload_n X 0 dX1_queue_0 rfl ?_
  refine wm_gR X hS cd_1 9 h dX1_queue_1 (Nat.le_of_ble_eq_true rfl) rfl q447 (fun x21 h => ?_)
  obtain ⟨q22, eq22, h⟩ := Option.bind_eq_some_iff.mp h
  obtain ⟨eq22, s23⟩ := rv_some eq22
  refine wm_cV_r (As := []) (st := []) X hS cd_7 s23 rfl h (fun _ _ hF => ctX7_begins l hF) mdX7_begins mvX7_begins q592 dX1_queue_4 rfl (by rw [eq22]; first | done | rfl) c1_0 (Nat.le_of_ble_eq_true rfl) ⟨Nat.le_of_ble_eq_true rfl, Nat.le_of_ble_eq_true rfl⟩ ⟨Nat.le_of_ble_eq_true rfl, Nat.le_of_ble_eq_true rfl⟩ (fun x24 σ25 _ h => ?_)
  refine wm_pop X dX1_queue_7 (catR _) ?_
  refine wm_iload_n X 1 dX1_queue_8 rfl ?_
  refine wm_iconst (v := (-1)) X dX1_queue_9 (by decide) ?_
  refine wm_icmp_ne X 23 h dX1_queue_10 (by decide) (fun c41 h => ?_) (fun c41 h => ?_)
  · refine wm_iload_n X 1 dX1_queue_23 rfl ?_
    refine wm_iconst (v := 0) X dX1_queue_24 (by decide) ?_
    refine wm_aload_n X 0 dX1_queue_25 rfl ?_
    refine wm_gR X hS cd_1 9 h dX1_queue_26 (Nat.le_of_ble_eq_true rfl) rfl q447 (fun x26 h => ?_)
    refine wm_gIN X hS cd_7 2 h dX1_queue_29 (Nat.le_of_ble_eq_true rfl) rfl 39 rfl (fun x27 h => ?_)
    refine wm_iconst (v := 1) X dX1_queue_32 (by decide) ?_
    refine wm_isub X dX1_queue_33 ?_
    refine wm_cS_i (As := [.int x1, .int 0, .int (x27 - 1)]) (st := []) X hS h (fun _ _ hF => ctX1_in l hF) mdX1_in msX1_in q625 dX1_queue_34 rfl rfl c1_0 (Nat.le_of_ble_eq_true rfl) ⟨Nat.le_of_ble_eq_true rfl, Nat.le_of_ble_eq_true rfl⟩ ⟨Nat.le_of_ble_eq_true rfl, Nat.le_of_ble_eq_true rfl⟩ (fun x28 σ29 _ h => ?_)
    refine wm_if_eq X 51 h dX1_queue_37 (by decide) (fun c35 h => ?_) (fun c35 h => ?_)
    · refine wm_iconst (v := (-1)) X dX1_queue_51 (by decide) ?_
      exact wm_iret X hr h dX1_queue_52 (Nat.le_of_ble_eq_true rfl) (Nat.le_of_ble_eq_true rfl)
    · refine wm_aload_n X 0 dX1_queue_40 rfl ?_
      refine wm_gR X hS cd_1 9 h dX1_queue_41 (Nat.le_of_ble_eq_true rfl) rfl q447 (fun x30 h => ?_)
      refine wm_iload_n X 1 dX1_queue_44 rfl ?_
      obtain ⟨q31, eq31, h⟩ := Option.bind_eq_some_iff.mp h
      obtain ⟨eq31, s32⟩ := rv_some eq31
      refine wm_cV_i (As := [.int x1]) (st := []) X hS cd_7 s32 rfl h (fun _ _ hF => ctX7_kthServed l hF) mdX7_kthServed mvX7_kthServed q628 dX1_queue_45 rfl (by rw [eq31]; first | done | rfl) c1_0 (Nat.le_of_ble_eq_true rfl) ⟨Nat.le_of_ble_eq_true rfl, Nat.le_of_ble_eq_true rfl⟩ ⟨Nat.le_of_ble_eq_true rfl, Nat.le_of_ble_eq_true rfl⟩ (fun x33 σ34 _ h => ?_)
      refine wm_goto X 52 dX1_queue_48 (by decide) ?_
      exact wm_iret X hr h dX1_queue_52 (Nat.le_of_ble_eq_true rfl) (Nat.le_of_ble_eq_true rfl)
  · refine wm_aload_n X 0 dX1_queue_13 rfl ?_
    refine wm_gR X hS cd_1 9 h dX1_queue_14 (Nat.le_of_ble_eq_true rfl) rfl q447 (fun x36 h => ?_)
    refine wm_iconst (v := 0) X dX1_queue_17 (by decide) ?_
    refine wm_iconst (v := (-1)) X dX1_queue_18 (by decide) ?_
    obtain ⟨q37, eq37, h⟩ := Option.bind_eq_some_iff.mp h
    obtain ⟨eq37, s38⟩ := rv_some eq37
    refine wm_cV_i (As := [.int 0, .int (-1)]) (st := []) X hS cd_7 s38 rfl h (fun _ _ hF => ctX7_rest l hF) mdX7_rest mvX7_rest q624 dX1_queue_19 rfl (by rw [eq37]; first | done | rfl) c1_0 (Nat.le_of_ble_eq_true rfl) ⟨Nat.le_of_ble_eq_true rfl, Nat.le_of_ble_eq_true rfl⟩ ⟨Nat.le_of_ble_eq_true rfl, Nat.le_of_ble_eq_true rfl⟩ (fun x39 σ40 _ h => ?_)
    exact wm_iret X hr h dX1_queue_22 (Nat.le_of_ble_eq_true rfl) (Nat.le_of_ble_eq_true rfl)
theorem mdX1_rowFrom : MD yX1_rowFrom 1 := by unfold MD; decide +kernel
theorem mvX1_rowFrom : MV yX1_rowFrom cX1_rowFrom 3 ((some FieldType.int)) := ⟨q638, qs9, q128, q639⟩
set_option maxHeartbeats 4000000 in
theorem wX1_rowFrom_2 {p : Program} {l : Launch} {e : Env} {s : State} {m : MethodId} {args : Array Value} {below : List Frame} {meth : Method} {c : Code} {D : va_G} {dA : Nat → ClassId} {sz0 : Nat} {ad0 : Nat → Nat} {N0 : Nat} {r : Int32} {σf : Mm} (X : CX p s m args meth c cX1_rowFrom 3 RX1) (hS : ST D dA sz0 ad0 s) (hr : meth.sig.returnType = (some FieldType.int)) (hnm : meth.name = yX1_rowFrom.name) (h0 : Nat) (y1 : Int32) : ∀ (n : Nat) (v2 : Int32) (σ : Mm) (kx36 : Int32 → Mm → Option (Int32 × Mm)), FX1_rowFrom_2 h0 y1 n v2 σ kx36 = some (r, σf) → (∀ (w2 : Int32) (σ : Mm), kx36 w2 σ = some (r, σf) → WMi p l e s m args below meth c 0 0 0 0 3 D dA sz0 ad0 N0 r σf 0 0 σ [(2, .int w2)] [] 36) → WMi p l e s m args below meth c 0 0 0 0 3 D dA sz0 ad0 N0 r σf 0 0 σ [(0, va_rf (some h0)), (1, .int y1), (2, .int v2)] [] 2 := by
  intro n
  induction n with
  | zero =>
    intro v2 σ kx36 h hkx36
    cases h
  | succ n ih =>
    intro v2 σ kx36 h hkx36
    rw [FX1_rowFrom_2] at h
    refine wm_iload_n X 1 dX1_rowFrom_2 rfl ?_
    refine wm_iload_n X 2 dX1_rowFrom_3 rfl ?_
    refine wm_iadd X dX1_rowFrom_4 ?_
    refine wm_aload_n X 0 dX1_rowFrom_5 rfl ?_
    refine wm_gR X hS cd_1 0 h dX1_rowFrom_6 (Nat.le_of_ble_eq_true rfl) rfl q434 (fun x21 h => ?_)
    refine wm_gIN X hS cd_2 2 h dX1_rowFrom_9 (Nat.le_of_ble_eq_true rfl) rfl 2 rfl (fun x22 h => ?_)
    refine wm_icmp_ge X 36 h dX1_rowFrom_12 (by decide) (fun c27 h => ?_) (fun c27 h => ?_)
    · refine wm_sub (ℓ' := [(2, .int v2)]) [2] rfl ?_
      exact hkx36 _ _ h
    · refine wm_aload_n X 0 dX1_rowFrom_15 rfl ?_
      refine wm_gR X hS cd_1 0 h dX1_rowFrom_16 (Nat.le_of_ble_eq_true rfl) rfl q434 (fun x23 h => ?_)
      refine wm_gRN X hS cd_2 17 h dX1_rowFrom_19 (Nat.le_of_ble_eq_true rfl) rfl 17 rfl (fun x24 h => ?_)
      refine wm_iload_n X 1 dX1_rowFrom_22 rfl ?_
      refine wm_iload_n X 2 dX1_rowFrom_23 rfl ?_
      refine wm_iadd X dX1_rowFrom_24 ?_
      refine wm_iaload X hS h dX1_rowFrom_25 (fun x25 h => ?_)
      refine wm_iconst (v := (-1)) X dX1_rowFrom_26 (by decide) ?_
      refine wm_icmp_eq X 36 h dX1_rowFrom_27 (by decide) (fun c26 h => ?_) (fun c26 h => ?_)
      · refine wm_sub (ℓ' := [(2, .int v2)]) [2] rfl ?_
        exact hkx36 _ _ h
      · refine wm_iinc (v := (v2 + 1)) (ℓ' := [(2, .int (v2 + 1)), (0, va_rf (some h0)), (1, .int y1)]) X 2 dX1_rowFrom_30 rfl rfl (by decide) rfl ?_
        refine wm_goto X 2 dX1_rowFrom_33 (by decide) ?_
        refine wm_sub (ℓ' := [(0, va_rf (some h0)), (1, .int y1), (2, .int (v2 + 1))]) [1, 2, 0] rfl ?_
        exact ih _ _ _ h hkx36
set_option maxHeartbeats 4000000 in
theorem ctX1_rowFrom (l : Launch) {h0 : Nat} {x1 : Int32} {σ σf : Mm} {r : Int32} (h : FX1_rowFrom h0 x1 σ = some (r, σf)) : CTi l yX1_rowFrom (ws_ yX1_rowFrom cX1_rowFrom 3 ((some FieldType.int))) 0 0 0 0 [va_rf (some h0), .int x1] σ r σf := by
  refine ct_start (n := 1) mdX1_rowFrom (Nat.le_of_ble_eq_true rfl) (c1_r (c1_i c1_0)) (fun p e s m args below meth c D dA sz0 ad0 X hS hr hnm => ?_)
  have X : CX p s m args meth c cX1_rowFrom 3 RX1 := X
  generalize mN σ = N0
  unfold FX1_rowFrom at h
  refine wm_iconst (v := 0) X dX1_rowFrom_0 (by decide) ?_
  refine wm_istore_n (ℓ' := [(2, .int 0), (0, va_rf (some h0)), (1, .int x1)]) X dX1_rowFrom_1 (by decide) rfl ?_
  refine wm_sub (ℓ' := [(0, va_rf (some h0)), (1, .int x1), (2, .int 0)]) [1, 2, 0] rfl ?_
  refine wX1_rowFrom_2 X hS hr hnm _ _ fu _ _ _ h (fun x28 σ h => ?_)
  · refine wm_iload_n X 0 dX1_rowFrom_36 rfl ?_
    exact wm_iret X hr h dX1_rowFrom_37 (Nat.le_of_ble_eq_true rfl) (Nat.le_of_ble_eq_true rfl)
theorem mdX1_row : MD yX1_row 1 := by unfold MD; decide +kernel
theorem mvX1_row : MV yX1_row cX1_row 5 ((some FieldType.int)) := ⟨q633, q634, q128, q635⟩
set_option maxHeartbeats 4000000 in
theorem wX1_row_7 {p : Program} {l : Launch} {e : Env} {s : State} {m : MethodId} {args : Array Value} {below : List Frame} {meth : Method} {c : Code} {D : va_G} {dA : Nat → ClassId} {sz0 : Nat} {ad0 : Nat → Nat} {N0 : Nat} {r : Int32} {σf : Mm} (X : CX p s m args meth c cX1_row 5 RX1) (hS : ST D dA sz0 ad0 s) (hr : meth.sig.returnType = (some FieldType.int)) (hnm : meth.name = yX1_row.name) (h0 : Nat) (y1 : Int32) : ∀ (n : Nat) (v2 : Int32) (v3 : Int32) (v4 : Int32) (σ : Mm) (kx48 : Int32 → Int32 → Mm → Option (Int32 × Mm)), FX1_row_7 h0 y1 n v2 v3 v4 σ kx48 = some (r, σf) → (∀ (w2 : Int32) (w3 : Int32) (σ : Mm), kx48 w2 w3 σ = some (r, σf) → WMi p l e s m args below meth c 1 22 0 0 5 D dA sz0 ad0 N0 r σf 0 0 σ [(1, .int y1), (2, .int w2), (3, .int w3)] [] 48) → WMi p l e s m args below meth c 1 22 0 0 5 D dA sz0 ad0 N0 r σf 0 0 σ [(0, va_rf (some h0)), (1, .int y1), (2, .int v2), (3, .int v3), (4, .int v4)] [] 7 := by
  intro n
  induction n with
  | zero =>
    intro v2 v3 v4 σ kx48 h hkx48
    cases h
  | succ n ih =>
    intro v2 v3 v4 σ kx48 h hkx48
    rw [FX1_row_7] at h
    refine wm_iload X 4 dX1_row_7 rfl ?_
    refine wm_aload_n X 0 dX1_row_9 rfl ?_
    refine wm_gR X hS cd_1 0 h dX1_row_10 (Nat.le_of_ble_eq_true rfl) rfl q434 (fun x21 h => ?_)
    refine wm_gIN X hS cd_2 2 h dX1_row_13 (Nat.le_of_ble_eq_true rfl) rfl 2 rfl (fun x22 h => ?_)
    refine wm_icmp_ge X 48 h dX1_row_16 (by decide) (fun c30 h => ?_) (fun c30 h => ?_)
    · refine wm_sub (ℓ' := [(1, .int y1), (2, .int v2), (3, .int v3)]) [1, 2, 3] rfl ?_
      exact hkx48 _ _ _ h
    · refine wm_aload_n X 0 dX1_row_19 rfl ?_
      refine wm_iload X 4 dX1_row_20 rfl ?_
      obtain ⟨s23, h⟩ := ck_e h
      refine wm_cV_i (As := [.int v4]) (st := []) X hS cd_1 s23 rfl h (fun _ _ hF => ctX1_rowFrom l hF) mdX1_rowFrom mvX1_rowFrom q636 dX1_row_22 rfl rfl c1_0 (Nat.le_of_ble_eq_true rfl) ⟨Nat.le_of_ble_eq_true rfl, Nat.le_of_ble_eq_true rfl⟩ ⟨Nat.le_of_ble_eq_true rfl, Nat.le_of_ble_eq_true rfl⟩ (fun x24 σ25 _ h => ?_)
      refine wm_iload_n X 3 dX1_row_25 rfl ?_
      refine wm_icmp_gt X 32 h dX1_row_26 (by decide) (fun c29 h => ?_) (fun c29 h => ?_)
      · refine wm_iload X 4 dX1_row_32 rfl ?_
        refine wm_istore_n (ℓ' := [(2, .int v4), (0, va_rf (some h0)), (1, .int y1), (3, .int v3), (4, .int v4)]) X dX1_row_34 (by decide) rfl ?_
        refine wm_aload_n X 1 dX1_row_35 rfl ?_
        refine wm_iload X 4 dX1_row_36 rfl ?_
        obtain ⟨s26, h⟩ := ck_e h
        refine wm_cV_i (As := [.int v4]) (st := []) X hS cd_1 s26 rfl h (fun _ _ hF => ctX1_rowFrom l hF) mdX1_rowFrom mvX1_rowFrom q636 dX1_row_38 rfl rfl c1_0 (Nat.le_of_ble_eq_true rfl) ⟨Nat.le_of_ble_eq_true rfl, Nat.le_of_ble_eq_true rfl⟩ ⟨Nat.le_of_ble_eq_true rfl, Nat.le_of_ble_eq_true rfl⟩ (fun x27 σ28 _ h => ?_)
        refine wm_istore_n (ℓ' := [(3, .int x27), (2, .int v4), (0, va_rf (some h0)), (1, .int y1), (4, .int v4)]) X dX1_row_41 (by decide) rfl ?_
        refine wm_iinc (v := (v4 + 1)) (ℓ' := [(4, .int (v4 + 1)), (3, .int x27), (2, .int v4), (0, va_rf (some h0)), (1, .int y1)]) X 4 dX1_row_42 rfl rfl (by decide) rfl ?_
        refine wm_goto X 7 dX1_row_45 (by decide) ?_
        refine wm_sub (ℓ' := [(0, va_rf (some h0)), (1, .int y1), (2, .int v4), (3, .int x27), (4, .int (v4 + 1))]) [3, 4, 2, 1, 0] rfl ?_
        exact ih _ _ _ _ _ h hkx48
      · refine wm_goto X 42 dX1_row_29 (by decide) ?_
        refine wm_iinc (v := (v4 + 1)) (ℓ' := [(4, .int (v4 + 1)), (0, va_rf (some h0)), (1, .int y1), (2, .int v2), (3, .int v3)]) X 4 dX1_row_42 rfl rfl (by decide) rfl ?_
        refine wm_goto X 7 dX1_row_45 (by decide) ?_
        refine wm_sub (ℓ' := [(0, va_rf (some h0)), (1, .int y1), (2, .int v2), (3, .int v3), (4, .int (v4 + 1))]) [1, 2, 3, 4, 0] rfl ?_
        exact ih _ _ _ _ _ h hkx48
set_option maxHeartbeats 4000000 in
theorem ctX1_row (l : Launch) {h0 : Nat} {x1 : Int32} {σ σf : Mm} {r : Int32} (h : FX1_row h0 x1 σ = some (r, σf)) : CTi l yX1_row (ws_ yX1_row cX1_row 5 ((some FieldType.int))) 1 22 0 0 [va_rf (some h0), .int x1] σ r σf := by
  refine ct_start (n := 1) mdX1_row (Nat.le_of_ble_eq_true rfl) (c1_r (c1_i c1_0)) (fun p e s m args below meth c D dA sz0 ad0 X hS hr hnm => ?_)
  have X : CX p s m args meth c cX1_row 5 RX1 := X
  generalize mN σ = N0
  unfold FX1_row at h
  refine wm_iconst (v := (-1)) X dX1_row_0 (by decide) ?_
  refine wm_istore_n (ℓ' := [(2, .int (-1)), (0, va_rf (some h0)), (1, .int x1)]) X dX1_row_1 (by decide) rfl ?_
  refine wm_iconst (v := 0) X dX1_row_2 (by decide) ?_
  refine wm_istore_n (ℓ' := [(3, .int 0), (2, .int (-1)), (0, va_rf (some h0)), (1, .int x1)]) X dX1_row_3 (by decide) rfl ?_
  refine wm_iconst (v := 0) X dX1_row_4 (by decide) ?_
  refine wm_istore (ℓ' := [(4, .int 0), (3, .int 0), (2, .int (-1)), (0, va_rf (some h0)), (1, .int x1)]) X dX1_row_5 (by decide) rfl ?_
  refine wm_sub (ℓ' := [(0, va_rf (some h0)), (1, .int x1), (2, .int (-1)), (3, .int 0), (4, .int 0)]) [3, 4, 2, 1, 0] rfl ?_
  refine wX1_row_7 X hS hr hnm _ _ fu _ _ _ _ _ h (fun x31 x32 σ h => ?_)
  · refine wm_iload_n X 0 dX1_row_48 rfl ?_
    refine wm_if_eq X 56 h dX1_row_49 (by decide) (fun c33 h => ?_) (fun c33 h => ?_)
    · refine wm_iload_n X 2 dX1_row_56 rfl ?_
      exact wm_iret X hr h dX1_row_57 (Nat.le_of_ble_eq_true rfl) (Nat.le_of_ble_eq_true rfl)
    · refine wm_iload_n X 1 dX1_row_52 rfl ?_
      refine wm_goto X 57 dX1_row_53 (by decide) ?_
      exact wm_iret X hr h dX1_row_57 (Nat.le_of_ble_eq_true rfl) (Nat.le_of_ble_eq_true rfl)
theorem mdX1_seed : MD yX1_seed 1 := by unfold MD; decide +kernel
theorem mvX1_seed : MV yX1_seed cX1_seed 3 ((some FieldType.int)) := ⟨q641, q642, q128, q643⟩
set_option maxHeartbeats 4000000 in
theorem ctX1_seed (l : Launch) {h0 : Nat} {x1 : Int32} {σ σf : Mm} {r : Int32} (h : FX1_seed h0 x1 σ = some (r, σf)) : CTi l yX1_seed (ws_ yX1_seed cX1_seed 3 ((some FieldType.int))) 0 0 0 0 [va_rf (some h0), .int x1] σ r σf := by
  refine ct_start (n := 1) mdX1_seed (Nat.le_of_ble_eq_true rfl) (c1_r (c1_i c1_0)) (fun p e s m args below meth c D dA sz0 ad0 X hS hr hnm => ?_)
  have X : CX p s m args meth c cX1_seed 3 RX1 := X
  generalize mN σ = N0
  unfold FX1_seed at h
  refine wm_aload_n X 0 dX1_seed_0 rfl ?_
  refine wm_gR X hS cd_1 0 h dX1_seed_1 (Nat.le_of_ble_eq_true rfl) rfl q434 (fun x21 h => ?_)
  refine wm_gIN X hS cd_2 7 h dX1_seed_4 (Nat.le_of_ble_eq_true rfl) rfl 7 rfl (fun x22 h => ?_)
  refine wm_istore_n (ℓ' := [(2, .int x22), (0, va_rf (some h0)), (1, .int x1)]) X dX1_seed_7 (by decide) rfl ?_
  refine wm_aload_n X 1 dX1_seed_8 rfl ?_
  refine wm_gR X hS cd_1 0 h dX1_seed_9 (Nat.le_of_ble_eq_true rfl) rfl q434 (fun x23 h => ?_)
  refine wm_iload_n X 2 dX1_seed_12 rfl ?_
  refine wm_pIN X hS cd_2 7 h dX1_seed_13 (Nat.le_of_ble_eq_true rfl) rfl 7 rfl rfl rfl (fun σ24 _ h => ?_)
  refine wm_iload_n X 0 dX1_seed_16 rfl ?_
  exact wm_iret X hr h dX1_seed_17 (Nat.le_of_ble_eq_true rfl) (Nat.le_of_ble_eq_true rfl)
theorem mdJ3_isEmpty : MD yJ3_isEmpty 0 := by unfold MD; decide +kernel
theorem mvJ3_isEmpty : MV yJ3_isEmpty cJ3_isEmpty 1 ((some FieldType.boolean)) := ⟨q649, q650, q135, q651⟩
set_option maxHeartbeats 4000000 in
theorem ctJ3_isEmpty (l : Launch) {h0 : Nat} {σ σf : Mm} {r : Int32} (h : FJ3_isEmpty h0 σ = some (r, σf)) : CTi l yJ3_isEmpty (ws_ yJ3_isEmpty cJ3_isEmpty 1 ((some FieldType.boolean))) 0 0 0 0 [va_rf (some h0)] σ r σf := by
  refine ct_start (n := 0) mdJ3_isEmpty (Nat.le_of_ble_eq_true rfl) (c1_r c1_0) (fun p e s m args below meth c D dA sz0 ad0 X hS hr hnm => ?_)
  have X : CX p s m args meth c cJ3_isEmpty 1 RJ3 := X
  generalize mN σ = N0
  unfold FJ3_isEmpty at h
  refine wm_aload_n X 0 dJ3_isEmpty_0 rfl ?_
  refine wm_gI X hS cd_17 2 h dJ3_isEmpty_1 (Nat.le_of_ble_eq_true rfl) rfl q367 (fun x21 h => ?_)
  refine wm_if_ne X 11 h dJ3_isEmpty_4 (by decide) (fun c22 h => ?_) (fun c22 h => ?_)
  · refine wm_iconst (v := 0) X dJ3_isEmpty_11 (by decide) ?_
    exact wm_zret X hr h dJ3_isEmpty_12 (Nat.le_of_ble_eq_true rfl) (Nat.le_of_ble_eq_true rfl)
  · refine wm_iconst (v := 1) X dJ3_isEmpty_7 (by decide) ?_
    refine wm_goto X 12 dJ3_isEmpty_8 (by decide) ?_
    exact wm_zret X hr h dJ3_isEmpty_12 (Nat.le_of_ble_eq_true rfl) (Nat.le_of_ble_eq_true rfl)
theorem mdJ3_size : MD yJ3_size 0 := by unfold MD; decide +kernel
theorem mvJ3_size : MV yJ3_size cJ3_size 1 ((some FieldType.int)) := ⟨q653, q654, q135, q655⟩
set_option maxHeartbeats 4000000 in
theorem ctJ3_size (l : Launch) {h0 : Nat} {σ σf : Mm} {r : Int32} (h : FJ3_size h0 σ = some (r, σf)) : CTi l yJ3_size (ws_ yJ3_size cJ3_size 1 ((some FieldType.int))) 0 0 0 0 [va_rf (some h0)] σ r σf := by
  refine ct_start (n := 0) mdJ3_size (Nat.le_of_ble_eq_true rfl) (c1_r c1_0) (fun p e s m args below meth c D dA sz0 ad0 X hS hr hnm => ?_)
  have X : CX p s m args meth c cJ3_size 1 RJ3 := X
  generalize mN σ = N0
  unfold FJ3_size at h
  refine wm_aload_n X 0 dJ3_size_0 rfl ?_
  refine wm_gI X hS cd_17 2 h dJ3_size_1 (Nat.le_of_ble_eq_true rfl) rfl q367 (fun x21 h => ?_)
  exact wm_iret X hr h dJ3_size_4 (Nat.le_of_ble_eq_true rfl) (Nat.le_of_ble_eq_true rfl)
theorem mdJ11_checkIndex : MD yJ11_checkIndex 3 := by unfold MD; decide +kernel
theorem msJ11_checkIndex : MS yJ11_checkIndex cJ11_checkIndex 3 ((some FieldType.int)) := ⟨q664, q148, q665⟩
set_option maxHeartbeats 4000000 in
theorem ctJ11_checkIndex (l : Launch) {x0 : Int32} {x1 : Int32} {x2 : Option Nat} {σ σf : Mm} {r : Int32} (h : FJ11_checkIndex x0 x1 x2 σ = some (r, σf)) : CTi l yJ11_checkIndex (ws_ yJ11_checkIndex cJ11_checkIndex 3 ((some FieldType.int))) 0 0 0 0 [.int x0, .int x1, va_rf x2] σ r σf := by
  refine ct_start (n := 3) mdJ11_checkIndex (Nat.le_of_ble_eq_true rfl) (c1_i (c1_i (c1_r c1_0))) (fun p e s m args below meth c D dA sz0 ad0 X hS hr hnm => ?_)
  have X : CX p s m args meth c cJ11_checkIndex 3 RJ11 := X
  generalize mN σ = N0
  unfold FJ11_checkIndex at h
  refine wm_iload_n X 0 dJ11_checkIndex_0 rfl ?_
  obtain ⟨J9, eJ9, h⟩ := jn_e h
  have hJ9 : ∀  (σ : Mm), J9  σ = some (r, σf) → WMi p l e s m args below meth c 0 0 0 0 3 D dA sz0 ad0 N0 r σf 0 0 σ [(0, .int x0), (1, .int x1), (2, va_rf x2)] [] 9 := by
    intro  σ h
    rw [eJ9] at h
    refine wm_aload_n X 2 dJ11_checkIndex_9 rfl ?_
    refine wm_iload_n X 0 dJ11_checkIndex_10 rfl ?_
    refine wm_iload_n X 1 dJ11_checkIndex_11 rfl ?_
    cases h
  clear eJ9
  refine wm_if_lt X 9 h dJ11_checkIndex_1 (by decide) (fun c22 h => ?_) (fun c22 h => ?_)
  · exact hJ9 _ h
  · refine wm_iload_n X 0 dJ11_checkIndex_4 rfl ?_
    refine wm_iload_n X 1 dJ11_checkIndex_5 rfl ?_
    refine wm_icmp_lt X 16 h dJ11_checkIndex_6 (by decide) (fun c21 h => ?_) (fun c21 h => ?_)
    · refine wm_iload_n X 0 dJ11_checkIndex_16 rfl ?_
      exact wm_iret X hr h dJ11_checkIndex_17 (Nat.le_of_ble_eq_true rfl) (Nat.le_of_ble_eq_true rfl)
    · exact hJ9 _ h
theorem mdJ23_checkIndex : MD yJ23_checkIndex 2 := by unfold MD; decide +kernel
theorem msJ23_checkIndex : MS yJ23_checkIndex cJ23_checkIndex 2 ((some FieldType.int)) := ⟨q661, q171, q662⟩
set_option maxHeartbeats 4000000 in
theorem ctJ23_checkIndex (l : Launch) {x0 : Int32} {x1 : Int32} {σ σf : Mm} {r : Int32} (h : FJ23_checkIndex x0 x1 σ = some (r, σf)) : CTi l yJ23_checkIndex (ws_ yJ23_checkIndex cJ23_checkIndex 2 ((some FieldType.int))) 1 22 0 0 [.int x0, .int x1] σ r σf := by
  refine ct_start (n := 2) mdJ23_checkIndex (Nat.le_of_ble_eq_true rfl) (c1_i (c1_i c1_0)) (fun p e s m args below meth c D dA sz0 ad0 X hS hr hnm => ?_)
  have X : CX p s m args meth c cJ23_checkIndex 2 RJ23 := X
  generalize mN σ = N0
  unfold FJ23_checkIndex at h
  refine wm_iload_n X 0 dJ23_checkIndex_0 rfl ?_
  refine wm_iload_n X 1 dJ23_checkIndex_1 rfl ?_
  refine wm_null X dJ23_checkIndex_2 ?_
  refine wm_cS_i (As := [.int x0, .int x1, va_rf none]) (st := []) X hS h (fun _ _ hF => ctJ11_checkIndex l hF) mdJ11_checkIndex msJ11_checkIndex q663 dJ23_checkIndex_3 rfl rfl c1_0 (Nat.le_of_ble_eq_true rfl) ⟨Nat.le_of_ble_eq_true rfl, Nat.le_of_ble_eq_true rfl⟩ ⟨Nat.le_of_ble_eq_true rfl, Nat.le_of_ble_eq_true rfl⟩ (fun x21 σ22 _ h => ?_)
  exact wm_iret X hr h dJ23_checkIndex_6 (Nat.le_of_ble_eq_true rfl) (Nat.le_of_ble_eq_true rfl)
theorem mdJ3_fastRemove : MD yJ3_fastRemove 2 := by unfold MD; decide +kernel
theorem mvJ3_fastRemove : MV yJ3_fastRemove cJ3_fastRemove 4 (none) := ⟨q668, qs10, q135, q669⟩
set_option maxHeartbeats 4000000 in
theorem ctJ3_fastRemove (l : Launch) {h0 : Nat} {x1 : Option Nat} {x2 : Int32} {σ σf : Mm} (h : FJ3_fastRemove h0 x1 x2 σ = some σf) : CTv l yJ3_fastRemove (ws_ yJ3_fastRemove cJ3_fastRemove 4 (none)) 1 60 0 0 [va_rf (some h0), va_rf x1, .int x2] σ σf := by
  refine ct_start (n := 2) mdJ3_fastRemove (Nat.le_of_ble_eq_true rfl) (c1_r (c1_r (c1_i c1_0))) (fun p e s m args below meth c D dA sz0 ad0 X hS hr hnm => ?_)
  have X : CX p s m args meth c cJ3_fastRemove 4 RJ3 := X
  generalize mN σ = N0
  unfold FJ3_fastRemove at h
  refine wm_aload_n X 0 dJ3_fastRemove_0 rfl ?_
  refine wm_dup X dJ3_fastRemove_1 (catR _) ?_
  refine wm_gIA X hS cd_17 0 h dJ3_fastRemove_2 (Nat.le_of_ble_eq_true rfl) rfl q369 q370 (fun x21 h => ?_)
  refine wm_iconst (v := 1) X dJ3_fastRemove_5 (by decide) ?_
  refine wm_iadd X dJ3_fastRemove_6 ?_
  refine wm_pIA X hS cd_17 0 h dJ3_fastRemove_7 (Nat.le_of_ble_eq_true rfl) rfl q369 q370 rfl rfl (fun σ22 _ h => ?_)
  refine wm_aload_n X 0 dJ3_fastRemove_10 rfl ?_
  refine wm_gI X hS cd_17 2 h dJ3_fastRemove_11 (Nat.le_of_ble_eq_true rfl) rfl q367 (fun x23 h => ?_)
  refine wm_iconst (v := 1) X dJ3_fastRemove_14 (by decide) ?_
  refine wm_isub X dJ3_fastRemove_15 ?_
  refine wm_dup X dJ3_fastRemove_16 rfl ?_
  refine wm_istore_n (ℓ' := [(3, .int (x23 - 1)), (0, va_rf (some h0)), (1, va_rf x1), (2, .int x2)]) X dJ3_fastRemove_17 (by decide) rfl ?_
  refine wm_iload_n X 3 dJ3_fastRemove_18 rfl ?_
  obtain ⟨J34, eJ34, h⟩ := jn_e h
  have hJ34 : ∀  (σ : Mm), J34  σ = some σf → WMv p l e s m args below meth c 1 60 0 0 4 D dA sz0 ad0 N0 σf 0 0 σ [(0, va_rf (some h0)), (1, va_rf x1), (3, .int (x23 - 1))] [] 34 := by
    intro  σ h
    rw [eJ34] at h
    refine wm_aload_n X 1 dJ3_fastRemove_34 rfl ?_
    refine wm_aload_n X 0 dJ3_fastRemove_35 rfl ?_
    refine wm_iload_n X 2 dJ3_fastRemove_36 rfl ?_
    refine wm_dup_x1 X dJ3_fastRemove_37 rfl (catR _) ?_
    refine wm_pI X hS cd_17 2 h dJ3_fastRemove_38 (Nat.le_of_ble_eq_true rfl) rfl q367 rfl rfl (fun σ24 _ h => ?_)
    refine wm_null X dJ3_fastRemove_41 ?_
    refine wm_aastore X hS h dJ3_fastRemove_42 (fun σ25 _ h => ?_)
    exact wm_vret X hr h dJ3_fastRemove_43 (Nat.le_of_ble_eq_true rfl) (Nat.le_of_ble_eq_true rfl)
  clear eJ34
  refine wm_icmp_le X 34 h dJ3_fastRemove_19 (by decide) (fun c27 h => ?_) (fun c27 h => ?_)
  · refine wm_sub (ℓ' := [(0, va_rf (some h0)), (1, va_rf x1), (3, .int (x23 - 1))]) [1, 2, 0] rfl ?_
    exact hJ34 _ h
  · refine wm_aload_n X 2 dJ3_fastRemove_22 rfl ?_
    refine wm_iload_n X 3 dJ3_fastRemove_23 rfl ?_
    refine wm_iconst (v := 1) X dJ3_fastRemove_24 (by decide) ?_
    refine wm_iadd X dJ3_fastRemove_25 ?_
    refine wm_aload_n X 2 dJ3_fastRemove_26 rfl ?_
    refine wm_iload_n X 3 dJ3_fastRemove_27 rfl ?_
    refine wm_iload_n X 0 dJ3_fastRemove_28 rfl ?_
    refine wm_iload_n X 3 dJ3_fastRemove_29 rfl ?_
    refine wm_isub X dJ3_fastRemove_30 ?_
    refine wm_copyR X hS h dJ3_fastRemove_31 q670 q672 q671 q140 (Nat.le_of_ble_eq_true rfl) c1_0 (Nat.le_of_ble_eq_true rfl) (Nat.le_of_ble_eq_true rfl) (fun σ26 _ h => ?_)
    refine wm_sub (ℓ' := [(0, va_rf (some h0)), (1, va_rf x1), (3, .int (x23 - 1))]) [1, 2, 0] rfl ?_
    exact hJ34 _ h
theorem mdJ3_remove : MD yJ3_remove 1 := by unfold MD; decide +kernel
theorem mvJ3_remove : MV yJ3_remove cJ3_remove 4 ((some (FieldType.object "java/lang/Object"))) := ⟨q657, q658, q135, q659⟩
set_option maxHeartbeats 4000000 in
theorem ctJ3_remove (l : Launch) {h0 : Nat} {x1 : Int32} {σ σf : Mm} {r : Option Nat} (h : FJ3_remove h0 x1 σ = some (r, σf)) : CTr l yJ3_remove (ws_ yJ3_remove cJ3_remove 4 ((some (FieldType.object "java/lang/Object")))) 2 83 0 0 [va_rf (some h0), .int x1] σ r σf := by
  refine ct_start (n := 1) mdJ3_remove (Nat.le_of_ble_eq_true rfl) (c1_r (c1_i c1_0)) (fun p e s m args below meth c D dA sz0 ad0 X hS hr hnm => ?_)
  have X : CX p s m args meth c cJ3_remove 4 RJ3 := X
  generalize mN σ = N0
  unfold FJ3_remove at h
  refine wm_iload_n X 1 dJ3_remove_0 rfl ?_
  refine wm_aload_n X 0 dJ3_remove_1 rfl ?_
  refine wm_gI X hS cd_17 2 h dJ3_remove_2 (Nat.le_of_ble_eq_true rfl) rfl q367 (fun x21 h => ?_)
  refine wm_cS_i (As := [.int x1, .int x21]) (st := []) X hS h (fun _ _ hF => ctJ23_checkIndex l hF) mdJ23_checkIndex msJ23_checkIndex q660 dJ3_remove_5 rfl rfl c1_0 (Nat.le_of_ble_eq_true rfl) ⟨Nat.le_of_ble_eq_true rfl, Nat.le_of_ble_eq_true rfl⟩ ⟨Nat.le_of_ble_eq_true rfl, Nat.le_of_ble_eq_true rfl⟩ (fun x22 σ23 _ h => ?_)
  refine wm_pop X dJ3_remove_8 rfl ?_
  refine wm_aload_n X 0 dJ3_remove_9 rfl ?_
  refine wm_gR X hS cd_17 1 h dJ3_remove_10 (Nat.le_of_ble_eq_true rfl) rfl q366 (fun x24 h => ?_)
  refine wm_astore_n (ℓ' := [(2, va_rf x24), (0, va_rf (some h0)), (1, .int x1)]) X dJ3_remove_13 (by decide) rfl ?_
  refine wm_aload_n X 0 dJ3_remove_14 rfl ?_
  refine wm_iload_n X 2 dJ3_remove_15 rfl ?_
  refine wm_aaload X hS h dJ3_remove_16 (fun x25 h => ?_)
  refine wm_astore_n (ℓ' := [(3, va_rf x25), (2, va_rf x24), (0, va_rf (some h0)), (1, .int x1)]) X dJ3_remove_17 (by decide) rfl ?_
  refine wm_aload_n X 2 dJ3_remove_18 rfl ?_
  refine wm_aload_n X 1 dJ3_remove_19 rfl ?_
  refine wm_iload_n X 3 dJ3_remove_20 rfl ?_
  obtain ⟨s26, h⟩ := ck_e h
  refine wm_cV_v (As := [va_rf x24, .int x1]) (st := []) X hS cd_17 s26 rfl h (fun _ hF => ctJ3_fastRemove l hF) mdJ3_fastRemove mvJ3_fastRemove q666 dJ3_remove_21 rfl rfl c1_0 (Nat.le_of_ble_eq_true rfl) ⟨Nat.le_of_ble_eq_true rfl, Nat.le_of_ble_eq_true rfl⟩ ⟨Nat.le_of_ble_eq_true rfl, Nat.le_of_ble_eq_true rfl⟩ (fun σ27 _ h => ?_)
  refine wm_aload_n X 0 dJ3_remove_24 rfl ?_
  exact wm_aret X hr (Or.inl ⟨_, rfl⟩) h dJ3_remove_25 (Nat.le_of_ble_eq_true rfl) (Nat.le_of_ble_eq_true rfl)
theorem mdX2_row : MD yX2_row 2 := by unfold MD; decide +kernel
theorem msX2_row : MS yX2_row cX2_row 2 (none) := ⟨q678, q129, q679⟩
set_option maxHeartbeats 4000000 in
theorem ctX2_row (l : Launch) {x0 : Option Nat} {x1 : Option Nat} {σ σf : Mm} (h : FX2_row x0 x1 σ = some σf) : CTv l yX2_row (ws_ yX2_row cX2_row 2 (none)) 1 60 0 0 [va_rf x0, va_rf x1] σ σf := by
  refine ct_start (n := 2) mdX2_row (Nat.le_of_ble_eq_true rfl) (c1_r (c1_r c1_0)) (fun p e s m args below meth c D dA sz0 ad0 X hS hr hnm => ?_)
  have X : CX p s m args meth c cX2_row 2 RX2 := X
  generalize mN σ = N0
  unfold FX2_row at h
  refine wm_aload_n X 0 dX2_row_0 rfl ?_
  refine wm_iconst (v := 0) X dX2_row_1 (by decide) ?_
  refine wm_aload_n X 1 dX2_row_2 rfl ?_
  refine wm_iconst (v := 0) X dX2_row_3 (by decide) ?_
  refine wm_aload_n X 1 dX2_row_4 rfl ?_
  refine wm_alen X hS 100 (by decide) h dX2_row_5 (fun x21 h => ?_)
  refine wm_copy X hS 100 (by decide) h dX2_row_6 q680 q672 q671 q140 (Nat.le_of_ble_eq_true rfl) c1_0 (Nat.le_of_ble_eq_true rfl) (Nat.le_of_ble_eq_true rfl) (fun σ22 _ h => ?_)
  exact wm_vret X hr h dX2_row_9 (Nat.le_of_ble_eq_true rfl) (Nat.le_of_ble_eq_true rfl)
theorem mdX2_likens : MD yX2_likens 1 := by unfold MD; decide +kernel
theorem mvX2_likens : MV yX2_likens cX2_likens 2 ((some (FieldType.object "HungFaces$World"))) := ⟨q674, q675, q129, q676⟩
set_option maxHeartbeats 4000000 in
theorem ctX2_likens (l : Launch) {h0 : Nat} {x1 : Option Nat} {σ σf : Mm} {r : Option Nat} (h : FX2_likens h0 x1 σ = some (r, σf)) : CTr l yX2_likens (ws_ yX2_likens cX2_likens 2 ((some (FieldType.object "HungFaces$World")))) 2 81 0 0 [va_rf (some h0), va_rf x1] σ r σf := by
  refine ct_start (n := 1) mdX2_likens (Nat.le_of_ble_eq_true rfl) (c1_r (c1_r c1_0)) (fun p e s m args below meth c D dA sz0 ad0 X hS hr hnm => ?_)
  have X : CX p s m args meth c cX2_likens 2 RX2 := X
  generalize mN σ = N0
  unfold FX2_likens at h
  refine wm_aload_n X 0 dX2_likens_0 rfl ?_
  refine wm_aload_n X 1 dX2_likens_1 rfl ?_
  refine wm_gI X hS cd_2 0 h dX2_likens_2 (Nat.le_of_ble_eq_true rfl) rfl q190 (fun x21 h => ?_)
  refine wm_pI X hS cd_2 0 h dX2_likens_5 (Nat.le_of_ble_eq_true rfl) rfl q190 rfl rfl (fun σ22 _ h => ?_)
  refine wm_aload_n X 0 dX2_likens_8 rfl ?_
  refine wm_aload_n X 1 dX2_likens_9 rfl ?_
  refine wm_gI X hS cd_2 1 h dX2_likens_10 (Nat.le_of_ble_eq_true rfl) rfl q192 (fun x23 h => ?_)
  refine wm_pI X hS cd_2 1 h dX2_likens_13 (Nat.le_of_ble_eq_true rfl) rfl q192 rfl rfl (fun σ24 _ h => ?_)
  refine wm_aload_n X 0 dX2_likens_16 rfl ?_
  refine wm_aload_n X 1 dX2_likens_17 rfl ?_
  refine wm_gI X hS cd_2 2 h dX2_likens_18 (Nat.le_of_ble_eq_true rfl) rfl q196 (fun x25 h => ?_)
  refine wm_pI X hS cd_2 2 h dX2_likens_21 (Nat.le_of_ble_eq_true rfl) rfl q196 rfl rfl (fun σ26 _ h => ?_)
  refine wm_aload_n X 0 dX2_likens_24 rfl ?_
  refine wm_aload_n X 1 dX2_likens_25 rfl ?_
  refine wm_gI X hS cd_2 3 h dX2_likens_26 (Nat.le_of_ble_eq_true rfl) rfl q198 (fun x27 h => ?_)
  refine wm_pI X hS cd_2 3 h dX2_likens_29 (Nat.le_of_ble_eq_true rfl) rfl q198 rfl rfl (fun σ28 _ h => ?_)
  refine wm_aload_n X 0 dX2_likens_32 rfl ?_
  refine wm_aload_n X 1 dX2_likens_33 rfl ?_
  refine wm_gI X hS cd_2 4 h dX2_likens_34 (Nat.le_of_ble_eq_true rfl) rfl q200 (fun x29 h => ?_)
  refine wm_pI X hS cd_2 4 h dX2_likens_37 (Nat.le_of_ble_eq_true rfl) rfl q200 rfl rfl (fun σ30 _ h => ?_)
  refine wm_aload_n X 0 dX2_likens_40 rfl ?_
  refine wm_aload_n X 1 dX2_likens_41 rfl ?_
  refine wm_gI X hS cd_2 5 h dX2_likens_42 (Nat.le_of_ble_eq_true rfl) rfl q202 (fun x31 h => ?_)
  refine wm_pI X hS cd_2 5 h dX2_likens_45 (Nat.le_of_ble_eq_true rfl) rfl q202 rfl rfl (fun σ32 _ h => ?_)
  refine wm_aload_n X 0 dX2_likens_48 rfl ?_
  refine wm_aload_n X 1 dX2_likens_49 rfl ?_
  refine wm_gI X hS cd_2 6 h dX2_likens_50 (Nat.le_of_ble_eq_true rfl) rfl q204 (fun x33 h => ?_)
  refine wm_pI X hS cd_2 6 h dX2_likens_53 (Nat.le_of_ble_eq_true rfl) rfl q204 rfl rfl (fun σ34 _ h => ?_)
  refine wm_aload_n X 0 dX2_likens_56 rfl ?_
  refine wm_aload_n X 1 dX2_likens_57 rfl ?_
  refine wm_gI X hS cd_2 7 h dX2_likens_58 (Nat.le_of_ble_eq_true rfl) rfl q206 (fun x35 h => ?_)
  refine wm_pI X hS cd_2 7 h dX2_likens_61 (Nat.le_of_ble_eq_true rfl) rfl q206 rfl rfl (fun σ36 _ h => ?_)
  refine wm_aload_n X 0 dX2_likens_64 rfl ?_
  refine wm_aload_n X 1 dX2_likens_65 rfl ?_
  refine wm_gR X hS cd_2 19 h dX2_likens_66 (Nat.le_of_ble_eq_true rfl) rfl q233 (fun x37 h => ?_)
  refine wm_pR X hS cd_2 19 h dX2_likens_69 (Nat.le_of_ble_eq_true rfl) rfl q233 (fun r => by cases r <;> exact ⟨rfl, rfl⟩) rfl (fun σ38 _ h => ?_)
  refine wm_aload_n X 1 dX2_likens_72 rfl ?_
  refine wm_gR X hS cd_2 8 h dX2_likens_73 (Nat.le_of_ble_eq_true rfl) rfl q208 (fun x39 h => ?_)
  refine wm_aload_n X 0 dX2_likens_76 rfl ?_
  refine wm_gR X hS cd_2 8 h dX2_likens_77 (Nat.le_of_ble_eq_true rfl) rfl q208 (fun x40 h => ?_)
  refine wm_cS_v (As := [va_rf x39, va_rf x40]) (st := []) X hS h (fun _ hF => ctX2_row l hF) mdX2_row msX2_row q677 dX2_likens_80 rfl rfl c1_0 (Nat.le_of_ble_eq_true rfl) ⟨Nat.le_of_ble_eq_true rfl, Nat.le_of_ble_eq_true rfl⟩ ⟨Nat.le_of_ble_eq_true rfl, Nat.le_of_ble_eq_true rfl⟩ (fun σ41 _ h => ?_)
  refine wm_aload_n X 1 dX2_likens_83 rfl ?_
  refine wm_gR X hS cd_2 9 h dX2_likens_84 (Nat.le_of_ble_eq_true rfl) rfl q210 (fun x42 h => ?_)
  refine wm_aload_n X 0 dX2_likens_87 rfl ?_
  refine wm_gR X hS cd_2 9 h dX2_likens_88 (Nat.le_of_ble_eq_true rfl) rfl q210 (fun x43 h => ?_)
  refine wm_cS_v (As := [va_rf x42, va_rf x43]) (st := []) X hS h (fun _ hF => ctX2_row l hF) mdX2_row msX2_row q677 dX2_likens_91 rfl rfl c1_0 (Nat.le_of_ble_eq_true rfl) ⟨Nat.le_of_ble_eq_true rfl, Nat.le_of_ble_eq_true rfl⟩ ⟨Nat.le_of_ble_eq_true rfl, Nat.le_of_ble_eq_true rfl⟩ (fun σ44 _ h => ?_)
  refine wm_aload_n X 1 dX2_likens_94 rfl ?_
  refine wm_gR X hS cd_2 10 h dX2_likens_95 (Nat.le_of_ble_eq_true rfl) rfl q212 (fun x45 h => ?_)
  refine wm_aload_n X 0 dX2_likens_98 rfl ?_
  refine wm_gR X hS cd_2 10 h dX2_likens_99 (Nat.le_of_ble_eq_true rfl) rfl q212 (fun x46 h => ?_)
  refine wm_cS_v (As := [va_rf x45, va_rf x46]) (st := []) X hS h (fun _ hF => ctX2_row l hF) mdX2_row msX2_row q677 dX2_likens_102 rfl rfl c1_0 (Nat.le_of_ble_eq_true rfl) ⟨Nat.le_of_ble_eq_true rfl, Nat.le_of_ble_eq_true rfl⟩ ⟨Nat.le_of_ble_eq_true rfl, Nat.le_of_ble_eq_true rfl⟩ (fun σ47 _ h => ?_)
  refine wm_aload_n X 1 dX2_likens_105 rfl ?_
  refine wm_gR X hS cd_2 11 h dX2_likens_106 (Nat.le_of_ble_eq_true rfl) rfl q215 (fun x48 h => ?_)
  refine wm_aload_n X 0 dX2_likens_109 rfl ?_
  refine wm_gR X hS cd_2 11 h dX2_likens_110 (Nat.le_of_ble_eq_true rfl) rfl q215 (fun x49 h => ?_)
  refine wm_cS_v (As := [va_rf x48, va_rf x49]) (st := []) X hS h (fun _ hF => ctX2_row l hF) mdX2_row msX2_row q677 dX2_likens_113 rfl rfl c1_0 (Nat.le_of_ble_eq_true rfl) ⟨Nat.le_of_ble_eq_true rfl, Nat.le_of_ble_eq_true rfl⟩ ⟨Nat.le_of_ble_eq_true rfl, Nat.le_of_ble_eq_true rfl⟩ (fun σ50 _ h => ?_)
  refine wm_aload_n X 1 dX2_likens_116 rfl ?_
  refine wm_gR X hS cd_2 12 h dX2_likens_117 (Nat.le_of_ble_eq_true rfl) rfl q218 (fun x51 h => ?_)
  refine wm_aload_n X 0 dX2_likens_120 rfl ?_
  refine wm_gR X hS cd_2 12 h dX2_likens_121 (Nat.le_of_ble_eq_true rfl) rfl q218 (fun x52 h => ?_)
  refine wm_cS_v (As := [va_rf x51, va_rf x52]) (st := []) X hS h (fun _ hF => ctX2_row l hF) mdX2_row msX2_row q677 dX2_likens_124 rfl rfl c1_0 (Nat.le_of_ble_eq_true rfl) ⟨Nat.le_of_ble_eq_true rfl, Nat.le_of_ble_eq_true rfl⟩ ⟨Nat.le_of_ble_eq_true rfl, Nat.le_of_ble_eq_true rfl⟩ (fun σ53 _ h => ?_)
  refine wm_aload_n X 1 dX2_likens_127 rfl ?_
  refine wm_gR X hS cd_2 13 h dX2_likens_128 (Nat.le_of_ble_eq_true rfl) rfl q220 (fun x54 h => ?_)
  refine wm_aload_n X 0 dX2_likens_131 rfl ?_
  refine wm_gR X hS cd_2 13 h dX2_likens_132 (Nat.le_of_ble_eq_true rfl) rfl q220 (fun x55 h => ?_)
  refine wm_cS_v (As := [va_rf x54, va_rf x55]) (st := []) X hS h (fun _ hF => ctX2_row l hF) mdX2_row msX2_row q677 dX2_likens_135 rfl rfl c1_0 (Nat.le_of_ble_eq_true rfl) ⟨Nat.le_of_ble_eq_true rfl, Nat.le_of_ble_eq_true rfl⟩ ⟨Nat.le_of_ble_eq_true rfl, Nat.le_of_ble_eq_true rfl⟩ (fun σ56 _ h => ?_)
  refine wm_aload_n X 1 dX2_likens_138 rfl ?_
  refine wm_gR X hS cd_2 14 h dX2_likens_139 (Nat.le_of_ble_eq_true rfl) rfl q222 (fun x57 h => ?_)
  refine wm_aload_n X 0 dX2_likens_142 rfl ?_
  refine wm_gR X hS cd_2 14 h dX2_likens_143 (Nat.le_of_ble_eq_true rfl) rfl q222 (fun x58 h => ?_)
  refine wm_cS_v (As := [va_rf x57, va_rf x58]) (st := []) X hS h (fun _ hF => ctX2_row l hF) mdX2_row msX2_row q677 dX2_likens_146 rfl rfl c1_0 (Nat.le_of_ble_eq_true rfl) ⟨Nat.le_of_ble_eq_true rfl, Nat.le_of_ble_eq_true rfl⟩ ⟨Nat.le_of_ble_eq_true rfl, Nat.le_of_ble_eq_true rfl⟩ (fun σ59 _ h => ?_)
  refine wm_aload_n X 1 dX2_likens_149 rfl ?_
  refine wm_gR X hS cd_2 15 h dX2_likens_150 (Nat.le_of_ble_eq_true rfl) rfl q224 (fun x60 h => ?_)
  refine wm_aload_n X 0 dX2_likens_153 rfl ?_
  refine wm_gR X hS cd_2 15 h dX2_likens_154 (Nat.le_of_ble_eq_true rfl) rfl q224 (fun x61 h => ?_)
  refine wm_cS_v (As := [va_rf x60, va_rf x61]) (st := []) X hS h (fun _ hF => ctX2_row l hF) mdX2_row msX2_row q677 dX2_likens_157 rfl rfl c1_0 (Nat.le_of_ble_eq_true rfl) ⟨Nat.le_of_ble_eq_true rfl, Nat.le_of_ble_eq_true rfl⟩ ⟨Nat.le_of_ble_eq_true rfl, Nat.le_of_ble_eq_true rfl⟩ (fun σ62 _ h => ?_)
  refine wm_aload_n X 1 dX2_likens_160 rfl ?_
  refine wm_gR X hS cd_2 16 h dX2_likens_161 (Nat.le_of_ble_eq_true rfl) rfl q227 (fun x63 h => ?_)
  refine wm_aload_n X 0 dX2_likens_164 rfl ?_
  refine wm_gR X hS cd_2 16 h dX2_likens_165 (Nat.le_of_ble_eq_true rfl) rfl q227 (fun x64 h => ?_)
  refine wm_cS_v (As := [va_rf x63, va_rf x64]) (st := []) X hS h (fun _ hF => ctX2_row l hF) mdX2_row msX2_row q677 dX2_likens_168 rfl rfl c1_0 (Nat.le_of_ble_eq_true rfl) ⟨Nat.le_of_ble_eq_true rfl, Nat.le_of_ble_eq_true rfl⟩ ⟨Nat.le_of_ble_eq_true rfl, Nat.le_of_ble_eq_true rfl⟩ (fun σ65 _ h => ?_)
  refine wm_aload_n X 1 dX2_likens_171 rfl ?_
  refine wm_gR X hS cd_2 17 h dX2_likens_172 (Nat.le_of_ble_eq_true rfl) rfl q229 (fun x66 h => ?_)
  refine wm_aload_n X 0 dX2_likens_175 rfl ?_
  refine wm_gR X hS cd_2 17 h dX2_likens_176 (Nat.le_of_ble_eq_true rfl) rfl q229 (fun x67 h => ?_)
  refine wm_cS_v (As := [va_rf x66, va_rf x67]) (st := []) X hS h (fun _ hF => ctX2_row l hF) mdX2_row msX2_row q677 dX2_likens_179 rfl rfl c1_0 (Nat.le_of_ble_eq_true rfl) ⟨Nat.le_of_ble_eq_true rfl, Nat.le_of_ble_eq_true rfl⟩ ⟨Nat.le_of_ble_eq_true rfl, Nat.le_of_ble_eq_true rfl⟩ (fun σ68 _ h => ?_)
  refine wm_aload_n X 1 dX2_likens_182 rfl ?_
  refine wm_gR X hS cd_2 18 h dX2_likens_183 (Nat.le_of_ble_eq_true rfl) rfl q231 (fun x69 h => ?_)
  refine wm_aload_n X 0 dX2_likens_186 rfl ?_
  refine wm_gR X hS cd_2 18 h dX2_likens_187 (Nat.le_of_ble_eq_true rfl) rfl q231 (fun x70 h => ?_)
  refine wm_cS_v (As := [va_rf x69, va_rf x70]) (st := []) X hS h (fun _ hF => ctX2_row l hF) mdX2_row msX2_row q677 dX2_likens_190 rfl rfl c1_0 (Nat.le_of_ble_eq_true rfl) ⟨Nat.le_of_ble_eq_true rfl, Nat.le_of_ble_eq_true rfl⟩ ⟨Nat.le_of_ble_eq_true rfl, Nat.le_of_ble_eq_true rfl⟩ (fun σ71 _ h => ?_)
  refine wm_aload_n X 0 dX2_likens_193 rfl ?_
  exact wm_aret X hr (Or.inl ⟨_, rfl⟩) h dX2_likens_194 (Nat.le_of_ble_eq_true rfl) (Nat.le_of_ble_eq_true rfl)
theorem mdX1_undo : MD yX1_undo 0 := by unfold MD; decide +kernel
theorem mvX1_undo : MV yX1_undo cX1_undo 1 ((some FieldType.boolean)) := ⟨q645, q646, q128, q647⟩
set_option maxHeartbeats 4000000 in
theorem ctX1_undo (l : Launch) {h0 : Nat} {σ σf : Mm} {r : Int32} (h : FX1_undo h0 σ = some (r, σf)) : CTi l yX1_undo (ws_ yX1_undo cX1_undo 1 ((some FieldType.boolean))) 3 106 0 0 [va_rf (some h0)] σ r σf := by
  refine ct_start (n := 0) mdX1_undo (Nat.le_of_ble_eq_true rfl) (c1_r c1_0) (fun p e s m args below meth c D dA sz0 ad0 X hS hr hnm => ?_)
  have X : CX p s m args meth c cX1_undo 1 RX1 := X
  generalize mN σ = N0
  unfold FX1_undo at h
  refine wm_aload_n X 0 dX1_undo_0 rfl ?_
  refine wm_gR X hS cd_1 6 h dX1_undo_1 (Nat.le_of_ble_eq_true rfl) rfl q444 (fun x21 h => ?_)
  obtain ⟨q22, eq22, h⟩ := Option.bind_eq_some_iff.mp h
  obtain ⟨eq22, s23⟩ := rv_some eq22
  refine wm_cV_i (As := []) (st := []) X hS cd_17 s23 rfl h (fun _ _ hF => ctJ3_isEmpty l hF) mdJ3_isEmpty mvJ3_isEmpty q648 dX1_undo_4 rfl (by rw [eq22]; first | done | rfl) c1_0 (Nat.le_of_ble_eq_true rfl) ⟨Nat.le_of_ble_eq_true rfl, Nat.le_of_ble_eq_true rfl⟩ ⟨Nat.le_of_ble_eq_true rfl, Nat.le_of_ble_eq_true rfl⟩ (fun x24 σ25 _ h => ?_)
  refine wm_if_eq X 12 h dX1_undo_7 (by decide) (fun c44 h => ?_) (fun c44 h => ?_)
  · refine wm_aload_n X 0 dX1_undo_12 rfl ?_
    refine wm_gR X hS cd_1 0 h dX1_undo_13 (Nat.le_of_ble_eq_true rfl) rfl q434 (fun x26 h => ?_)
    refine wm_aload_n X 0 dX1_undo_16 rfl ?_
    refine wm_gR X hS cd_1 6 h dX1_undo_17 (Nat.le_of_ble_eq_true rfl) rfl q444 (fun x27 h => ?_)
    refine wm_aload_n X 0 dX1_undo_20 rfl ?_
    refine wm_gR X hS cd_1 6 h dX1_undo_21 (Nat.le_of_ble_eq_true rfl) rfl q444 (fun x28 h => ?_)
    obtain ⟨q29, eq29, h⟩ := Option.bind_eq_some_iff.mp h
    obtain ⟨eq29, s30⟩ := rv_some eq29
    refine wm_cV_i (As := []) (st := [va_rf x27, va_rf x26]) X hS cd_17 s30 rfl h (fun _ _ hF => ctJ3_size l hF) mdJ3_size mvJ3_size q652 dX1_undo_24 rfl (by rw [eq29]; first | done | rfl) (c1_r (c1_r c1_0)) (Nat.le_of_ble_eq_true rfl) ⟨Nat.le_of_ble_eq_true rfl, Nat.le_of_ble_eq_true rfl⟩ ⟨Nat.le_of_ble_eq_true rfl, Nat.le_of_ble_eq_true rfl⟩ (fun x31 σ32 _ h => ?_)
    refine wm_iconst (v := 1) X dX1_undo_27 (by decide) ?_
    refine wm_isub X dX1_undo_28 ?_
    obtain ⟨q33, eq33, h⟩ := Option.bind_eq_some_iff.mp h
    obtain ⟨eq33, s34⟩ := rv_some eq33
    refine wm_cV_r (As := [.int (x31 - 1)]) (st := [va_rf x26]) X hS cd_17 s34 rfl h (fun _ _ hF => ctJ3_remove l hF) mdJ3_remove mvJ3_remove q656 dX1_undo_29 rfl (by rw [eq33]; first | done | rfl) (c1_r c1_0) (Nat.le_of_ble_eq_true rfl) ⟨Nat.le_of_ble_eq_true rfl, Nat.le_of_ble_eq_true rfl⟩ ⟨Nat.le_of_ble_eq_true rfl, Nat.le_of_ble_eq_true rfl⟩ (fun x35 σ36 _ h => ?_)
    refine wm_cast X hS cd_2 h dX1_undo_32 q181 (fun q37 e38 s39 h => ?_)
    obtain ⟨q40, eq40, h⟩ := Option.bind_eq_some_iff.mp h
    obtain ⟨eq40, s41⟩ := rv_some eq40
    refine wm_cV_r (As := [va_rf (some q37)]) (st := []) X hS cd_2 s41 rfl h (fun _ _ hF => ctX2_likens l hF) mdX2_likens mvX2_likens q673 dX1_undo_35 rfl (by rw [eq40]; first | done | rfl) c1_0 (Nat.le_of_ble_eq_true rfl) ⟨Nat.le_of_ble_eq_true rfl, Nat.le_of_ble_eq_true rfl⟩ ⟨Nat.le_of_ble_eq_true rfl, Nat.le_of_ble_eq_true rfl⟩ (fun x42 σ43 _ h => ?_)
    refine wm_pop X dX1_undo_38 (catR _) ?_
    refine wm_iconst (v := 1) X dX1_undo_39 (by decide) ?_
    exact wm_zret X hr h dX1_undo_40 (Nat.le_of_ble_eq_true rfl) (Nat.le_of_ble_eq_true rfl)
  · refine wm_iconst (v := 0) X dX1_undo_10 (by decide) ?_
    exact wm_zret X hr h dX1_undo_11 (Nat.le_of_ble_eq_true rfl) (Nat.le_of_ble_eq_true rfl)
theorem mdX1_image : MD yX1_image 0 := by unfold MD; decide +kernel
theorem mvX1_image : MV yX1_image cX1_image 1 (none) := ⟨q682, q683, q128, q684⟩
set_option maxHeartbeats 4000000 in
theorem ctX1_image (l : Launch) {h0 : Nat} {σ σf : Mm} (h : FX1_image h0 σ = some σf) : CTv l yX1_image (ws_ yX1_image cX1_image 1 (none)) 3 102 0 0 [va_rf (some h0)] σ σf := by
  refine ct_start (n := 0) mdX1_image (Nat.le_of_ble_eq_true rfl) (c1_r c1_0) (fun p e s m args below meth c D dA sz0 ad0 X hS hr hnm => ?_)
  have X : CX p s m args meth c cX1_image 1 RX1 := X
  generalize mN σ = N0
  unfold FX1_image at h
  refine wm_aload_n X 0 dX1_image_0 rfl ?_
  refine wm_iconst (v := 1) X dX1_image_1 (by decide) ?_
  refine wm_pZ X hS cd_1 3 h dX1_image_2 (Nat.le_of_ble_eq_true rfl) rfl q440 rfl rfl (fun σ21 _ h => ?_)
  refine wm_aload_n X 0 dX1_image_5 rfl ?_
  refine wm_gR X hS cd_1 2 h dX1_image_6 (Nat.le_of_ble_eq_true rfl) rfl q439 (fun x22 h => ?_)
  refine wm_aload_n X 0 dX1_image_9 rfl ?_
  refine wm_gR X hS cd_1 0 h dX1_image_10 (Nat.le_of_ble_eq_true rfl) rfl q434 (fun x23 h => ?_)
  obtain ⟨q24, eq24, h⟩ := Option.bind_eq_some_iff.mp h
  obtain ⟨eq24, s25⟩ := rv_some eq24
  refine wm_cV_r (As := [va_rf x23]) (st := []) X hS cd_2 s25 rfl h (fun _ _ hF => ctX2_likens l hF) mdX2_likens mvX2_likens q673 dX1_image_13 rfl (by rw [eq24]; first | done | rfl) c1_0 (Nat.le_of_ble_eq_true rfl) ⟨Nat.le_of_ble_eq_true rfl, Nat.le_of_ble_eq_true rfl⟩ ⟨Nat.le_of_ble_eq_true rfl, Nat.le_of_ble_eq_true rfl⟩ (fun x26 σ27 _ h => ?_)
  refine wm_pop X dX1_image_16 (catR _) ?_
  exact wm_vret X hr h dX1_image_17 (Nat.le_of_ble_eq_true rfl) (Nat.le_of_ble_eq_true rfl)
theorem mdJ3_clear : MD yJ3_clear 0 := by unfold MD; decide +kernel
theorem mvJ3_clear : MV yJ3_clear cJ3_clear 4 (none) := ⟨q690, q691, q135, q692⟩
set_option maxHeartbeats 4000000 in
theorem wJ3_clear_27 {p : Program} {l : Launch} {e : Env} {s : State} {m : MethodId} {args : Array Value} {below : List Frame} {meth : Method} {c : Code} {D : va_G} {dA : Nat → ClassId} {sz0 : Nat} {ad0 : Nat → Nat} {N0 : Nat} {σf : Mm} (X : CX p s m args meth c cJ3_clear 4 RJ3) (hS : ST D dA sz0 ad0 s) (hr : meth.sig.returnType = none) (hnm : meth.name = yJ3_clear.name) (y1 : Option Nat) (y2 : Int32) : ∀ (n : Nat) (v3 : Int32) (σ : Mm) (kx42 : Mm → Option (Mm)), FJ3_clear_27 y1 y2 n v3 σ kx42 = some σf → (∀  (σ : Mm), kx42 σ = some σf → WMv p l e s m args below meth c 0 0 0 0 4 D dA sz0 ad0 N0 σf 0 0 σ [] [] 42) → WMv p l e s m args below meth c 0 0 0 0 4 D dA sz0 ad0 N0 σf 0 0 σ [(1, va_rf y1), (2, .int y2), (3, .int v3)] [] 27 := by
  intro n
  induction n with
  | zero =>
    intro v3 σ kx42 h hkx42
    cases h
  | succ n ih =>
    intro v3 σ kx42 h hkx42
    rw [FJ3_clear_27] at h
    refine wm_iload_n X 2 dJ3_clear_27 rfl ?_
    refine wm_iload_n X 1 dJ3_clear_28 rfl ?_
    refine wm_icmp_ge X 42 h dJ3_clear_29 (by decide) (fun c27 h => ?_) (fun c27 h => ?_)
    · refine wm_sub (ℓ' := []) [] rfl ?_
      exact hkx42 _ h
    · refine wm_aload_n X 0 dJ3_clear_32 rfl ?_
      refine wm_iload_n X 2 dJ3_clear_33 rfl ?_
      refine wm_null X dJ3_clear_34 ?_
      refine wm_aastore X hS h dJ3_clear_35 (fun σ26 _ h => ?_)
      refine wm_iinc (v := (v3 + 1)) (ℓ' := [(3, .int (v3 + 1)), (1, va_rf y1), (2, .int y2)]) X 2 dJ3_clear_36 rfl rfl (by decide) rfl ?_
      refine wm_goto X 27 dJ3_clear_39 (by decide) ?_
      refine wm_sub (ℓ' := [(1, va_rf y1), (2, .int y2), (3, .int (v3 + 1))]) [1, 2, 0] rfl ?_
      exact ih _ _ _ h hkx42
set_option maxHeartbeats 4000000 in
theorem ctJ3_clear (l : Launch) {h0 : Nat} {σ σf : Mm} (h : FJ3_clear h0 σ = some σf) : CTv l yJ3_clear (ws_ yJ3_clear cJ3_clear 4 (none)) 0 0 0 0 [va_rf (some h0)] σ σf := by
  refine ct_start (n := 0) mdJ3_clear (Nat.le_of_ble_eq_true rfl) (c1_r c1_0) (fun p e s m args below meth c D dA sz0 ad0 X hS hr hnm => ?_)
  have X : CX p s m args meth c cJ3_clear 4 RJ3 := X
  generalize mN σ = N0
  unfold FJ3_clear at h
  refine wm_aload_n X 0 dJ3_clear_0 rfl ?_
  refine wm_dup X dJ3_clear_1 (catR _) ?_
  refine wm_gIA X hS cd_17 0 h dJ3_clear_2 (Nat.le_of_ble_eq_true rfl) rfl q369 q370 (fun x21 h => ?_)
  refine wm_iconst (v := 1) X dJ3_clear_5 (by decide) ?_
  refine wm_iadd X dJ3_clear_6 ?_
  refine wm_pIA X hS cd_17 0 h dJ3_clear_7 (Nat.le_of_ble_eq_true rfl) rfl q369 q370 rfl rfl (fun σ22 _ h => ?_)
  refine wm_aload_n X 0 dJ3_clear_10 rfl ?_
  refine wm_gR X hS cd_17 1 h dJ3_clear_11 (Nat.le_of_ble_eq_true rfl) rfl q366 (fun x23 h => ?_)
  refine wm_astore_n (ℓ' := [(1, va_rf x23), (0, va_rf (some h0))]) X dJ3_clear_14 (by decide) rfl ?_
  refine wm_aload_n X 1 dJ3_clear_15 rfl ?_
  refine wm_gI X hS cd_17 2 h dJ3_clear_16 (Nat.le_of_ble_eq_true rfl) rfl q367 (fun x24 h => ?_)
  refine wm_istore_n (ℓ' := [(2, .int x24), (1, va_rf x23), (0, va_rf (some h0))]) X dJ3_clear_19 (by decide) rfl ?_
  refine wm_aload_n X 2 dJ3_clear_20 rfl ?_
  refine wm_iconst (v := 0) X dJ3_clear_21 (by decide) ?_
  refine wm_dup_x1 X dJ3_clear_22 rfl (catR _) ?_
  refine wm_pI X hS cd_17 2 h dJ3_clear_23 (Nat.le_of_ble_eq_true rfl) rfl q367 rfl rfl (fun σ25 _ h => ?_)
  refine wm_istore_n (ℓ' := [(3, .int 0), (2, .int x24), (1, va_rf x23), (0, va_rf (some h0))]) X dJ3_clear_26 (by decide) rfl ?_
  refine wm_sub (ℓ' := [(1, va_rf x23), (2, .int x24), (3, .int 0)]) [2, 1, 0] rfl ?_
  refine wJ3_clear_27 X hS hr hnm _ _ fu _ _ _ h (fun σ h => ?_)
  · exact wm_vret X hr h dJ3_clear_42 (Nat.le_of_ble_eq_true rfl) (Nat.le_of_ble_eq_true rfl)
theorem mdX1_back : MD yX1_back 0 := by unfold MD; decide +kernel
theorem mvX1_back : MV yX1_back cX1_back 1 ((some FieldType.boolean)) := ⟨q686, q687, q128, q688⟩
set_option maxHeartbeats 4000000 in
theorem ctX1_back (l : Launch) {h0 : Nat} {σ σf : Mm} {r : Int32} (h : FX1_back h0 σ = some (r, σf)) : CTi l yX1_back (ws_ yX1_back cX1_back 1 ((some FieldType.boolean))) 3 102 0 0 [va_rf (some h0)] σ r σf := by
  refine ct_start (n := 0) mdX1_back (Nat.le_of_ble_eq_true rfl) (c1_r c1_0) (fun p e s m args below meth c D dA sz0 ad0 X hS hr hnm => ?_)
  have X : CX p s m args meth c cX1_back 1 RX1 := X
  generalize mN σ = N0
  unfold FX1_back at h
  refine wm_aload_n X 0 dX1_back_0 rfl ?_
  refine wm_gI X hS cd_1 3 h dX1_back_1 (Nat.le_of_ble_eq_true rfl) rfl q440 (fun x21 h => ?_)
  refine wm_if_ne X 9 h dX1_back_4 (by decide) (fun c32 h => ?_) (fun c32 h => ?_)
  · refine wm_aload_n X 0 dX1_back_9 rfl ?_
    refine wm_gR X hS cd_1 0 h dX1_back_10 (Nat.le_of_ble_eq_true rfl) rfl q434 (fun x22 h => ?_)
    refine wm_aload_n X 0 dX1_back_13 rfl ?_
    refine wm_gR X hS cd_1 2 h dX1_back_14 (Nat.le_of_ble_eq_true rfl) rfl q439 (fun x23 h => ?_)
    obtain ⟨q24, eq24, h⟩ := Option.bind_eq_some_iff.mp h
    obtain ⟨eq24, s25⟩ := rv_some eq24
    refine wm_cV_r (As := [va_rf x23]) (st := []) X hS cd_2 s25 rfl h (fun _ _ hF => ctX2_likens l hF) mdX2_likens mvX2_likens q673 dX1_back_17 rfl (by rw [eq24]; first | done | rfl) c1_0 (Nat.le_of_ble_eq_true rfl) ⟨Nat.le_of_ble_eq_true rfl, Nat.le_of_ble_eq_true rfl⟩ ⟨Nat.le_of_ble_eq_true rfl, Nat.le_of_ble_eq_true rfl⟩ (fun x26 σ27 _ h => ?_)
    refine wm_pop X dX1_back_20 (catR _) ?_
    refine wm_aload_n X 0 dX1_back_21 rfl ?_
    refine wm_gR X hS cd_1 6 h dX1_back_22 (Nat.le_of_ble_eq_true rfl) rfl q444 (fun x28 h => ?_)
    obtain ⟨q29, eq29, h⟩ := Option.bind_eq_some_iff.mp h
    obtain ⟨eq29, s30⟩ := rv_some eq29
    refine wm_cV_v (As := []) (st := []) X hS cd_17 s30 rfl h (fun _ hF => ctJ3_clear l hF) mdJ3_clear mvJ3_clear q689 dX1_back_25 rfl (by rw [eq29]; first | done | rfl) c1_0 (Nat.le_of_ble_eq_true rfl) ⟨Nat.le_of_ble_eq_true rfl, Nat.le_of_ble_eq_true rfl⟩ ⟨Nat.le_of_ble_eq_true rfl, Nat.le_of_ble_eq_true rfl⟩ (fun σ31 _ h => ?_)
    refine wm_iconst (v := 1) X dX1_back_28 (by decide) ?_
    exact wm_zret X hr h dX1_back_29 (Nat.le_of_ble_eq_true rfl) (Nat.le_of_ble_eq_true rfl)
  · refine wm_iconst (v := 0) X dX1_back_7 (by decide) ?_
    exact wm_zret X hr h dX1_back_8 (Nat.le_of_ble_eq_true rfl) (Nat.le_of_ble_eq_true rfl)
theorem mdX2_hung : MD yX2_hung 0 := by unfold MD; decide +kernel
theorem mvX2_hung : MV yX2_hung cX2_hung 3 ((some FieldType.int)) := ⟨q698, q699, q129, q700⟩
set_option maxHeartbeats 4000000 in
theorem wX2_hung_4 {p : Program} {l : Launch} {e : Env} {s : State} {m : MethodId} {args : Array Value} {below : List Frame} {meth : Method} {c : Code} {D : va_G} {dA : Nat → ClassId} {sz0 : Nat} {ad0 : Nat → Nat} {N0 : Nat} {r : Int32} {σf : Mm} (X : CX p s m args meth c cX2_hung 3 RX2) (hS : ST D dA sz0 ad0 s) (hr : meth.sig.returnType = (some FieldType.int)) (hnm : meth.name = yX2_hung.name) (h0 : Nat) : ∀ (n : Nat) (v1 : Int32) (v2 : Int32) (σ : Mm) (kx36 : Int32 → Mm → Option (Int32 × Mm)), FX2_hung_4 h0 n v1 v2 σ kx36 = some (r, σf) → (∀ (w1 : Int32) (σ : Mm), kx36 w1 σ = some (r, σf) → WMi p l e s m args below meth c 0 0 0 0 3 D dA sz0 ad0 N0 r σf 0 0 σ [(1, .int w1)] [] 36) → WMi p l e s m args below meth c 0 0 0 0 3 D dA sz0 ad0 N0 r σf 0 0 σ [(0, va_rf (some h0)), (1, .int v1), (2, .int v2)] [] 4 := by
  intro n
  induction n with
  | zero =>
    intro v1 v2 σ kx36 h hkx36
    cases h
  | succ n ih =>
    intro v1 v2 σ kx36 h hkx36
    rw [FX2_hung_4] at h
    refine wm_iload_n X 2 dX2_hung_4 rfl ?_
    refine wm_aload_n X 0 dX2_hung_5 rfl ?_
    refine wm_gI X hS cd_2 2 h dX2_hung_6 (Nat.le_of_ble_eq_true rfl) rfl q196 (fun x21 h => ?_)
    refine wm_icmp_ge X 36 h dX2_hung_9 (by decide) (fun c26 h => ?_) (fun c26 h => ?_)
    · refine wm_sub (ℓ' := [(1, .int v1)]) [1] rfl ?_
      exact hkx36 _ _ h
    · refine wm_iload_n X 1 dX2_hung_12 rfl ?_
      refine wm_aload_n X 0 dX2_hung_13 rfl ?_
      refine wm_gR X hS cd_2 17 h dX2_hung_14 (Nat.le_of_ble_eq_true rfl) rfl q229 (fun x22 h => ?_)
      refine wm_iload_n X 2 dX2_hung_17 rfl ?_
      refine wm_iaload X hS h dX2_hung_18 (fun x23 h => ?_)
      refine wm_iconst (v := (-1)) X dX2_hung_19 (by decide) ?_
      obtain ⟨J28, eJ28, h⟩ := jn_e h
      have hJ28 : ∀ (z24 : Int32) (σ : Mm), J28 z24 σ = some (r, σf) → WMi p l e s m args below meth c 0 0 0 0 3 D dA sz0 ad0 N0 r σf 0 0 σ [(0, va_rf (some h0)), (2, .int v2)] [.int z24, .int v1] 28 := by
        intro z24 σ h
        rw [eJ28] at h
        refine wm_iadd X dX2_hung_28 ?_
        refine wm_istore_n (ℓ' := [(1, .int (v1 + z24)), (0, va_rf (some h0)), (2, .int v2)]) X dX2_hung_29 (by decide) rfl ?_
        refine wm_iinc (v := (v2 + 1)) (ℓ' := [(2, .int (v2 + 1)), (1, .int (v1 + z24)), (0, va_rf (some h0))]) X 2 dX2_hung_30 rfl rfl (by decide) rfl ?_
        refine wm_goto X 4 dX2_hung_33 (by decide) ?_
        refine wm_sub (ℓ' := [(0, va_rf (some h0)), (1, .int (v1 + z24)), (2, .int (v2 + 1))]) [2, 1, 0] rfl ?_
        exact ih _ _ _ _ h hkx36
      clear eJ28
      refine wm_icmp_eq X 27 h dX2_hung_20 (by decide) (fun c25 h => ?_) (fun c25 h => ?_)
      · refine wm_iconst (v := 0) X dX2_hung_27 (by decide) ?_
        refine wm_sub (ℓ' := [(0, va_rf (some h0)), (2, .int v2)]) [0, 2] rfl ?_
        exact hJ28 _ _ h
      · refine wm_iconst (v := 1) X dX2_hung_23 (by decide) ?_
        refine wm_goto X 28 dX2_hung_24 (by decide) ?_
        refine wm_sub (ℓ' := [(0, va_rf (some h0)), (2, .int v2)]) [0, 2] rfl ?_
        exact hJ28 _ _ h
set_option maxHeartbeats 4000000 in
theorem ctX2_hung (l : Launch) {h0 : Nat} {σ σf : Mm} {r : Int32} (h : FX2_hung h0 σ = some (r, σf)) : CTi l yX2_hung (ws_ yX2_hung cX2_hung 3 ((some FieldType.int))) 0 0 0 0 [va_rf (some h0)] σ r σf := by
  refine ct_start (n := 0) mdX2_hung (Nat.le_of_ble_eq_true rfl) (c1_r c1_0) (fun p e s m args below meth c D dA sz0 ad0 X hS hr hnm => ?_)
  have X : CX p s m args meth c cX2_hung 3 RX2 := X
  generalize mN σ = N0
  unfold FX2_hung at h
  refine wm_iconst (v := 0) X dX2_hung_0 (by decide) ?_
  refine wm_istore_n (ℓ' := [(1, .int 0), (0, va_rf (some h0))]) X dX2_hung_1 (by decide) rfl ?_
  refine wm_iconst (v := 0) X dX2_hung_2 (by decide) ?_
  refine wm_istore_n (ℓ' := [(2, .int 0), (1, .int 0), (0, va_rf (some h0))]) X dX2_hung_3 (by decide) rfl ?_
  refine wm_sub (ℓ' := [(0, va_rf (some h0)), (1, .int 0), (2, .int 0)]) [2, 1, 0] rfl ?_
  refine wX2_hung_4 X hS hr hnm _ fu _ _ _ _ h (fun x27 σ h => ?_)
  · refine wm_iload_n X 0 dX2_hung_36 rfl ?_
    exact wm_iret X hr h dX2_hung_37 (Nat.le_of_ble_eq_true rfl) (Nat.le_of_ble_eq_true rfl)
theorem mdX1_allMarks : MD yX1_allMarks 0 := by unfold MD; decide +kernel
theorem mvX1_allMarks : MV yX1_allMarks cX1_allMarks 3 ((some FieldType.int)) := ⟨q704, qs11, q128, q705⟩
set_option maxHeartbeats 4000000 in
theorem wX1_allMarks_4 {p : Program} {l : Launch} {e : Env} {s : State} {m : MethodId} {args : Array Value} {below : List Frame} {meth : Method} {c : Code} {D : va_G} {dA : Nat → ClassId} {sz0 : Nat} {ad0 : Nat → Nat} {N0 : Nat} {r : Int32} {σf : Mm} (X : CX p s m args meth c cX1_allMarks 3 RX1) (hS : ST D dA sz0 ad0 s) (hr : meth.sig.returnType = (some FieldType.int)) (hnm : meth.name = yX1_allMarks.name) (h0 : Nat) : ∀ (n : Nat) (v1 : Int32) (v2 : Int32) (σ : Mm) (kx36 : Int32 → Mm → Option (Int32 × Mm)), FX1_allMarks_4 h0 n v1 v2 σ kx36 = some (r, σf) → (∀ (w1 : Int32) (σ : Mm), kx36 w1 σ = some (r, σf) → WMi p l e s m args below meth c 1 20 0 0 3 D dA sz0 ad0 N0 r σf 0 0 σ [(1, .int w1)] [] 36) → WMi p l e s m args below meth c 1 20 0 0 3 D dA sz0 ad0 N0 r σf 0 0 σ [(0, va_rf (some h0)), (1, .int v1), (2, .int v2)] [] 4 := by
  intro n
  induction n with
  | zero =>
    intro v1 v2 σ kx36 h hkx36
    cases h
  | succ n ih =>
    intro v1 v2 σ kx36 h hkx36
    rw [FX1_allMarks_4] at h
    refine wm_iload_n X 2 dX1_allMarks_4 rfl ?_
    refine wm_aload_n X 0 dX1_allMarks_5 rfl ?_
    refine wm_gR X hS cd_1 0 h dX1_allMarks_6 (Nat.le_of_ble_eq_true rfl) rfl q434 (fun x21 h => ?_)
    refine wm_gIN X hS cd_2 1 h dX1_allMarks_9 (Nat.le_of_ble_eq_true rfl) rfl 1 rfl (fun x22 h => ?_)
    refine wm_icmp_ge X 36 h dX1_allMarks_12 (by decide) (fun c28 h => ?_) (fun c28 h => ?_)
    · refine wm_sub (ℓ' := [(1, .int v1)]) [1] rfl ?_
      exact hkx36 _ _ h
    · refine wm_iload_n X 1 dX1_allMarks_15 rfl ?_
      refine wm_aload_n X 0 dX1_allMarks_16 rfl ?_
      refine wm_gR X hS cd_1 0 h dX1_allMarks_17 (Nat.le_of_ble_eq_true rfl) rfl q434 (fun x23 h => ?_)
      refine wm_gRN X hS cd_2 8 h dX1_allMarks_20 (Nat.le_of_ble_eq_true rfl) rfl 8 rfl (fun x24 h => ?_)
      refine wm_iload_n X 2 dX1_allMarks_23 rfl ?_
      refine wm_iaload X hS h dX1_allMarks_24 (fun x25 h => ?_)
      refine wm_cS_i (As := [.int x25]) (st := [.int v1]) X hS h (fun _ _ hF => ctJ16_bitCount l hF) mdJ16_bitCount msJ16_bitCount q538 dX1_allMarks_25 rfl rfl (c1_i c1_0) (Nat.le_of_ble_eq_true rfl) ⟨Nat.le_of_ble_eq_true rfl, Nat.le_of_ble_eq_true rfl⟩ ⟨Nat.le_of_ble_eq_true rfl, Nat.le_of_ble_eq_true rfl⟩ (fun x26 σ27 _ h => ?_)
      refine wm_iadd X dX1_allMarks_28 ?_
      refine wm_istore_n (ℓ' := [(1, .int (v1 + x26)), (0, va_rf (some h0)), (2, .int v2)]) X dX1_allMarks_29 (by decide) rfl ?_
      refine wm_iinc (v := (v2 + 1)) (ℓ' := [(2, .int (v2 + 1)), (1, .int (v1 + x26)), (0, va_rf (some h0))]) X 2 dX1_allMarks_30 rfl rfl (by decide) rfl ?_
      refine wm_goto X 4 dX1_allMarks_33 (by decide) ?_
      refine wm_sub (ℓ' := [(0, va_rf (some h0)), (1, .int (v1 + x26)), (2, .int (v2 + 1))]) [2, 1, 0] rfl ?_
      exact ih _ _ _ _ h hkx36
set_option maxHeartbeats 4000000 in
theorem ctX1_allMarks (l : Launch) {h0 : Nat} {σ σf : Mm} {r : Int32} (h : FX1_allMarks h0 σ = some (r, σf)) : CTi l yX1_allMarks (ws_ yX1_allMarks cX1_allMarks 3 ((some FieldType.int))) 1 20 0 0 [va_rf (some h0)] σ r σf := by
  refine ct_start (n := 0) mdX1_allMarks (Nat.le_of_ble_eq_true rfl) (c1_r c1_0) (fun p e s m args below meth c D dA sz0 ad0 X hS hr hnm => ?_)
  have X : CX p s m args meth c cX1_allMarks 3 RX1 := X
  generalize mN σ = N0
  unfold FX1_allMarks at h
  refine wm_iconst (v := 0) X dX1_allMarks_0 (by decide) ?_
  refine wm_istore_n (ℓ' := [(1, .int 0), (0, va_rf (some h0))]) X dX1_allMarks_1 (by decide) rfl ?_
  refine wm_iconst (v := 0) X dX1_allMarks_2 (by decide) ?_
  refine wm_istore_n (ℓ' := [(2, .int 0), (1, .int 0), (0, va_rf (some h0))]) X dX1_allMarks_3 (by decide) rfl ?_
  refine wm_sub (ℓ' := [(0, va_rf (some h0)), (1, .int 0), (2, .int 0)]) [2, 1, 0] rfl ?_
  refine wX1_allMarks_4 X hS hr hnm _ fu _ _ _ _ h (fun x29 σ h => ?_)
  · refine wm_iload_n X 0 dX1_allMarks_36 rfl ?_
    exact wm_iret X hr h dX1_allMarks_37 (Nat.le_of_ble_eq_true rfl) (Nat.le_of_ble_eq_true rfl)
theorem mdX1_count : MD yX1_count 1 := by unfold MD; decide +kernel
theorem mvX1_count : MV yX1_count cX1_count 3 ((some FieldType.int)) := ⟨q694, q695, q128, q696⟩
set_option maxHeartbeats 4000000 in
theorem ctX1_count (l : Launch) {h0 : Nat} {x1 : Int32} {σ σf : Mm} {r : Int32} (h : FX1_count h0 x1 σ = some (r, σf)) : CTi l yX1_count (ws_ yX1_count cX1_count 3 ((some FieldType.int))) 2 42 0 0 [va_rf (some h0), .int x1] σ r σf := by
  refine ct_start (n := 1) mdX1_count (Nat.le_of_ble_eq_true rfl) (c1_r (c1_i c1_0)) (fun p e s m args below meth c D dA sz0 ad0 X hS hr hnm => ?_)
  have X : CX p s m args meth c cX1_count 3 RX1 := X
  generalize mN σ = N0
  unfold FX1_count at h
  refine wm_aload_n X 0 dX1_count_0 rfl ?_
  refine wm_gR X hS cd_1 0 h dX1_count_1 (Nat.le_of_ble_eq_true rfl) rfl q434 (fun x21 h => ?_)
  refine wm_astore_n (ℓ' := [(2, va_rf x21), (0, va_rf (some h0)), (1, .int x1)]) X dX1_count_4 (by decide) rfl ?_
  refine wm_iload_n X 2 dX1_count_5 rfl ?_
  refine ifx_e h (fun c22 h => ?_) (fun c22 h => ?_)
  · refine wm_tabIn (tgt := 68) X (0 : Int32) c22 dX1_count_6 (by decide) (by decide) rfl (by decide) ?_
    refine wm_aload_n X 0 dX1_count_68 rfl ?_
    refine wm_gIN X hS cd_2 1 h dX1_count_69 (Nat.le_of_ble_eq_true rfl) rfl 1 rfl (fun x23 h => ?_)
    exact wm_iret X hr h dX1_count_72 (Nat.le_of_ble_eq_true rfl) (Nat.le_of_ble_eq_true rfl)
  · refine ifx_e h (fun c24 h => ?_) (fun c24 h => ?_)
    · refine wm_tabIn (tgt := 73) X (1 : Int32) c24 dX1_count_6 (by decide) (by decide) rfl (by decide) ?_
      refine wm_aload_n X 0 dX1_count_73 rfl ?_
      refine wm_gIN X hS cd_2 2 h dX1_count_74 (Nat.le_of_ble_eq_true rfl) rfl 2 rfl (fun x25 h => ?_)
      exact wm_iret X hr h dX1_count_77 (Nat.le_of_ble_eq_true rfl) (Nat.le_of_ble_eq_true rfl)
    · refine ifx_e h (fun c26 h => ?_) (fun c26 h => ?_)
      · refine wm_tabIn (tgt := 78) X (2 : Int32) c26 dX1_count_6 (by decide) (by decide) rfl (by decide) ?_
        refine wm_aload_n X 0 dX1_count_78 rfl ?_
        obtain ⟨q27, eq27, h⟩ := Option.bind_eq_some_iff.mp h
        obtain ⟨eq27, s28⟩ := rv_some eq27
        refine wm_cV_i (As := []) (st := []) X hS cd_2 s28 rfl h (fun _ _ hF => ctX2_hung l hF) mdX2_hung mvX2_hung q697 dX1_count_79 rfl (by rw [eq27]; first | done | rfl) c1_0 (Nat.le_of_ble_eq_true rfl) ⟨Nat.le_of_ble_eq_true rfl, Nat.le_of_ble_eq_true rfl⟩ ⟨Nat.le_of_ble_eq_true rfl, Nat.le_of_ble_eq_true rfl⟩ (fun x29 σ30 _ h => ?_)
        exact wm_iret X hr h dX1_count_82 (Nat.le_of_ble_eq_true rfl) (Nat.le_of_ble_eq_true rfl)
      · refine ifx_e h (fun c31 h => ?_) (fun c31 h => ?_)
        · refine wm_tabIn (tgt := 83) X (3 : Int32) c31 dX1_count_6 (by decide) (by decide) rfl (by decide) ?_
          refine wm_aload_n X 0 dX1_count_83 rfl ?_
          refine wm_gIN X hS cd_2 0 h dX1_count_84 (Nat.le_of_ble_eq_true rfl) rfl 0 rfl (fun x32 h => ?_)
          exact wm_iret X hr h dX1_count_87 (Nat.le_of_ble_eq_true rfl) (Nat.le_of_ble_eq_true rfl)
        · refine ifx_e h (fun c33 h => ?_) (fun c33 h => ?_)
          · refine wm_tabIn (tgt := 88) X (4 : Int32) c33 dX1_count_6 (by decide) (by decide) rfl (by decide) ?_
            refine wm_aload_n X 0 dX1_count_88 rfl ?_
            refine wm_gRN X hS cd_2 19 h dX1_count_89 (Nat.le_of_ble_eq_true rfl) rfl 19 rfl (fun x34 h => ?_)
            refine wm_ifnonnull X 99 h dX1_count_92 (by decide) (fun e36 h => ?_) (fun q35 e36 h => ?_)
            · refine wm_iconst (v := (-1)) X dX1_count_95 (by decide) ?_
              refine wm_goto X 109 dX1_count_96 (by decide) ?_
              exact wm_iret X hr h dX1_count_109 (Nat.le_of_ble_eq_true rfl) (Nat.le_of_ble_eq_true rfl)
            · refine wm_aload_n X 0 dX1_count_99 rfl ?_
              refine wm_gRN X hS cd_2 19 h dX1_count_100 (Nat.le_of_ble_eq_true rfl) rfl 19 rfl (fun x37 h => ?_)
              refine wm_gRN X hS cd_10 0 h dX1_count_103 (Nat.le_of_ble_eq_true rfl) rfl 42 rfl (fun x38 h => ?_)
              obtain ⟨q39, eq39, h⟩ := Option.bind_eq_some_iff.mp h
              obtain ⟨eq39, s40⟩ := rv_some eq39
              refine wm_cV_i (As := []) (st := []) X hS cd_17 s40 rfl h (fun _ _ hF => ctJ3_size l hF) mdJ3_size mvJ3_size q652 dX1_count_106 rfl (by rw [eq39]; first | done | rfl) c1_0 (Nat.le_of_ble_eq_true rfl) ⟨Nat.le_of_ble_eq_true rfl, Nat.le_of_ble_eq_true rfl⟩ ⟨Nat.le_of_ble_eq_true rfl, Nat.le_of_ble_eq_true rfl⟩ (fun x41 σ42 _ h => ?_)
              exact wm_iret X hr h dX1_count_109 (Nat.le_of_ble_eq_true rfl) (Nat.le_of_ble_eq_true rfl)
          · refine ifx_e h (fun c43 h => ?_) (fun c43 h => ?_)
            · refine wm_tabIn (tgt := 110) X (5 : Int32) c43 dX1_count_6 (by decide) (by decide) rfl (by decide) ?_
              refine wm_aload_n X 0 dX1_count_110 rfl ?_
              refine wm_gIN X hS cd_2 3 h dX1_count_111 (Nat.le_of_ble_eq_true rfl) rfl 3 rfl (fun x44 h => ?_)
              exact wm_iret X hr h dX1_count_114 (Nat.le_of_ble_eq_true rfl) (Nat.le_of_ble_eq_true rfl)
            · refine ifx_e h (fun c45 h => ?_) (fun c45 h => ?_)
              · refine wm_tabIn (tgt := 115) X (6 : Int32) c45 dX1_count_6 (by decide) (by decide) rfl (by decide) ?_
                refine wm_aload_n X 0 dX1_count_115 rfl ?_
                refine wm_gIN X hS cd_2 4 h dX1_count_116 (Nat.le_of_ble_eq_true rfl) rfl 4 rfl (fun x46 h => ?_)
                exact wm_iret X hr h dX1_count_119 (Nat.le_of_ble_eq_true rfl) (Nat.le_of_ble_eq_true rfl)
              · refine ifx_e h (fun c47 h => ?_) (fun c47 h => ?_)
                · refine wm_tabIn (tgt := 120) X (7 : Int32) c47 dX1_count_6 (by decide) (by decide) rfl (by decide) ?_
                  refine wm_aload_n X 0 dX1_count_120 rfl ?_
                  refine wm_gIN X hS cd_2 5 h dX1_count_121 (Nat.le_of_ble_eq_true rfl) rfl 5 rfl (fun x48 h => ?_)
                  exact wm_iret X hr h dX1_count_124 (Nat.le_of_ble_eq_true rfl) (Nat.le_of_ble_eq_true rfl)
                · refine ifx_e h (fun c49 h => ?_) (fun c49 h => ?_)
                  · refine wm_tabIn (tgt := 125) X (8 : Int32) c49 dX1_count_6 (by decide) (by decide) rfl (by decide) ?_
                    refine wm_aload_n X 0 dX1_count_125 rfl ?_
                    obtain ⟨q50, eq50, h⟩ := Option.bind_eq_some_iff.mp h
                    obtain ⟨eq50, s51⟩ := rv_some eq50
                    refine wm_cV_i (As := []) (st := []) X hS cd_2 s51 rfl h (fun _ _ hF => ctX2_withTickets l hF) mdX2_withTickets mvX2_withTickets q701 dX1_count_126 rfl (by rw [eq50]; first | done | rfl) c1_0 (Nat.le_of_ble_eq_true rfl) ⟨Nat.le_of_ble_eq_true rfl, Nat.le_of_ble_eq_true rfl⟩ ⟨Nat.le_of_ble_eq_true rfl, Nat.le_of_ble_eq_true rfl⟩ (fun x52 σ53 _ h => ?_)
                    exact wm_iret X hr h dX1_count_129 (Nat.le_of_ble_eq_true rfl) (Nat.le_of_ble_eq_true rfl)
                  · refine ifx_e h (fun c54 h => ?_) (fun c54 h => ?_)
                    · refine wm_tabIn (tgt := 130) X (9 : Int32) c54 dX1_count_6 (by decide) (by decide) rfl (by decide) ?_
                      refine wm_aload_n X 1 dX1_count_130 rfl ?_
                      obtain ⟨s55, h⟩ := ck_e h
                      refine wm_cV_i (As := []) (st := []) X hS cd_1 s55 rfl h (fun _ _ hF => ctX1_allMarks l hF) mdX1_allMarks mvX1_allMarks q702 dX1_count_131 rfl rfl c1_0 (Nat.le_of_ble_eq_true rfl) ⟨Nat.le_of_ble_eq_true rfl, Nat.le_of_ble_eq_true rfl⟩ ⟨Nat.le_of_ble_eq_true rfl, Nat.le_of_ble_eq_true rfl⟩ (fun x56 σ57 _ h => ?_)
                      exact wm_iret X hr h dX1_count_134 (Nat.le_of_ble_eq_true rfl) (Nat.le_of_ble_eq_true rfl)
                    · refine ifx_e h (fun c58 h => ?_) (fun c58 h => ?_)
                      · refine wm_tabIn (tgt := 135) X (10 : Int32) c58 dX1_count_6 (by decide) (by decide) rfl (by decide) ?_
                        refine wm_aload_n X 0 dX1_count_135 rfl ?_
                        refine wm_gIN X hS cd_2 6 h dX1_count_136 (Nat.le_of_ble_eq_true rfl) rfl 6 rfl (fun x59 h => ?_)
                        exact wm_iret X hr h dX1_count_139 (Nat.le_of_ble_eq_true rfl) (Nat.le_of_ble_eq_true rfl)
                      · refine ifx_e h (fun c60 h => ?_) (fun c60 h => ?_)
                        · refine wm_tabIn (tgt := 140) X (11 : Int32) c60 dX1_count_6 (by decide) (by decide) rfl (by decide) ?_
                          refine wm_aload_n X 1 dX1_count_140 rfl ?_
                          refine wm_gR X hS cd_1 6 h dX1_count_141 (Nat.le_of_ble_eq_true rfl) rfl q444 (fun x61 h => ?_)
                          obtain ⟨q62, eq62, h⟩ := Option.bind_eq_some_iff.mp h
                          obtain ⟨eq62, s63⟩ := rv_some eq62
                          refine wm_cV_i (As := []) (st := []) X hS cd_17 s63 rfl h (fun _ _ hF => ctJ3_size l hF) mdJ3_size mvJ3_size q652 dX1_count_144 rfl (by rw [eq62]; first | done | rfl) c1_0 (Nat.le_of_ble_eq_true rfl) ⟨Nat.le_of_ble_eq_true rfl, Nat.le_of_ble_eq_true rfl⟩ ⟨Nat.le_of_ble_eq_true rfl, Nat.le_of_ble_eq_true rfl⟩ (fun x64 σ65 _ h => ?_)
                          exact wm_iret X hr h dX1_count_147 (Nat.le_of_ble_eq_true rfl) (Nat.le_of_ble_eq_true rfl)
                        · refine wm_tabOut (tgt := 148) X dX1_count_6 (by have t0 := lv_neT c22 (by decide : (0 : Int32).toInt = 0); have t1 := lv_neT c24 (by decide : (1 : Int32).toInt = 1); have t2 := lv_neT c26 (by decide : (2 : Int32).toInt = 2); have t3 := lv_neT c31 (by decide : (3 : Int32).toInt = 3); have t4 := lv_neT c33 (by decide : (4 : Int32).toInt = 4); have t5 := lv_neT c43 (by decide : (5 : Int32).toInt = 5); have t6 := lv_neT c45 (by decide : (6 : Int32).toInt = 6); have t7 := lv_neT c47 (by decide : (7 : Int32).toInt = 7); have t8 := lv_neT c49 (by decide : (8 : Int32).toInt = 8); have t9 := lv_neT c54 (by decide : (9 : Int32).toInt = 9); have t10 := lv_neT c58 (by decide : (10 : Int32).toInt = 10); have t11 := lv_neT c60 (by decide : (11 : Int32).toInt = 11); omega) (by decide) ?_
                          refine wm_iconst (v := (-1)) X dX1_count_148 (by decide) ?_
                          exact wm_iret X hr h dX1_count_149 (Nat.le_of_ble_eq_true rfl) (Nat.le_of_ble_eq_true rfl)
theorem mdX3_begins : MD yX3_begins 0 := by unfold MD; decide +kernel
theorem mvX3_begins : MV yX3_begins cX3_begins 1 (none) := ⟨q717, q718, q131, q719⟩
set_option maxHeartbeats 4000000 in
theorem ctX3_begins (l : Launch) {h0 : Nat} {σ σf : Mm} (h : FX3_begins h0 σ = some σf) : CTv l yX3_begins (ws_ yX3_begins cX3_begins 1 (none)) 0 0 0 0 [va_rf (some h0)] σ σf := by
  refine ct_start (n := 0) mdX3_begins (Nat.le_of_ble_eq_true rfl) (c1_r c1_0) (fun p e s m args below meth c D dA sz0 ad0 X hS hr hnm => ?_)
  have X : CX p s m args meth c cX3_begins 1 RX3 := X
  generalize mN σ = N0
  unfold FX3_begins at h
  refine wm_aload_n X 0 dX3_begins_0 rfl ?_
  refine wm_aload_n X 0 dX3_begins_1 rfl ?_
  refine wm_gI X hS cd_3 1 h dX3_begins_2 (Nat.le_of_ble_eq_true rfl) rfl q286 (fun x21 h => ?_)
  refine wm_pI X hS cd_3 2 h dX3_begins_5 (Nat.le_of_ble_eq_true rfl) rfl q288 rfl rfl (fun σ22 _ h => ?_)
  refine wm_aload_n X 0 dX3_begins_8 rfl ?_
  refine wm_iconst (v := 0) X dX3_begins_9 (by decide) ?_
  refine wm_pI X hS cd_3 1 h dX3_begins_10 (Nat.le_of_ble_eq_true rfl) rfl q286 rfl rfl (fun σ23 _ h => ?_)
  refine wm_aload_n X 0 dX3_begins_13 rfl ?_
  refine wm_iconst (v := 0) X dX3_begins_14 (by decide) ?_
  refine wm_pI X hS cd_3 3 h dX3_begins_15 (Nat.le_of_ble_eq_true rfl) rfl q290 rfl rfl (fun σ24 _ h => ?_)
  refine wm_aload_n X 0 dX3_begins_18 rfl ?_
  refine wm_iconst (v := 0) X dX3_begins_19 (by decide) ?_
  refine wm_pI X hS cd_3 6 h dX3_begins_20 (Nat.le_of_ble_eq_true rfl) rfl q296 rfl rfl (fun σ25 _ h => ?_)
  exact wm_vret X hr h dX3_begins_23 (Nat.le_of_ble_eq_true rfl) (Nat.le_of_ble_eq_true rfl)
theorem mdX3_byteAt : MD yX3_byteAt 1 := by unfold MD; decide +kernel
theorem mvX3_byteAt : MV yX3_byteAt cX3_byteAt 2 ((some FieldType.int)) := ⟨q734, qs13, q131, q735⟩
set_option maxHeartbeats 4000000 in
theorem ctX3_byteAt (l : Launch) {h0 : Nat} {x1 : Int32} {σ σf : Mm} {r : Int32} (h : FX3_byteAt h0 x1 σ = some (r, σf)) : CTi l yX3_byteAt (ws_ yX3_byteAt cX3_byteAt 2 ((some FieldType.int))) 0 0 0 0 [va_rf (some h0), .int x1] σ r σf := by
  refine ct_start (n := 1) mdX3_byteAt (Nat.le_of_ble_eq_true rfl) (c1_r (c1_i c1_0)) (fun p e s m args below meth c D dA sz0 ad0 X hS hr hnm => ?_)
  have X : CX p s m args meth c cX3_byteAt 2 RX3 := X
  generalize mN σ = N0
  unfold FX3_byteAt at h
  refine wm_iload_n X 1 dX3_byteAt_0 rfl ?_
  refine wm_aload_n X 0 dX3_byteAt_1 rfl ?_
  refine wm_gI X hS cd_3 2 h dX3_byteAt_2 (Nat.le_of_ble_eq_true rfl) rfl q288 (fun x21 h => ?_)
  refine wm_icmp_ge X 17 h dX3_byteAt_5 (by decide) (fun c24 h => ?_) (fun c24 h => ?_)
  · refine wm_iconst (v := (-1)) X dX3_byteAt_17 (by decide) ?_
    exact wm_iret X hr h dX3_byteAt_18 (Nat.le_of_ble_eq_true rfl) (Nat.le_of_ble_eq_true rfl)
  · refine wm_aload_n X 0 dX3_byteAt_8 rfl ?_
    refine wm_gR X hS cd_3 0 h dX3_byteAt_9 (Nat.le_of_ble_eq_true rfl) rfl q283 (fun x22 h => ?_)
    refine wm_iload_n X 1 dX3_byteAt_12 rfl ?_
    refine wm_baload X hS h dX3_byteAt_13 (fun x23 h => ?_)
    refine wm_goto X 18 dX3_byteAt_14 (by decide) ?_
    exact wm_iret X hr h dX3_byteAt_18 (Nat.le_of_ble_eq_true rfl) (Nat.le_of_ble_eq_true rfl)
theorem mdX3_blanks : MD yX3_blanks 0 := by unfold MD; decide +kernel
theorem mvX3_blanks : MV yX3_blanks cX3_blanks 1 (none) := ⟨q729, q730, q131, q731⟩
set_option maxHeartbeats 4000000 in
theorem wX3_blanks_0 {p : Program} {l : Launch} {e : Env} {s : State} {m : MethodId} {args : Array Value} {below : List Frame} {meth : Method} {c : Code} {D : va_G} {dA : Nat → ClassId} {sz0 : Nat} {ad0 : Nat → Nat} {N0 : Nat} {σf : Mm} (X : CX p s m args meth c cX3_blanks 1 RX3) (hS : ST D dA sz0 ad0 s) (hr : meth.sig.returnType = none) (hnm : meth.name = yX3_blanks.name) (h0 : Nat) : ∀ (n : Nat)  (σ : Mm) (kx26 : Mm → Option (Mm)), FX3_blanks_0 h0 n σ kx26 = some σf → (∀  (σ : Mm), kx26 σ = some σf → WMv p l e s m args below meth c 1 21 0 0 1 D dA sz0 ad0 N0 σf 0 0 σ [(0, va_rf (some h0))] [] 26) → WMv p l e s m args below meth c 1 21 0 0 1 D dA sz0 ad0 N0 σf 0 0 σ [(0, va_rf (some h0))] [] 0 := by
  intro n
  induction n with
  | zero =>
    intro σ kx26 h hkx26
    cases h
  | succ n ih =>
    intro σ kx26 h hkx26
    rw [FX3_blanks_0] at h
    refine wm_aload_n X 0 dX3_blanks_0 rfl ?_
    refine wm_aload_n X 0 dX3_blanks_1 rfl ?_
    refine wm_gI X hS cd_3 3 h dX3_blanks_2 (Nat.le_of_ble_eq_true rfl) rfl q290 (fun x21 h => ?_)
    obtain ⟨s22, h⟩ := ck_e h
    refine wm_cV_i (As := [.int x21]) (st := []) X hS cd_3 s22 rfl h (fun _ _ hF => ctX3_byteAt l hF) mdX3_byteAt mvX3_byteAt q732 dX3_blanks_5 rfl rfl c1_0 (Nat.le_of_ble_eq_true rfl) ⟨Nat.le_of_ble_eq_true rfl, Nat.le_of_ble_eq_true rfl⟩ ⟨Nat.le_of_ble_eq_true rfl, Nat.le_of_ble_eq_true rfl⟩ (fun x23 σ24 _ h => ?_)
    refine wm_bipush (v := 32) X dX3_blanks_8 (by decide) ?_
    refine wm_icmp_ne X 26 h dX3_blanks_10 (by decide) (fun c27 h => ?_) (fun c27 h => ?_)
    · exact hkx26 _ h
    · refine wm_aload_n X 0 dX3_blanks_13 rfl ?_
      refine wm_dup X dX3_blanks_14 (catR _) ?_
      refine wm_gI X hS cd_3 3 h dX3_blanks_15 (Nat.le_of_ble_eq_true rfl) rfl q290 (fun x25 h => ?_)
      refine wm_iconst (v := 1) X dX3_blanks_18 (by decide) ?_
      refine wm_iadd X dX3_blanks_19 ?_
      refine wm_pI X hS cd_3 3 h dX3_blanks_20 (Nat.le_of_ble_eq_true rfl) rfl q290 rfl rfl (fun σ26 _ h => ?_)
      refine wm_goto X 0 dX3_blanks_23 (by decide) ?_
      exact ih _ _ h hkx26
set_option maxHeartbeats 4000000 in
theorem ctX3_blanks (l : Launch) {h0 : Nat} {σ σf : Mm} (h : FX3_blanks h0 σ = some σf) : CTv l yX3_blanks (ws_ yX3_blanks cX3_blanks 1 (none)) 1 21 0 0 [va_rf (some h0)] σ σf := by
  refine ct_start (n := 0) mdX3_blanks (Nat.le_of_ble_eq_true rfl) (c1_r c1_0) (fun p e s m args below meth c D dA sz0 ad0 X hS hr hnm => ?_)
  have X : CX p s m args meth c cX3_blanks 1 RX3 := X
  generalize mN σ = N0
  unfold FX3_blanks at h
  refine wX3_blanks_0 X hS hr hnm _ fu _ _ h (fun σ h => ?_)
  · refine wm_aload_n X 0 dX3_blanks_26 rfl ?_
    refine wm_aload_n X 0 dX3_blanks_27 rfl ?_
    refine wm_gI X hS cd_3 3 h dX3_blanks_28 (Nat.le_of_ble_eq_true rfl) rfl q290 (fun x28 h => ?_)
    refine wm_pI X hS cd_3 4 h dX3_blanks_31 (Nat.le_of_ble_eq_true rfl) rfl q292 rfl rfl (fun σ29 _ h => ?_)
    exact wm_vret X hr h dX3_blanks_34 (Nat.le_of_ble_eq_true rfl) (Nat.le_of_ble_eq_true rfl)
theorem mdX3_isOver : MD yX3_isOver 0 := by unfold MD; decide +kernel
theorem mvX3_isOver : MV yX3_isOver cX3_isOver 1 ((some FieldType.boolean)) := ⟨q725, q726, q131, q727⟩
set_option maxHeartbeats 4000000 in
theorem ctX3_isOver (l : Launch) {h0 : Nat} {σ σf : Mm} {r : Int32} (h : FX3_isOver h0 σ = some (r, σf)) : CTi l yX3_isOver (ws_ yX3_isOver cX3_isOver 1 ((some FieldType.boolean))) 2 41 0 0 [va_rf (some h0)] σ r σf := by
  refine ct_start (n := 0) mdX3_isOver (Nat.le_of_ble_eq_true rfl) (c1_r c1_0) (fun p e s m args below meth c D dA sz0 ad0 X hS hr hnm => ?_)
  have X : CX p s m args meth c cX3_isOver 1 RX3 := X
  generalize mN σ = N0
  unfold FX3_isOver at h
  refine wm_aload_n X 0 dX3_isOver_0 rfl ?_
  obtain ⟨s21, h⟩ := ck_e h
  refine wm_cV_v (As := []) (st := []) X hS cd_3 s21 rfl h (fun _ hF => ctX3_blanks l hF) mdX3_blanks mvX3_blanks q728 dX3_isOver_1 rfl rfl c1_0 (Nat.le_of_ble_eq_true rfl) ⟨Nat.le_of_ble_eq_true rfl, Nat.le_of_ble_eq_true rfl⟩ ⟨Nat.le_of_ble_eq_true rfl, Nat.le_of_ble_eq_true rfl⟩ (fun σ22 _ h => ?_)
  refine wm_aload_n X 0 dX3_isOver_4 rfl ?_
  refine wm_gI X hS cd_3 3 h dX3_isOver_5 (Nat.le_of_ble_eq_true rfl) rfl q290 (fun x23 h => ?_)
  refine wm_aload_n X 0 dX3_isOver_8 rfl ?_
  refine wm_gI X hS cd_3 2 h dX3_isOver_9 (Nat.le_of_ble_eq_true rfl) rfl q288 (fun x24 h => ?_)
  refine wm_icmp_ne X 19 h dX3_isOver_12 (by decide) (fun c25 h => ?_) (fun c25 h => ?_)
  · refine wm_iconst (v := 0) X dX3_isOver_19 (by decide) ?_
    exact wm_zret X hr h dX3_isOver_20 (Nat.le_of_ble_eq_true rfl) (Nat.le_of_ble_eq_true rfl)
  · refine wm_iconst (v := 1) X dX3_isOver_15 (by decide) ?_
    refine wm_goto X 20 dX3_isOver_16 (by decide) ?_
    exact wm_zret X hr h dX3_isOver_20 (Nat.le_of_ble_eq_true rfl) (Nat.le_of_ble_eq_true rfl)
theorem mdJ4_init : MD yJ4_init 1 := by unfold MD; decide +kernel
theorem miJ4_init : MI yJ4_init cJ4_init 2 := ⟨q751, q141, q752, rfl⟩
set_option maxHeartbeats 4000000 in
theorem ctJ4_init (l : Launch) (hl : l.stackTraces = false) {h0 : Nat} {x1 : Int32} {σ : Mm} {xo : Mm ⊕ (Nat × Mm)} {mc ms : Nat} (h : FJ4_init h0 x1 σ = some (xo, mc, ms)) : CTXv l yJ4_init (ws_ yJ4_init cJ4_init 2 (none)) 1 25 mc ms [va_rf (some h0), .int x1] σ xo := by
  refine ctx_start (n := 1) mdJ4_init (Nat.le_of_ble_eq_true rfl) (c1_r (c1_i c1_0)) (fun p e s m args below meth c D dA sz0 ad0 X hS hr hnm hno => ?_)
  have X : CX p s m args meth c cJ4_init 2 RJ4 := X
  have hC : 0 + mc ≤ mc := Nat.le_of_eq (Nat.zero_add mc)
  have hZ : 0 + ms ≤ ms := Nat.le_of_eq (Nat.zero_add ms)
  generalize mN σ = N0
  unfold FJ4_init at h
  refine wm_aload_n X 0 dJ4_init_0 rfl ?_
  refine wm_objInit X dJ4_init_1 q753 q179 q180 (Nat.le_of_ble_eq_true rfl) c1_0 (Nat.le_of_ble_eq_true rfl) (Nat.le_of_ble_eq_true rfl) ?_
  refine wm_gstI X hS dJ4_init_4 q754 ?_
  refine wm_if_eq X 25 h dJ4_init_7 (by decide) (fun c25 h => ?_) (fun c25 h => ?_)
  · refine wm_aload_n X 0 dJ4_init_25 rfl ?_
    refine wm_iload_n X 1 dJ4_init_26 rfl ?_
    cases h
  · refine wm_aload_n X 0 dJ4_init_10 rfl ?_
    refine wm_iload_n X 1 dJ4_init_11 rfl ?_
    obtain ⟨C, Z, h, hC, hZ⟩ := pay_d h hC hZ
    refine wm_newarr (z := (x1.toNatClampNeg)) X hS 101 .byte (Or.inr ⟨rfl, rfl⟩) q312 h dJ4_init_12 (le_p hC) rfl (le_p hZ) (fun x21 σ22 _ h => ?_)
    refine wm_pR X hS cd_19 0 h dJ4_init_14 (Nat.le_of_ble_eq_true rfl) rfl q763 (fun r => by cases r <;> exact ⟨rfl, rfl⟩) rfl (fun σ23 _ h => ?_)
    refine wm_aload_n X 0 dJ4_init_17 rfl ?_
    refine wm_iconst (v := 0) X dJ4_init_18 (by decide) ?_
    refine wm_pB X hS cd_19 1 h dJ4_init_19 (Nat.le_of_ble_eq_true rfl) rfl q764 rfl rfl (fun σ24 _ h => ?_)
    refine wm_goto X 38 dJ4_init_22 (by decide) ?_
    exact wm_xvret X hr (rt_e h) dJ4_init_38 (le_p hC) (le_p hZ)
theorem mdJ5_init : MD yJ5_init 0 := by unfold MD; decide +kernel
theorem miJ5_init : MI yJ5_init cJ5_init 1 := ⟨q748, q142, q749, rfl⟩
set_option maxHeartbeats 4000000 in
theorem ctJ5_init (l : Launch) (hl : l.stackTraces = false) {h0 : Nat} {σ : Mm} {xo : Mm ⊕ (Nat × Mm)} {mc ms : Nat} (h : FJ5_init h0 σ = some (xo, mc, ms)) : CTXv l yJ5_init (ws_ yJ5_init cJ5_init 1 (none)) 2 46 mc ms [va_rf (some h0)] σ xo := by
  refine ctx_start (n := 0) mdJ5_init (Nat.le_of_ble_eq_true rfl) (c1_r c1_0) (fun p e s m args below meth c D dA sz0 ad0 X hS hr hnm hno => ?_)
  have X : CX p s m args meth c cJ5_init 1 RJ5 := X
  have hC : 0 + mc ≤ mc := Nat.le_of_eq (Nat.zero_add mc)
  have hZ : 0 + ms ≤ ms := Nat.le_of_eq (Nat.zero_add ms)
  generalize mN σ = N0
  unfold FJ5_init at h
  refine wm_aload_n X 0 dJ5_init_0 rfl ?_
  refine wm_bipush (v := 16) X dJ5_init_1 (by decide) ?_
  obtain ⟨s21, h⟩ := ck_e h
  refine wm_dI_v (As := [.int 16]) (st := []) X hS hno miJ4_init q750 h hC hZ (fun _ _ _ hF => ctJ4_init l hl hF) mdJ4_init dJ5_init_3 rfl rfl c1_0 (Nat.le_of_ble_eq_true rfl) ⟨Nat.le_of_ble_eq_true rfl, Nat.le_of_ble_eq_true rfl⟩ (Nat.le_refl _) (Nat.le_refl _) (fun σ22 c1 z1 C Z _ h hC hZ => ?_)
  exact wm_xvret X hr (rt_e h) dJ5_init_6 (le_p hC) (le_p hZ)
theorem mdJ8_newLength : MD yJ8_newLength 3 := by unfold MD; decide +kernel
theorem msJ8_newLength : MS yJ8_newLength cJ8_newLength 4 ((some FieldType.int)) := ⟨q792, q145, q793⟩
set_option maxHeartbeats 4000000 in
theorem ctJ8_newLength (l : Launch) {x0 : Int32} {x1 : Int32} {x2 : Int32} {σ σf : Mm} {r : Int32} (h : FJ8_newLength x0 x1 x2 σ = some (r, σf)) : CTi l yJ8_newLength (ws_ yJ8_newLength cJ8_newLength 4 ((some FieldType.int))) 1 25 0 0 [.int x0, .int x1, .int x2] σ r σf := by
  refine ct_start (n := 3) mdJ8_newLength (Nat.le_of_ble_eq_true rfl) (c1_i (c1_i (c1_i c1_0))) (fun p e s m args below meth c D dA sz0 ad0 X hS hr hnm => ?_)
  have X : CX p s m args meth c cJ8_newLength 4 RJ8 := X
  generalize mN σ = N0
  unfold FJ8_newLength at h
  refine wm_iload_n X 0 dJ8_newLength_0 rfl ?_
  refine wm_iload_n X 1 dJ8_newLength_1 rfl ?_
  refine wm_iload_n X 2 dJ8_newLength_2 rfl ?_
  refine wm_mmax X dJ8_newLength_3 q794 q795 q146 q796 (Nat.le_of_ble_eq_true rfl) (c1_i c1_0) (Nat.le_of_ble_eq_true rfl) (Nat.le_of_ble_eq_true rfl) (Nat.le_of_ble_eq_true rfl) (Nat.le_of_ble_eq_true rfl) ?_
  refine wm_iadd X dJ8_newLength_6 ?_
  refine wm_istore_n (ℓ' := [(3, .int (x0 + (imax x1 x2))), (0, .int x0), (1, .int x1), (2, .int x2)]) X dJ8_newLength_7 (by decide) rfl ?_
  refine wm_iconst (v := 0) X dJ8_newLength_8 (by decide) ?_
  refine wm_iload_n X 0 dJ8_newLength_9 rfl ?_
  obtain ⟨J21, eJ21, h⟩ := jn_e h
  have hJ21 : ∀  (σ : Mm), J21  σ = some (r, σf) → WMi p l e s m args below meth c 1 25 0 0 4 D dA sz0 ad0 N0 r σf 0 0 σ [(0, .int x0), (1, .int x1)] [] 21 := by
    intro  σ h
    rw [eJ21] at h
    refine wm_iload_n X 0 dJ8_newLength_21 rfl ?_
    refine wm_iload_n X 1 dJ8_newLength_22 rfl ?_
    cases h
  clear eJ21
  refine wm_icmp_ge X 21 h dJ8_newLength_10 (by decide) (fun c22 h => ?_) (fun c22 h => ?_)
  · refine wm_sub (ℓ' := [(0, .int x0), (1, .int x1)]) [1, 2] rfl ?_
    exact hJ21 _ h
  · refine wm_iload_n X 0 dJ8_newLength_13 rfl ?_
    refine wm_ldc X dJ8_newLength_14 q797 ?_
    refine wm_icmp_gt X 21 h dJ8_newLength_16 (by decide) (fun c21 h => ?_) (fun c21 h => ?_)
    · refine wm_sub (ℓ' := [(0, .int x0), (1, .int x1)]) [1, 2] rfl ?_
      exact hJ21 _ h
    · refine wm_iload_n X 0 dJ8_newLength_19 rfl ?_
      exact wm_iret X hr h dJ8_newLength_20 (Nat.le_of_ble_eq_true rfl) (Nat.le_of_ble_eq_true rfl)
theorem mdJ4_newCapacity : MD yJ4_newCapacity 1 := by unfold MD; decide +kernel
set_option maxHeartbeats 4000000 in
theorem ctJ4_newCapacity (l : Launch) {h0 : Nat} {x1 : Int32} {σ σf : Mm} {r : Int32} (h : FJ4_newCapacity h0 x1 σ = some (r, σf)) : CTi l yJ4_newCapacity (ws_ yJ4_newCapacity cJ4_newCapacity 6 ((some FieldType.int))) 2 48 0 0 [va_rf (some h0), .int x1] σ r σf := by
  refine ct_start (n := 1) mdJ4_newCapacity (Nat.le_of_ble_eq_true rfl) (c1_r (c1_i c1_0)) (fun p e s m args below meth c D dA sz0 ad0 X hS hr hnm => ?_)
  have X : CX p s m args meth c cJ4_newCapacity 6 RJ4 := X
  generalize mN σ = N0
  unfold FJ4_newCapacity at h
  refine wm_aload_n X 0 dJ4_newCapacity_0 rfl ?_
  refine wm_gR X hS cd_19 0 h dJ4_newCapacity_1 (Nat.le_of_ble_eq_true rfl) rfl q763 (fun x21 h => ?_)
  refine wm_alen X hS 101 (by decide) h dJ4_newCapacity_4 (fun x22 h => ?_)
  refine wm_istore_n (ℓ' := [(2, .int x22), (0, va_rf (some h0)), (1, .int x1)]) X dJ4_newCapacity_5 (by decide) rfl ?_
  refine wm_iload_n X 2 dJ4_newCapacity_6 rfl ?_
  refine wm_aload_n X 1 dJ4_newCapacity_7 rfl ?_
  refine wm_gI X hS cd_19 1 h dJ4_newCapacity_8 (Nat.le_of_ble_eq_true rfl) rfl q764 (fun x23 h => ?_)
  refine wm_ishl X dJ4_newCapacity_11 ?_
  refine wm_istore_n (ℓ' := [(3, .int (x1 <<< (x23 &&& 31))), (2, .int x22), (0, va_rf (some h0)), (1, .int x1)]) X dJ4_newCapacity_12 (by decide) rfl ?_
  refine wm_iload_n X 0 dJ4_newCapacity_13 rfl ?_
  refine wm_iload_n X 1 dJ4_newCapacity_14 rfl ?_
  refine wm_isub X dJ4_newCapacity_15 ?_
  refine wm_istore (ℓ' := [(4, .int ((x1 <<< (x23 &&& 31)) - x22)), (3, .int (x1 <<< (x23 &&& 31))), (2, .int x22), (0, va_rf (some h0)), (1, .int x1)]) X dJ4_newCapacity_16 (by decide) rfl ?_
  refine wm_iload_n X 2 dJ4_newCapacity_18 rfl ?_
  refine wm_iload X 0 dJ4_newCapacity_19 rfl ?_
  refine wm_iload_n X 2 dJ4_newCapacity_21 rfl ?_
  refine wm_iconst (v := 2) X dJ4_newCapacity_22 (by decide) ?_
  refine wm_aload_n X 3 dJ4_newCapacity_23 rfl ?_
  refine wm_gI X hS cd_19 1 h dJ4_newCapacity_24 (Nat.le_of_ble_eq_true rfl) rfl q764 (fun x24 h => ?_)
  refine wm_ishl X dJ4_newCapacity_27 ?_
  refine wm_iadd X dJ4_newCapacity_28 ?_
  refine wm_cS_i (As := [.int x22, .int ((x1 <<< (x23 &&& 31)) - x22), .int (x22 + (2 <<< (x24 &&& 31)))]) (st := []) X hS h (fun _ _ hF => ctJ8_newLength l hF) mdJ8_newLength msJ8_newLength q791 dJ4_newCapacity_29 rfl rfl c1_0 (Nat.le_of_ble_eq_true rfl) ⟨Nat.le_of_ble_eq_true rfl, Nat.le_of_ble_eq_true rfl⟩ ⟨Nat.le_of_ble_eq_true rfl, Nat.le_of_ble_eq_true rfl⟩ (fun x25 σ26 _ h => ?_)
  refine wm_istore (ℓ' := [(5, .int x25), (4, .int ((x1 <<< (x23 &&& 31)) - x22)), (3, .int (x1 <<< (x23 &&& 31))), (2, .int x22), (0, va_rf (some h0)), (1, .int x1)]) X dJ4_newCapacity_32 (by decide) rfl ?_
  refine wm_iload X 0 dJ4_newCapacity_34 rfl ?_
  refine wm_ldc X dJ4_newCapacity_36 q801 ?_
  refine wm_icmp_ne X 51 h dJ4_newCapacity_38 (by decide) (fun c28 h => ?_) (fun c28 h => ?_)
  · refine wm_iload X 0 dJ4_newCapacity_51 rfl ?_
    refine wm_aload_n X 4 dJ4_newCapacity_53 rfl ?_
    refine wm_gI X hS cd_19 1 h dJ4_newCapacity_54 (Nat.le_of_ble_eq_true rfl) rfl q764 (fun x27 h => ?_)
    refine wm_ishr X dJ4_newCapacity_57 ?_
    exact wm_iret X hr h dJ4_newCapacity_58 (Nat.le_of_ble_eq_true rfl) (Nat.le_of_ble_eq_true rfl)
  · cases h
theorem mdJ0_copyOf : MD yJ0_copyOf 2 := by unfold MD; decide +kernel
theorem msJ0_copyOf : MS yJ0_copyOf cJ0_copyOf 3 ((some (FieldType.array FieldType.byte))) := ⟨q803, q130, q804⟩
set_option maxHeartbeats 4000000 in
theorem ctJ0_copyOf (l : Launch) (hl : l.stackTraces = false) {x0 : Option Nat} {x1 : Int32} {σ : Mm} {xo : (Option Nat × Mm) ⊕ (Nat × Mm)} {mc ms : Nat} (h : FJ0_copyOf x0 x1 σ = some (xo, mc, ms)) : CTXr l yJ0_copyOf (ws_ yJ0_copyOf cJ0_copyOf 3 ((some (FieldType.array FieldType.byte)))) 1 60 mc ms [va_rf x0, .int x1] σ xo := by
  refine ctx_start (n := 2) mdJ0_copyOf (Nat.le_of_ble_eq_true rfl) (c1_r (c1_i c1_0)) (fun p e s m args below meth c D dA sz0 ad0 X hS hr hnm hno => ?_)
  have X : CX p s m args meth c cJ0_copyOf 3 RJ0 := X
  have hC : 0 + mc ≤ mc := Nat.le_of_eq (Nat.zero_add mc)
  have hZ : 0 + ms ≤ ms := Nat.le_of_eq (Nat.zero_add ms)
  generalize mN σ = N0
  unfold FJ0_copyOf at h
  refine wm_iload_n X 1 dJ0_copyOf_0 rfl ?_
  refine wm_aload_n X 0 dJ0_copyOf_1 rfl ?_
  refine wm_alen X hS 101 (by decide) h dJ0_copyOf_2 (fun x21 h => ?_)
  refine wm_icmp_ne X 14 h dJ0_copyOf_3 (by decide) (fun c26 h => ?_) (fun c26 h => ?_)
  · refine wm_iload_n X 1 dJ0_copyOf_14 rfl ?_
    obtain ⟨C, Z, h, hC, hZ⟩ := pay_d h hC hZ
    refine wm_newarr (z := (x1.toNatClampNeg)) X hS 101 .byte (Or.inr ⟨rfl, rfl⟩) q312 h dJ0_copyOf_15 (le_p hC) rfl (le_p hZ) (fun x22 σ23 _ h => ?_)
    refine wm_astore_n (ℓ' := [(2, va_rf x22), (0, va_rf x0), (1, .int x1)]) X dJ0_copyOf_17 (by decide) rfl ?_
    refine wm_aload_n X 1 dJ0_copyOf_18 rfl ?_
    refine wm_iconst (v := 0) X dJ0_copyOf_19 (by decide) ?_
    refine wm_aload_n X 0 dJ0_copyOf_20 rfl ?_
    refine wm_iconst (v := 0) X dJ0_copyOf_21 (by decide) ?_
    refine wm_aload_n X 1 dJ0_copyOf_22 rfl ?_
    refine wm_alen X hS 101 (by decide) h dJ0_copyOf_23 (fun x24 h => ?_)
    refine wm_iload_n X 2 dJ0_copyOf_24 rfl ?_
    refine wm_mmin X dJ0_copyOf_25 q812 q622 q146 q623 (Nat.le_of_ble_eq_true rfl) (c1_i (c1_r (c1_i (c1_r c1_0)))) (Nat.le_of_ble_eq_true rfl) (Nat.le_of_ble_eq_true rfl) (le_p hC) (le_p hZ) ?_
    refine wm_copy X hS 101 (by decide) h dJ0_copyOf_28 q813 q672 q671 q140 (Nat.le_of_ble_eq_true rfl) c1_0 (Nat.le_of_ble_eq_true rfl) (Nat.le_of_ble_eq_true rfl) (fun σ25 _ h => ?_)
    refine wm_aload_n X 0 dJ0_copyOf_31 rfl ?_
    exact wm_xaret X hr (Or.inr ⟨_, rfl⟩) (rt_e h) dJ0_copyOf_32 (le_p hC) (le_p hZ)
  · refine wm_aload_n X 0 dJ0_copyOf_6 rfl ?_
    cases h
theorem mdJ4_ensureCapacityInternal : MD yJ4_ensureCapacityInternal 1 := by unfold MD; decide +kernel
set_option maxHeartbeats 4000000 in
theorem ctJ4_ensureCapacityInternal (l : Launch) (hl : l.stackTraces = false) {h0 : Nat} {x1 : Int32} {σ : Mm} {xo : Mm ⊕ (Nat × Mm)} {mc ms : Nat} (h : FJ4_ensureCapacityInternal h0 x1 σ = some (xo, mc, ms)) : CTXv l yJ4_ensureCapacityInternal (ws_ yJ4_ensureCapacityInternal cJ4_ensureCapacityInternal 3 (none)) 3 82 mc ms [va_rf (some h0), .int x1] σ xo := by
  refine ctx_start (n := 1) mdJ4_ensureCapacityInternal (Nat.le_of_ble_eq_true rfl) (c1_r (c1_i c1_0)) (fun p e s m args below meth c D dA sz0 ad0 X hS hr hnm hno => ?_)
  have X : CX p s m args meth c cJ4_ensureCapacityInternal 3 RJ4 := X
  have hC : 0 + mc ≤ mc := Nat.le_of_eq (Nat.zero_add mc)
  have hZ : 0 + ms ≤ ms := Nat.le_of_eq (Nat.zero_add ms)
  generalize mN σ = N0
  unfold FJ4_ensureCapacityInternal at h
  refine wm_aload_n X 0 dJ4_ensureCapacityInternal_0 rfl ?_
  refine wm_gR X hS cd_19 0 h dJ4_ensureCapacityInternal_1 (Nat.le_of_ble_eq_true rfl) rfl q763 (fun x21 h => ?_)
  refine wm_alen X hS 101 (by decide) h dJ4_ensureCapacityInternal_4 (fun x22 h => ?_)
  refine wm_aload_n X 0 dJ4_ensureCapacityInternal_5 rfl ?_
  refine wm_gI X hS cd_19 1 h dJ4_ensureCapacityInternal_6 (Nat.le_of_ble_eq_true rfl) rfl q764 (fun x23 h => ?_)
  refine wm_ishr X dJ4_ensureCapacityInternal_9 ?_
  refine wm_istore_n (ℓ' := [(2, .int (x22 >>> (x23 &&& 31))), (0, va_rf (some h0)), (1, .int x1)]) X dJ4_ensureCapacityInternal_10 (by decide) rfl ?_
  refine wm_iload_n X 2 dJ4_ensureCapacityInternal_11 rfl ?_
  refine wm_iload_n X 0 dJ4_ensureCapacityInternal_12 rfl ?_
  refine wm_isub X dJ4_ensureCapacityInternal_13 ?_
  refine wm_if_le X 38 h dJ4_ensureCapacityInternal_14 (by decide) (fun c32 h => ?_) (fun c32 h => ?_)
  · exact wm_xvret X hr (rt_e h) dJ4_ensureCapacityInternal_38 (le_p hC) (le_p hZ)
  · refine wm_aload_n X 1 dJ4_ensureCapacityInternal_17 rfl ?_
    refine wm_aload_n X 1 dJ4_ensureCapacityInternal_18 rfl ?_
    refine wm_gR X hS cd_19 0 h dJ4_ensureCapacityInternal_19 (Nat.le_of_ble_eq_true rfl) rfl q763 (fun x24 h => ?_)
    refine wm_aload_n X 1 dJ4_ensureCapacityInternal_22 rfl ?_
    refine wm_iload_n X 2 dJ4_ensureCapacityInternal_23 rfl ?_
    obtain ⟨s25, h⟩ := ck_e h
    refine wm_cC_i (y := yJ4_newCapacity) (As := [.int x1]) (st := [va_rf x24, va_rf (some h0)]) X hS cd_19 s25 (sel_prv (y := yJ4_newCapacity) (z := yJ4_isLatin1) (by decide) (X.1.2.2.2.2 _ q817) rfl (va_Nw.use rfl (hS.2.1 _ (List.mem_of_getElem? (rfl : nwl[138]? = some (Cond.privateMethod yJ4_newCapacity))))) (X.1.2.2.2.2 _ q789)) q789 q141 q790 q787 h (fun _ _ hF => ctJ4_newCapacity l hF) mdJ4_newCapacity dJ4_ensureCapacityInternal_24 rfl rfl (c1_r (c1_r c1_0)) (Nat.le_of_ble_eq_true rfl) ⟨Nat.le_of_ble_eq_true rfl, Nat.le_of_ble_eq_true rfl⟩ ⟨le_p hC, le_p hZ⟩ (fun x26 σ27 _ h => ?_)
    refine wm_aload_n X 1 dJ4_ensureCapacityInternal_27 rfl ?_
    refine wm_gI X hS cd_19 1 h dJ4_ensureCapacityInternal_28 (Nat.le_of_ble_eq_true rfl) rfl q764 (fun x28 h => ?_)
    refine wm_ishl X dJ4_ensureCapacityInternal_31 ?_
    refine wm_dS_r (As := [va_rf x24, .int (x26 <<< (x28 &&& 31))]) (st := [va_rf (some h0)]) X hS hno h hC hZ (fun _ _ _ hF => ctJ0_copyOf l hl hF) mdJ0_copyOf msJ0_copyOf q802 dJ4_ensureCapacityInternal_32 rfl rfl (c1_r c1_0) (Nat.le_of_ble_eq_true rfl) ⟨Nat.le_of_ble_eq_true rfl, Nat.le_of_ble_eq_true rfl⟩ (Nat.le_refl _) (Nat.le_refl _) (fun x29 σ30 c1 z1 C Z _ h hC hZ => ?_)
    refine wm_pR X hS cd_19 0 h dJ4_ensureCapacityInternal_35 (Nat.le_of_ble_eq_true rfl) rfl q763 (fun r => by cases r <;> exact ⟨rfl, rfl⟩) rfl (fun σ31 _ h => ?_)
    exact wm_xvret X hr (rt_e h) dJ4_ensureCapacityInternal_38 (le_p hC) (le_p hZ)
theorem mdJ4_isLatin1 : MD yJ4_isLatin1 0 := by unfold MD; decide +kernel
set_option maxHeartbeats 4000000 in
theorem ctJ4_isLatin1 (l : Launch) {h0 : Nat} {σ σf : Mm} {r : Int32} (h : FJ4_isLatin1 h0 σ = some (r, σf)) : CTi l yJ4_isLatin1 (ws_ yJ4_isLatin1 cJ4_isLatin1 1 ((some FieldType.boolean))) 0 0 0 0 [va_rf (some h0)] σ r σf := by
  refine ct_start (n := 0) mdJ4_isLatin1 (Nat.le_of_ble_eq_true rfl) (c1_r c1_0) (fun p e s m args below meth c D dA sz0 ad0 X hS hr hnm => ?_)
  have X : CX p s m args meth c cJ4_isLatin1 1 RJ4 := X
  generalize mN σ = N0
  unfold FJ4_isLatin1 at h
  refine wm_gstI X hS dJ4_isLatin1_0 q754 ?_
  refine wm_if_eq X 17 h dJ4_isLatin1_3 (by decide) (fun c23 h => ?_) (fun c23 h => ?_)
  · refine wm_iconst (v := 0) X dJ4_isLatin1_17 (by decide) ?_
    exact wm_zret X hr h dJ4_isLatin1_18 (Nat.le_of_ble_eq_true rfl) (Nat.le_of_ble_eq_true rfl)
  · refine wm_aload_n X 0 dJ4_isLatin1_6 rfl ?_
    refine wm_gI X hS cd_19 1 h dJ4_isLatin1_7 (Nat.le_of_ble_eq_true rfl) rfl q764 (fun x21 h => ?_)
    refine wm_if_ne X 17 h dJ4_isLatin1_10 (by decide) (fun c22 h => ?_) (fun c22 h => ?_)
    · refine wm_iconst (v := 0) X dJ4_isLatin1_17 (by decide) ?_
      exact wm_zret X hr h dJ4_isLatin1_18 (Nat.le_of_ble_eq_true rfl) (Nat.le_of_ble_eq_true rfl)
    · refine wm_iconst (v := 1) X dJ4_isLatin1_13 (by decide) ?_
      refine wm_goto X 18 dJ4_isLatin1_14 (by decide) ?_
      exact wm_zret X hr h dJ4_isLatin1_18 (Nat.le_of_ble_eq_true rfl) (Nat.le_of_ble_eq_true rfl)
theorem mdJ10_canEncode : MD yJ10_canEncode 1 := by unfold MD; decide +kernel
theorem msJ10_canEncode : MS yJ10_canEncode cJ10_canEncode 1 ((some FieldType.boolean)) := ⟨q820, q147, q821⟩
set_option maxHeartbeats 4000000 in
theorem ctJ10_canEncode (l : Launch) {x0 : Int32} {σ σf : Mm} {r : Int32} (h : FJ10_canEncode x0 σ = some (r, σf)) : CTi l yJ10_canEncode (ws_ yJ10_canEncode cJ10_canEncode 1 ((some FieldType.boolean))) 0 0 0 0 [.int x0] σ r σf := by
  refine ct_start (n := 1) mdJ10_canEncode (Nat.le_of_ble_eq_true rfl) (c1_i c1_0) (fun p e s m args below meth c D dA sz0 ad0 X hS hr hnm => ?_)
  have X : CX p s m args meth c cJ10_canEncode 1 RJ10 := X
  generalize mN σ = N0
  unfold FJ10_canEncode at h
  refine wm_iload_n X 0 dJ10_canEncode_0 rfl ?_
  refine wm_sipush (v := 255) X dJ10_canEncode_1 (by decide) ?_
  refine wm_icmp_gt X 11 h dJ10_canEncode_4 (by decide) (fun c21 h => ?_) (fun c21 h => ?_)
  · refine wm_iconst (v := 0) X dJ10_canEncode_11 (by decide) ?_
    exact wm_zret X hr h dJ10_canEncode_12 (Nat.le_of_ble_eq_true rfl) (Nat.le_of_ble_eq_true rfl)
  · refine wm_iconst (v := 1) X dJ10_canEncode_7 (by decide) ?_
    refine wm_goto X 12 dJ10_canEncode_8 (by decide) ?_
    exact wm_zret X hr h dJ10_canEncode_12 (Nat.le_of_ble_eq_true rfl) (Nat.le_of_ble_eq_true rfl)
theorem mdJ4_append : MD yJ4_append 1 := by unfold MD; decide +kernel
set_option maxHeartbeats 4000000 in
theorem ctJ4_append (l : Launch) (hl : l.stackTraces = false) {h0 : Nat} {x1 : Int32} {σ : Mm} {xo : (Option Nat × Mm) ⊕ (Nat × Mm)} {mc ms : Nat} (h : FJ4_append h0 x1 σ = some (xo, mc, ms)) : CTXr l yJ4_append (ws_ yJ4_append cJ4_append 2 ((some (FieldType.object "java/lang/AbstractStringBuilder")))) 4 104 mc ms [va_rf (some h0), .int x1] σ xo := by
  refine ctx_start (n := 1) mdJ4_append (Nat.le_of_ble_eq_true rfl) (c1_r (c1_i c1_0)) (fun p e s m args below meth c D dA sz0 ad0 X hS hr hnm hno => ?_)
  have X : CX p s m args meth c cJ4_append 2 RJ4 := X
  have hC : 0 + mc ≤ mc := Nat.le_of_eq (Nat.zero_add mc)
  have hZ : 0 + ms ≤ ms := Nat.le_of_eq (Nat.zero_add ms)
  generalize mN σ = N0
  unfold FJ4_append at h
  refine wm_aload_n X 0 dJ4_append_0 rfl ?_
  refine wm_aload_n X 0 dJ4_append_1 rfl ?_
  refine wm_gI X hS cd_19 3 h dJ4_append_2 (Nat.le_of_ble_eq_true rfl) rfl q766 (fun x21 h => ?_)
  refine wm_iconst (v := 1) X dJ4_append_5 (by decide) ?_
  refine wm_iadd X dJ4_append_6 ?_
  obtain ⟨s22, h⟩ := ck_e h
  refine wm_dC_v (y := yJ4_ensureCapacityInternal) (As := [.int (x21 + 1)]) (st := []) X hS hno cd_19 s22 (sel_prv (y := yJ4_ensureCapacityInternal) (z := yJ4_isLatin1) (by decide) (X.1.2.2.2.2 _ q817) rfl (va_Nw.use rfl (hS.2.1 _ (List.mem_of_getElem? (rfl : nwl[137]? = some (Cond.privateMethod yJ4_ensureCapacityInternal))))) (X.1.2.2.2.2 _ q785)) q785 q141 q786 q783 h hC hZ (fun _ _ _ hF => ctJ4_ensureCapacityInternal l hl hF) mdJ4_ensureCapacityInternal dJ4_append_7 rfl rfl c1_0 (Nat.le_of_ble_eq_true rfl) ⟨Nat.le_of_ble_eq_true rfl, Nat.le_of_ble_eq_true rfl⟩ (Nat.le_refl _) (Nat.le_refl _) (fun σ23 c1 z1 C Z _ h hC hZ => ?_)
  refine wm_aload_n X 0 dJ4_append_10 rfl ?_
  obtain ⟨s24, h⟩ := ck_e h
  refine wm_cC_i (y := yJ4_isLatin1) (As := []) (st := []) X hS cd_19 s24 (X.1.2.2.2.2 _ q817) q815 q141 q818 q814 h (fun _ _ hF => ctJ4_isLatin1 l hF) mdJ4_isLatin1 dJ4_append_11 rfl rfl c1_0 (Nat.le_of_ble_eq_true rfl) ⟨Nat.le_of_ble_eq_true rfl, Nat.le_of_ble_eq_true rfl⟩ ⟨le_p hC, le_p hZ⟩ (fun x25 σ26 _ h => ?_)
  obtain ⟨J45, eJ45, h⟩ := jn_e h
  have hJ45 : ∀  (σ : Mm) (C Z kc kz : Nat), J45  σ = some (xo, C, Z) → kc + C ≤ mc → kz + Z ≤ ms → WMxr p l e s m args below meth c 4 104 mc ms 2 D dA sz0 ad0 N0 xo kc kz σ [(0, va_rf (some h0)), (1, .int x1)] [] 45 := by
    intro  σ C Z kc kz h hC hZ
    rw [eJ45] at h
    refine wm_aload_n X 0 dJ4_append_45 rfl ?_
    obtain ⟨s27, h⟩ := ck_e h
    refine wm_cC_i (y := yJ4_isLatin1) (As := []) (st := []) X hS cd_19 s27 (X.1.2.2.2.2 _ q817) q815 q141 q818 q814 h (fun _ _ hF => ctJ4_isLatin1 l hF) mdJ4_isLatin1 dJ4_append_46 rfl rfl c1_0 (Nat.le_of_ble_eq_true rfl) ⟨Nat.le_of_ble_eq_true rfl, Nat.le_of_ble_eq_true rfl⟩ ⟨le_p hC, le_p hZ⟩ (fun x28 σ29 _ h => ?_)
    refine wm_if_eq X 56 h dJ4_append_49 (by decide) (fun c33 h => ?_) (fun c33 h => ?_)
    · refine wm_aload_n X 0 dJ4_append_56 rfl ?_
      refine wm_gR X hS cd_19 0 h dJ4_append_57 (Nat.le_of_ble_eq_true rfl) rfl q763 (fun x30 h => ?_)
      refine wm_aload_n X 0 dJ4_append_60 rfl ?_
      refine wm_dup X dJ4_append_61 (catR _) ?_
      refine wm_gI X hS cd_19 3 h dJ4_append_62 (Nat.le_of_ble_eq_true rfl) rfl q766 (fun x31 h => ?_)
      refine wm_dup_x1 X dJ4_append_65 rfl (catR _) ?_
      refine wm_iconst (v := 1) X dJ4_append_66 (by decide) ?_
      refine wm_iadd X dJ4_append_67 ?_
      refine wm_pI X hS cd_19 3 h dJ4_append_68 (Nat.le_of_ble_eq_true rfl) rfl q766 rfl rfl (fun σ32 _ h => ?_)
      refine wm_iload_n X 1 dJ4_append_71 rfl ?_
      cases h
    · refine wm_aload_n X 0 dJ4_append_52 rfl ?_
      cases h
  clear eJ45
  refine wm_if_eq X 45 h dJ4_append_14 (by decide) (fun c41 h => ?_) (fun c41 h => ?_)
  · exact hJ45 _ _ _ _ _ h hC hZ
  · refine wm_iload_n X 1 dJ4_append_17 rfl ?_
    refine wm_cS_i (As := [.int x1]) (st := []) X hS h (fun _ _ hF => ctJ10_canEncode l hF) mdJ10_canEncode msJ10_canEncode q819 dJ4_append_18 rfl rfl c1_0 (Nat.le_of_ble_eq_true rfl) ⟨Nat.le_of_ble_eq_true rfl, Nat.le_of_ble_eq_true rfl⟩ ⟨le_p hC, le_p hZ⟩ (fun x34 σ35 _ h => ?_)
    refine wm_if_eq X 45 h dJ4_append_21 (by decide) (fun c40 h => ?_) (fun c40 h => ?_)
    · exact hJ45 _ _ _ _ _ h hC hZ
    · refine wm_aload_n X 0 dJ4_append_24 rfl ?_
      refine wm_gR X hS cd_19 0 h dJ4_append_25 (Nat.le_of_ble_eq_true rfl) rfl q763 (fun x36 h => ?_)
      refine wm_aload_n X 0 dJ4_append_28 rfl ?_
      refine wm_dup X dJ4_append_29 (catR _) ?_
      refine wm_gI X hS cd_19 3 h dJ4_append_30 (Nat.le_of_ble_eq_true rfl) rfl q766 (fun x37 h => ?_)
      refine wm_dup_x1 X dJ4_append_33 rfl (catR _) ?_
      refine wm_iconst (v := 1) X dJ4_append_34 (by decide) ?_
      refine wm_iadd X dJ4_append_35 ?_
      refine wm_pI X hS cd_19 3 h dJ4_append_36 (Nat.le_of_ble_eq_true rfl) rfl q766 rfl rfl (fun σ38 _ h => ?_)
      refine wm_iload_n X 1 dJ4_append_39 rfl ?_
      refine wm_i2b X dJ4_append_40 ?_
      refine wm_bastore X hS h dJ4_append_41 (fun σ39 _ h => ?_)
      refine wm_goto X 75 dJ4_append_42 (by decide) ?_
      refine wm_aload_n X 0 dJ4_append_75 rfl ?_
      exact wm_xaret X hr (Or.inl ⟨_, rfl⟩) (rt_e h) dJ4_append_76 (le_p hC) (le_p hZ)
theorem mdJ5_append : MD yJ5_append 1 := by unfold MD; decide +kernel
theorem mvJ5_append : MV yJ5_append cJ5_append 2 ((some (FieldType.object "java/lang/StringBuilder"))) := ⟨q777, q778, q142, q779⟩
set_option maxHeartbeats 4000000 in
theorem ctJ5_append (l : Launch) (hl : l.stackTraces = false) {h0 : Nat} {x1 : Int32} {σ : Mm} {xo : (Option Nat × Mm) ⊕ (Nat × Mm)} {mc ms : Nat} (h : FJ5_append h0 x1 σ = some (xo, mc, ms)) : CTXr l yJ5_append (ws_ yJ5_append cJ5_append 2 ((some (FieldType.object "java/lang/StringBuilder")))) 5 125 mc ms [va_rf (some h0), .int x1] σ xo := by
  refine ctx_start (n := 1) mdJ5_append (Nat.le_of_ble_eq_true rfl) (c1_r (c1_i c1_0)) (fun p e s m args below meth c D dA sz0 ad0 X hS hr hnm hno => ?_)
  have X : CX p s m args meth c cJ5_append 2 RJ5 := X
  have hC : 0 + mc ≤ mc := Nat.le_of_eq (Nat.zero_add mc)
  have hZ : 0 + ms ≤ ms := Nat.le_of_eq (Nat.zero_add ms)
  generalize mN σ = N0
  unfold FJ5_append at h
  refine wm_aload_n X 0 dJ5_append_0 rfl ?_
  refine wm_iload_n X 1 dJ5_append_1 rfl ?_
  obtain ⟨s21, h⟩ := ck_e h
  refine wm_dU_r (y := yJ4_append) (As := [.int x1]) (st := []) X hS hno cd_19 s21 (by decide) q2648 q775 q781 q141 q782 q780 h hC hZ (fun _ _ _ hF => ctJ4_append l hl hF) mdJ4_append dJ5_append_2 rfl rfl c1_0 (Nat.le_of_ble_eq_true rfl) ⟨Nat.le_of_ble_eq_true rfl, Nat.le_of_ble_eq_true rfl⟩ (Nat.le_refl _) (Nat.le_refl _) (fun x22 σ23 c1 z1 C Z _ h hC hZ => ?_)
  refine wm_pop X dJ5_append_5 (catR _) ?_
  refine wm_aload_n X 0 dJ5_append_6 rfl ?_
  exact wm_xaret X hr (Or.inl ⟨_, rfl⟩) (rt_e h) dJ5_append_7 (le_p hC) (le_p hZ)
theorem mdJ4_getValue : MD yJ4_getValue 0 := by unfold MD; decide +kernel
set_option maxHeartbeats 4000000 in
theorem ctJ4_getValue (l : Launch) {h0 : Nat} {σ σf : Mm} {r : Option Nat} (h : FJ4_getValue h0 σ = some (r, σf)) : CTr l yJ4_getValue (ws_ yJ4_getValue cJ4_getValue 1 ((some (FieldType.array FieldType.byte)))) 0 0 0 0 [va_rf (some h0)] σ r σf := by
  refine ct_start (n := 0) mdJ4_getValue (Nat.le_of_ble_eq_true rfl) (c1_r c1_0) (fun p e s m args below meth c D dA sz0 ad0 X hS hr hnm => ?_)
  have X : CX p s m args meth c cJ4_getValue 1 RJ4 := X
  generalize mN σ = N0
  unfold FJ4_getValue at h
  refine wm_aload_n X 0 dJ4_getValue_0 rfl ?_
  refine wm_gR X hS cd_19 0 h dJ4_getValue_1 (Nat.le_of_ble_eq_true rfl) rfl q763 (fun x21 h => ?_)
  exact wm_aret X hr (Or.inr ⟨_, rfl⟩) h dJ4_getValue_4 (Nat.le_of_ble_eq_true rfl) (Nat.le_of_ble_eq_true rfl)
theorem mdJ4_length : MD yJ4_length 0 := by unfold MD; decide +kernel
set_option maxHeartbeats 4000000 in
theorem ctJ4_length (l : Launch) {h0 : Nat} {σ σf : Mm} {r : Int32} (h : FJ4_length h0 σ = some (r, σf)) : CTi l yJ4_length (ws_ yJ4_length cJ4_length 1 ((some FieldType.int))) 0 0 0 0 [va_rf (some h0)] σ r σf := by
  refine ct_start (n := 0) mdJ4_length (Nat.le_of_ble_eq_true rfl) (c1_r c1_0) (fun p e s m args below meth c D dA sz0 ad0 X hS hr hnm => ?_)
  have X : CX p s m args meth c cJ4_length 1 RJ4 := X
  generalize mN σ = N0
  unfold FJ4_length at h
  refine wm_aload_n X 0 dJ4_length_0 rfl ?_
  refine wm_gI X hS cd_19 3 h dJ4_length_1 (Nat.le_of_ble_eq_true rfl) rfl q766 (fun x21 h => ?_)
  exact wm_iret X hr h dJ4_length_4 (Nat.le_of_ble_eq_true rfl) (Nat.le_of_ble_eq_true rfl)
theorem mdJ0_checkLength : MD yJ0_checkLength 2 := by unfold MD; decide +kernel
theorem msJ0_checkLength : MS yJ0_checkLength cJ0_checkLength 2 (none) := ⟨q899, q130, q900⟩
set_option maxHeartbeats 4000000 in
theorem ctJ0_checkLength (l : Launch) {x0 : Int32} {x1 : Int32} {σ σf : Mm} (h : FJ0_checkLength x0 x1 σ = some σf) : CTv l yJ0_checkLength (ws_ yJ0_checkLength cJ0_checkLength 2 (none)) 0 0 0 0 [.int x0, .int x1] σ σf := by
  refine ct_start (n := 2) mdJ0_checkLength (Nat.le_of_ble_eq_true rfl) (c1_i (c1_i c1_0)) (fun p e s m args below meth c D dA sz0 ad0 X hS hr hnm => ?_)
  have X : CX p s m args meth c cJ0_checkLength 2 RJ0 := X
  generalize mN σ = N0
  unfold FJ0_checkLength at h
  refine wm_iload_n X 1 dJ0_checkLength_0 rfl ?_
  refine wm_iload_n X 0 dJ0_checkLength_1 rfl ?_
  refine wm_icmp_ge X 37 h dJ0_checkLength_2 (by decide) (fun c21 h => ?_) (fun c21 h => ?_)
  · exact wm_vret X hr h dJ0_checkLength_37 (Nat.le_of_ble_eq_true rfl) (Nat.le_of_ble_eq_true rfl)
  · cases h
theorem mdJ0_copyOfRangeByte : MD yJ0_copyOfRangeByte 3 := by unfold MD; decide +kernel
theorem msJ0_copyOfRangeByte : MS yJ0_copyOfRangeByte cJ0_copyOfRangeByte 5 ((some (FieldType.array FieldType.byte))) := ⟨q896, q130, q897⟩
set_option maxHeartbeats 4000000 in
theorem ctJ0_copyOfRangeByte (l : Launch) (hl : l.stackTraces = false) {x0 : Option Nat} {x1 : Int32} {x2 : Int32} {σ : Mm} {xo : (Option Nat × Mm) ⊕ (Nat × Mm)} {mc ms : Nat} (h : FJ0_copyOfRangeByte x0 x1 x2 σ = some (xo, mc, ms)) : CTXr l yJ0_copyOfRangeByte (ws_ yJ0_copyOfRangeByte cJ0_copyOfRangeByte 5 ((some (FieldType.array FieldType.byte)))) 1 60 mc ms [va_rf x0, .int x1, .int x2] σ xo := by
  refine ctx_start (n := 3) mdJ0_copyOfRangeByte (Nat.le_of_ble_eq_true rfl) (c1_r (c1_i (c1_i c1_0))) (fun p e s m args below meth c D dA sz0 ad0 X hS hr hnm hno => ?_)
  have X : CX p s m args meth c cJ0_copyOfRangeByte 5 RJ0 := X
  have hC : 0 + mc ≤ mc := Nat.le_of_eq (Nat.zero_add mc)
  have hZ : 0 + ms ≤ ms := Nat.le_of_eq (Nat.zero_add ms)
  generalize mN σ = N0
  unfold FJ0_copyOfRangeByte at h
  refine wm_iload_n X 1 dJ0_copyOfRangeByte_0 rfl ?_
  refine wm_iload_n X 2 dJ0_copyOfRangeByte_1 rfl ?_
  refine wm_cS_v (As := [.int x1, .int x2]) (st := []) X hS h (fun _ hF => ctJ0_checkLength l hF) mdJ0_checkLength msJ0_checkLength q898 dJ0_copyOfRangeByte_2 rfl rfl c1_0 (Nat.le_of_ble_eq_true rfl) ⟨Nat.le_of_ble_eq_true rfl, Nat.le_of_ble_eq_true rfl⟩ ⟨le_p hC, le_p hZ⟩ (fun σ21 _ h => ?_)
  refine wm_iload_n X 2 dJ0_copyOfRangeByte_5 rfl ?_
  refine wm_iload_n X 1 dJ0_copyOfRangeByte_6 rfl ?_
  refine wm_isub X dJ0_copyOfRangeByte_7 ?_
  refine wm_istore_n (ℓ' := [(3, .int (x2 - x1)), (0, va_rf x0), (1, .int x1), (2, .int x2)]) X dJ0_copyOfRangeByte_8 (by decide) rfl ?_
  refine wm_iload_n X 0 dJ0_copyOfRangeByte_9 rfl ?_
  obtain ⟨C, Z, h, hC, hZ⟩ := pay_d h hC hZ
  refine wm_newarr (z := ((x2 - x1).toNatClampNeg)) X hS 101 .byte (Or.inr ⟨rfl, rfl⟩) q312 h dJ0_copyOfRangeByte_10 (le_p hC) rfl (le_p hZ) (fun x22 σ23 _ h => ?_)
  refine wm_astore (ℓ' := [(4, va_rf x22), (3, .int (x2 - x1)), (0, va_rf x0), (1, .int x1), (2, .int x2)]) X dJ0_copyOfRangeByte_12 (by decide) rfl ?_
  refine wm_aload_n X 2 dJ0_copyOfRangeByte_14 rfl ?_
  refine wm_iload_n X 3 dJ0_copyOfRangeByte_15 rfl ?_
  refine wm_aload X 0 dJ0_copyOfRangeByte_16 rfl ?_
  refine wm_iconst (v := 0) X dJ0_copyOfRangeByte_18 (by decide) ?_
  refine wm_aload_n X 2 dJ0_copyOfRangeByte_19 rfl ?_
  refine wm_alen X hS 101 (by decide) h dJ0_copyOfRangeByte_20 (fun x24 h => ?_)
  refine wm_iload_n X 3 dJ0_copyOfRangeByte_21 rfl ?_
  refine wm_isub X dJ0_copyOfRangeByte_22 ?_
  refine wm_iload_n X 1 dJ0_copyOfRangeByte_23 rfl ?_
  refine wm_mmin X dJ0_copyOfRangeByte_24 q812 q622 q146 q623 (Nat.le_of_ble_eq_true rfl) (c1_i (c1_r (c1_i (c1_r c1_0)))) (Nat.le_of_ble_eq_true rfl) (Nat.le_of_ble_eq_true rfl) (le_p hC) (le_p hZ) ?_
  refine wm_copy X hS 101 (by decide) h dJ0_copyOfRangeByte_27 q813 q672 q671 q140 (Nat.le_of_ble_eq_true rfl) c1_0 (Nat.le_of_ble_eq_true rfl) (Nat.le_of_ble_eq_true rfl) (fun σ25 _ h => ?_)
  refine wm_aload X 0 dJ0_copyOfRangeByte_30 rfl ?_
  exact wm_xaret X hr (Or.inr ⟨_, rfl⟩) (rt_e h) dJ0_copyOfRangeByte_32 (le_p hC) (le_p hZ)
theorem mdJ0_copyOfRange : MD yJ0_copyOfRange 3 := by unfold MD; decide +kernel
theorem msJ0_copyOfRange : MS yJ0_copyOfRange cJ0_copyOfRange 3 ((some (FieldType.array FieldType.byte))) := ⟨q893, q130, q894⟩
set_option maxHeartbeats 4000000 in
theorem ctJ0_copyOfRange (l : Launch) (hl : l.stackTraces = false) {x0 : Option Nat} {x1 : Int32} {x2 : Int32} {σ : Mm} {xo : (Option Nat × Mm) ⊕ (Nat × Mm)} {mc ms : Nat} (h : FJ0_copyOfRange x0 x1 x2 σ = some (xo, mc, ms)) : CTXr l yJ0_copyOfRange (ws_ yJ0_copyOfRange cJ0_copyOfRange 3 ((some (FieldType.array FieldType.byte)))) 2 84 mc ms [va_rf x0, .int x1, .int x2] σ xo := by
  refine ctx_start (n := 3) mdJ0_copyOfRange (Nat.le_of_ble_eq_true rfl) (c1_r (c1_i (c1_i c1_0))) (fun p e s m args below meth c D dA sz0 ad0 X hS hr hnm hno => ?_)
  have X : CX p s m args meth c cJ0_copyOfRange 3 RJ0 := X
  have hC : 0 + mc ≤ mc := Nat.le_of_eq (Nat.zero_add mc)
  have hZ : 0 + ms ≤ ms := Nat.le_of_eq (Nat.zero_add ms)
  generalize mN σ = N0
  unfold FJ0_copyOfRange at h
  refine wm_iload_n X 1 dJ0_copyOfRange_0 rfl ?_
  obtain ⟨J10, eJ10, h⟩ := jn_e h
  have hJ10 : ∀  (σ : Mm) (C Z kc kz : Nat), J10  σ = some (xo, C, Z) → kc + C ≤ mc → kz + Z ≤ ms → WMxr p l e s m args below meth c 2 84 mc ms 3 D dA sz0 ad0 N0 xo kc kz σ [(0, va_rf x0), (1, .int x1), (2, .int x2)] [] 10 := by
    intro  σ C Z kc kz h hC hZ
    rw [eJ10] at h
    refine wm_aload_n X 0 dJ0_copyOfRange_10 rfl ?_
    refine wm_iload_n X 1 dJ0_copyOfRange_11 rfl ?_
    refine wm_iload_n X 2 dJ0_copyOfRange_12 rfl ?_
    refine wm_dS_r (As := [va_rf x0, .int x1, .int x2]) (st := []) X hS hno h hC hZ (fun _ _ _ hF => ctJ0_copyOfRangeByte l hl hF) mdJ0_copyOfRangeByte msJ0_copyOfRangeByte q895 dJ0_copyOfRange_13 rfl rfl c1_0 (Nat.le_of_ble_eq_true rfl) ⟨Nat.le_of_ble_eq_true rfl, Nat.le_of_ble_eq_true rfl⟩ (Nat.le_refl _) (Nat.le_refl _) (fun x21 σ22 c1 z1 C Z _ h hC hZ => ?_)
    exact wm_xaret X hr (Or.inr ⟨_, rfl⟩) (rt_e h) dJ0_copyOfRange_16 (le_p hC) (le_p hZ)
  clear eJ10
  refine wm_if_ne X 10 h dJ0_copyOfRange_1 (by decide) (fun c30 h => ?_) (fun c30 h => ?_)
  · exact hJ10 _ _ _ _ _ h hC hZ
  · refine wm_iload_n X 2 dJ0_copyOfRange_4 rfl ?_
    refine wm_aload_n X 0 dJ0_copyOfRange_5 rfl ?_
    refine wm_alen X hS 101 (by decide) h dJ0_copyOfRange_6 (fun x23 h => ?_)
    refine wm_icmp_eq X 17 h dJ0_copyOfRange_7 (by decide) (fun c29 h => ?_) (fun c29 h => ?_)
    · refine wm_aload_n X 0 dJ0_copyOfRange_17 rfl ?_
      obtain ⟨C, Z, h, hC, hZ⟩ := pay_d h hC hZ
      refine wm_cloneB (z := clZ x0 σ) X hS h dJ0_copyOfRange_18 q805 (Nat.le_of_ble_eq_true rfl) c1_0 (Nat.le_of_ble_eq_true rfl) (Nat.le_of_ble_eq_true rfl) (le_p hC) (fun q e => by rw [e]; rfl) (le_p hZ) (fun x24 σ25 _ h => ?_)
      refine wm_castB X hS h dJ0_copyOfRange_21 q811 (fun q26 e27 s28 h => ?_)
      exact wm_xaret X hr (Or.inr ⟨_, rfl⟩) (rt_e h) dJ0_copyOfRange_24 (le_p hC) (le_p hZ)
    · exact hJ10 _ _ _ _ _ h hC hZ
theorem mdJ5_length : MD yJ5_length 0 := by unfold MD; decide +kernel
set_option maxHeartbeats 4000000 in
theorem ctJ5_length (l : Launch) {h0 : Nat} {σ σf : Mm} {r : Int32} (h : FJ5_length h0 σ = some (r, σf)) : CTi l yJ5_length (ws_ yJ5_length cJ5_length 1 ((some FieldType.int))) 1 20 0 0 [va_rf (some h0)] σ r σf := by
  refine ct_start (n := 0) mdJ5_length (Nat.le_of_ble_eq_true rfl) (c1_r c1_0) (fun p e s m args below meth c D dA sz0 ad0 X hS hr hnm => ?_)
  have X : CX p s m args meth c cJ5_length 1 RJ5 := X
  generalize mN σ = N0
  unfold FJ5_length at h
  refine wm_aload_n X 0 dJ5_length_0 rfl ?_
  obtain ⟨s21, h⟩ := ck_e h
  refine wm_cU_i (y := yJ4_length) (As := []) (st := []) X hS cd_19 s21 (by decide) q885 q775 q884 q141 q890 q889 h (fun _ _ hF => ctJ4_length l hF) mdJ4_length dJ5_length_1 rfl rfl c1_0 (Nat.le_of_ble_eq_true rfl) ⟨Nat.le_of_ble_eq_true rfl, Nat.le_of_ble_eq_true rfl⟩ ⟨Nat.le_of_ble_eq_true rfl, Nat.le_of_ble_eq_true rfl⟩ (fun x22 σ23 _ h => ?_)
  exact wm_iret X hr h dJ5_length_4 (Nat.le_of_ble_eq_true rfl) (Nat.le_of_ble_eq_true rfl)
theorem mdJ6_init_2 : MD yJ6_init_2 2 := by unfold MD; decide +kernel
theorem miJ6_init_2 : MI yJ6_init_2 cJ6_init_2 5 := ⟨q875, q143, q876, rfl⟩
set_option maxHeartbeats 4000000 in
theorem ctJ6_init_2 (l : Launch) (hl : l.stackTraces = false) {h0 : Nat} {x1 : Option Nat} {x2 : Option Nat} {σ : Mm} {xo : Mm ⊕ (Nat × Mm)} {mc ms : Nat} (h : FJ6_init_2 h0 x1 x2 σ = some (xo, mc, ms)) : CTXv l yJ6_init_2 (ws_ yJ6_init_2 cJ6_init_2 5 (none)) 3 106 mc ms [va_rf (some h0), va_rf x1, va_rf x2] σ xo := by
  refine ctx_start (n := 2) mdJ6_init_2 (Nat.le_of_ble_eq_true rfl) (c1_r (c1_r (c1_r c1_0))) (fun p e s m args below meth c D dA sz0 ad0 X hS hr hnm hno => ?_)
  have X : CX p s m args meth c cJ6_init_2 5 RJ6 := X
  have hC : 0 + mc ≤ mc := Nat.le_of_eq (Nat.zero_add mc)
  have hZ : 0 + ms ≤ ms := Nat.le_of_eq (Nat.zero_add ms)
  generalize mN σ = N0
  unfold FJ6_init_2 at h
  refine wm_aload_n X 0 dJ6_init_2_0 rfl ?_
  refine wm_objInit X dJ6_init_2_1 q877 q179 q180 (Nat.le_of_ble_eq_true rfl) c1_0 (Nat.le_of_ble_eq_true rfl) (Nat.le_of_ble_eq_true rfl) ?_
  refine wm_aload_n X 1 dJ6_init_2_4 rfl ?_
  obtain ⟨q21, eq21, h⟩ := Option.bind_eq_some_iff.mp h
  obtain ⟨eq21, s22⟩ := rv_some eq21
  refine wm_cC_r (y := yJ4_getValue) (As := []) (st := []) X hS cd_19 s22 (X.1.2.2.2.2 _ q881) q879 q141 q882 q878 h (fun _ _ hF => ctJ4_getValue l hF) mdJ4_getValue dJ6_init_2_5 rfl (by rw [eq21]; first | done | rfl) c1_0 (Nat.le_of_ble_eq_true rfl) ⟨Nat.le_of_ble_eq_true rfl, Nat.le_of_ble_eq_true rfl⟩ ⟨le_p hC, le_p hZ⟩ (fun x23 σ24 _ h => ?_)
  refine wm_astore_n (ℓ' := [(3, va_rf x23), (0, va_rf (some h0)), (1, va_rf x1), (2, va_rf x2)]) X dJ6_init_2_8 (by decide) rfl ?_
  refine wm_aload_n X 2 dJ6_init_2_9 rfl ?_
  obtain ⟨q25, eq25, h⟩ := Option.bind_eq_some_iff.mp h
  obtain ⟨eq25, s26⟩ := rv_some eq25
  refine wm_lenSB (st := []) X hS s26 h (fun _ _ hF => ctJ5_length l hF) q883 dJ6_init_2_10 (by rw [eq25]; first | done | rfl) c1_0 (Nat.le_of_ble_eq_true rfl) ⟨Nat.le_of_ble_eq_true rfl, Nat.le_of_ble_eq_true rfl⟩ ⟨le_p hC, le_p hZ⟩ (fun x27 σ28 _ h => ?_)
  refine wm_istore (ℓ' := [(4, .int x27), (3, va_rf x23), (0, va_rf (some h0)), (1, va_rf x1), (2, va_rf x2)]) X dJ6_init_2_13 (by decide) rfl ?_
  refine wm_aload_n X 3 dJ6_init_2_15 rfl ?_
  obtain ⟨q29, eq29, h⟩ := Option.bind_eq_some_iff.mp h
  obtain ⟨eq29, s30⟩ := rv_some eq29
  refine wm_cC_i (y := yJ4_isLatin1) (As := []) (st := []) X hS cd_19 s30 (X.1.2.2.2.2 _ q817) q815 q141 q818 q891 h (fun _ _ hF => ctJ4_isLatin1 l hF) mdJ4_isLatin1 dJ6_init_2_16 rfl (by rw [eq29]; first | done | rfl) c1_0 (Nat.le_of_ble_eq_true rfl) ⟨Nat.le_of_ble_eq_true rfl, Nat.le_of_ble_eq_true rfl⟩ ⟨le_p hC, le_p hZ⟩ (fun x31 σ32 _ h => ?_)
  refine wm_if_eq X 41 h dJ6_init_2_19 (by decide) (fun c44 h => ?_) (fun c44 h => ?_)
  · refine wm_gstI X hS dJ6_init_2_41 q1005 ?_
    obtain ⟨J79, eJ79, h⟩ := jn_e h
    have hJ79 : ∀  (σ : Mm) (C Z kc kz : Nat), J79  σ = some (xo, C, Z) → kc + C ≤ mc → kz + Z ≤ ms → WMxv p l e s m args below meth c 3 106 mc ms 5 D dA sz0 ad0 N0 xo kc kz σ [(0, va_rf (some h0)), (3, va_rf x23), (4, .int x27)] [] 79 := by
      intro  σ C Z kc kz h hC hZ
      rw [eJ79] at h
      refine wm_aload_n X 0 dJ6_init_2_79 rfl ?_
      refine wm_iconst (v := 1) X dJ6_init_2_80 (by decide) ?_
      refine wm_pBF X hS cd_20 1 h dJ6_init_2_81 (Nat.le_of_ble_eq_true rfl) rfl q1061 rfl rfl hnm rfl (fun σ33 _ h => ?_)
      refine wm_aload_n X 0 dJ6_init_2_84 rfl ?_
      refine wm_aload_n X 1 dJ6_init_2_85 rfl ?_
      refine wm_iconst (v := 0) X dJ6_init_2_86 (by decide) ?_
      refine wm_iload X 2 dJ6_init_2_87 rfl ?_
      refine wm_iconst (v := 1) X dJ6_init_2_89 (by decide) ?_
      refine wm_ishl X dJ6_init_2_90 ?_
      refine wm_dS_r (As := [va_rf x23, .int 0, .int (x27 <<< (1 &&& 31))]) (st := [va_rf (some h0)]) X hS hno h hC hZ (fun _ _ _ hF => ctJ0_copyOfRange l hl hF) mdJ0_copyOfRange msJ0_copyOfRange q892 dJ6_init_2_91 rfl rfl (c1_r c1_0) (Nat.le_of_ble_eq_true rfl) ⟨Nat.le_of_ble_eq_true rfl, Nat.le_of_ble_eq_true rfl⟩ (Nat.le_refl _) (Nat.le_refl _) (fun x34 σ35 c1 z1 C Z _ h hC hZ => ?_)
      refine wm_pRF X hS cd_20 0 h dJ6_init_2_94 (Nat.le_of_ble_eq_true rfl) rfl q1060 (fun r => by cases r <;> exact ⟨rfl, rfl⟩) rfl hnm rfl (fun σ36 _ h => ?_)
      exact wm_xvret X hr (rt_e h) dJ6_init_2_97 (le_p hC) (le_p hZ)
    clear eJ79
    refine wm_if_eq X 79 h dJ6_init_2_44 (by decide) (fun c39 h => ?_) (fun c39 h => ?_)
    · refine wm_sub (ℓ' := [(0, va_rf (some h0)), (3, va_rf x23), (4, .int x27)]) [2, 1, 0] rfl ?_
      exact hJ79 _ _ _ _ _ h hC hZ
    · refine wm_aload_n X 3 dJ6_init_2_47 rfl ?_
      refine wm_gI X hS cd_19 2 h dJ6_init_2_48 (Nat.le_of_ble_eq_true rfl) rfl q765 (fun x37 h => ?_)
      refine wm_if_eq X 79 h dJ6_init_2_51 (by decide) (fun c38 h => ?_) (fun c38 h => ?_)
      · refine wm_sub (ℓ' := [(0, va_rf (some h0)), (3, va_rf x23), (4, .int x27)]) [2, 1, 0] rfl ?_
        exact hJ79 _ _ _ _ _ h hC hZ
      · refine wm_aload_n X 2 dJ6_init_2_54 rfl ?_
        refine wm_aload_n X 1 dJ6_init_2_55 rfl ?_
        refine wm_iconst (v := 0) X dJ6_init_2_56 (by decide) ?_
        refine wm_iload X 0 dJ6_init_2_57 rfl ?_
        cases h
  · refine wm_aload_n X 2 dJ6_init_2_22 rfl ?_
    refine wm_iconst (v := 0) X dJ6_init_2_23 (by decide) ?_
    refine wm_pBF X hS cd_20 1 h dJ6_init_2_24 (Nat.le_of_ble_eq_true rfl) rfl q1061 rfl rfl hnm rfl (fun σ40 _ h => ?_)
    refine wm_aload_n X 2 dJ6_init_2_27 rfl ?_
    refine wm_aload_n X 1 dJ6_init_2_28 rfl ?_
    refine wm_iconst (v := 0) X dJ6_init_2_29 (by decide) ?_
    refine wm_iload X 0 dJ6_init_2_30 rfl ?_
    refine wm_dS_r (As := [va_rf x23, .int 0, .int x27]) (st := [va_rf (some h0)]) X hS hno h hC hZ (fun _ _ _ hF => ctJ0_copyOfRange l hl hF) mdJ0_copyOfRange msJ0_copyOfRange q892 dJ6_init_2_32 rfl rfl (c1_r c1_0) (Nat.le_of_ble_eq_true rfl) ⟨Nat.le_of_ble_eq_true rfl, Nat.le_of_ble_eq_true rfl⟩ (Nat.le_refl _) (Nat.le_refl _) (fun x41 σ42 c1 z1 C Z _ h hC hZ => ?_)
    refine wm_pRF X hS cd_20 0 h dJ6_init_2_35 (Nat.le_of_ble_eq_true rfl) rfl q1060 (fun r => by cases r <;> exact ⟨rfl, rfl⟩) rfl hnm rfl (fun σ43 _ h => ?_)
    refine wm_goto X 97 dJ6_init_2_38 (by decide) ?_
    exact wm_xvret X hr (rt_e h) dJ6_init_2_97 (le_p hC) (le_p hZ)
theorem mdJ6_init : MD yJ6_init 1 := by unfold MD; decide +kernel
theorem miJ6_init : MI yJ6_init cJ6_init 2 := ⟨q872, q143, q873, rfl⟩
set_option maxHeartbeats 4000000 in
theorem ctJ6_init (l : Launch) (hl : l.stackTraces = false) {h0 : Nat} {x1 : Option Nat} {σ : Mm} {xo : Mm ⊕ (Nat × Mm)} {mc ms : Nat} (h : FJ6_init h0 x1 σ = some (xo, mc, ms)) : CTXv l yJ6_init (ws_ yJ6_init cJ6_init 2 (none)) 4 130 mc ms [va_rf (some h0), va_rf x1] σ xo := by
  refine ctx_start (n := 1) mdJ6_init (Nat.le_of_ble_eq_true rfl) (c1_r (c1_r c1_0)) (fun p e s m args below meth c D dA sz0 ad0 X hS hr hnm hno => ?_)
  have X : CX p s m args meth c cJ6_init 2 RJ6 := X
  have hC : 0 + mc ≤ mc := Nat.le_of_eq (Nat.zero_add mc)
  have hZ : 0 + ms ≤ ms := Nat.le_of_eq (Nat.zero_add ms)
  generalize mN σ = N0
  unfold FJ6_init at h
  refine wm_aload_n X 0 dJ6_init_0 rfl ?_
  refine wm_aload_n X 1 dJ6_init_1 rfl ?_
  refine wm_null X dJ6_init_2 ?_
  obtain ⟨s21, h⟩ := ck_e h
  refine wm_dI_v (As := [va_rf x1, va_rf none]) (st := []) X hS hno miJ6_init_2 q874 h hC hZ (fun _ _ _ hF => ctJ6_init_2 l hl hF) mdJ6_init_2 dJ6_init_3 rfl rfl c1_0 (Nat.le_of_ble_eq_true rfl) ⟨Nat.le_of_ble_eq_true rfl, Nat.le_of_ble_eq_true rfl⟩ (Nat.le_refl _) (Nat.le_refl _) (fun σ22 c1 z1 C Z _ h hC hZ => ?_)
  exact wm_xvret X hr (rt_e h) dJ6_init_6 (le_p hC) (le_p hZ)
theorem mdJ5_toString : MD yJ5_toString 0 := by unfold MD; decide +kernel
theorem mvJ5_toString : MV yJ5_toString cJ5_toString 1 ((some (FieldType.object "java/lang/String"))) := ⟨q866, q867, q142, q868⟩
set_option maxHeartbeats 4000000 in
theorem ctJ5_toString (l : Launch) (hl : l.stackTraces = false) {h0 : Nat} {σ : Mm} {xo : (Option Nat × Mm) ⊕ (Nat × Mm)} {mc ms : Nat} (h : FJ5_toString h0 σ = some (xo, mc, ms)) : CTXr l yJ5_toString (ws_ yJ5_toString cJ5_toString 1 ((some (FieldType.object "java/lang/String")))) 5 151 mc ms [va_rf (some h0)] σ xo := by
  refine ctx_start (n := 0) mdJ5_toString (Nat.le_of_ble_eq_true rfl) (c1_r c1_0) (fun p e s m args below meth c D dA sz0 ad0 X hS hr hnm hno => ?_)
  have X : CX p s m args meth c cJ5_toString 1 RJ5 := X
  have hC : 0 + mc ≤ mc := Nat.le_of_eq (Nat.zero_add mc)
  have hZ : 0 + ms ≤ ms := Nat.le_of_eq (Nat.zero_add ms)
  generalize mN σ = N0
  unfold FJ5_toString at h
  obtain ⟨C, Z, h, hC, hZ⟩ := pay_d h hC hZ
  refine wm_new X hS cd_20 h dJ5_toString_0 q869 q870 q143 (le_p hC) (le_p hZ) (fun x21 σ22 _ h => ?_)
  refine wm_dup X dJ5_toString_3 (catR _) ?_
  refine wm_aload_n X 0 dJ5_toString_4 rfl ?_
  obtain ⟨q23, eq23, h⟩ := Option.bind_eq_some_iff.mp h
  obtain ⟨eq23, s24⟩ := rv_some eq23
  refine wm_dI_v (As := [va_rf (some h0)]) (st := [va_rf x21]) X hS hno miJ6_init q871 h hC hZ (fun _ _ _ hF => ctJ6_init l hl hF) mdJ6_init dJ5_toString_5 rfl (by rw [eq23]; first | done | rfl) (c1_r c1_0) (Nat.le_of_ble_eq_true rfl) ⟨Nat.le_of_ble_eq_true rfl, Nat.le_of_ble_eq_true rfl⟩ (Nat.le_refl _) (Nat.le_refl _) (fun σ25 c1 z1 C Z _ h hC hZ => ?_)
  exact wm_xaret X hr (Or.inl ⟨_, rfl⟩) (rt_e h) dJ5_toString_8 (le_p hC) (le_p hZ)
theorem mdX3_word : MD yX3_word 0 := by unfold MD; decide +kernel
theorem mvX3_word : MV yX3_word cX3_word 3 ((some (FieldType.object "java/lang/String"))) := ⟨q741, q742, q131, q743⟩
set_option maxHeartbeats 4000000 in
theorem wX3_word_4 {p : Program} {l : Launch} {e : Env} {s : State} {m : MethodId} {args : Array Value} {below : List Frame} {meth : Method} {c : Code} {D : va_G} {dA : Nat → ClassId} {sz0 : Nat} {ad0 : Nat → Nat} {N0 : Nat} {xo : (Option Nat × Mm) ⊕ (Nat × Mm)} {mc ms : Nat} (X : CX p s m args meth c cX3_word 3 RX3) (hS : ST D dA sz0 ad0 s) (hr : meth.sig.returnType = (some (FieldType.object "java/lang/String"))) (hnm : meth.name = yX3_word.name) (hl : l.stackTraces = false) (hno : ∀ x ∈ c.exceptionTable.toList, False) (h0 : Nat) : ∀ (n : Nat)  (σ : Mm) (kx35 : Mm → DX (Option Nat × Mm)) (C Z kc kz : Nat), FX3_word_4 h0 n σ kx35 = some (xo, C, Z) → kc + C ≤ mc → kz + Z ≤ ms → (∀  (σ : Mm) (C Z kc kz : Nat), kx35 σ = some (xo, C, Z) → kc + C ≤ mc → kz + Z ≤ ms → WMxr p l e s m args below meth c 6 171 mc ms 3 D dA sz0 ad0 N0 xo kc kz σ [(0, va_rf (some h0))] [] 35) → WMxr p l e s m args below meth c 6 171 mc ms 3 D dA sz0 ad0 N0 xo kc kz σ [(0, va_rf (some h0))] [] 4 := by
  intro n
  induction n with
  | zero =>
    intro σ kx35 C Z kc kz h hC hZ hkx35
    cases h
  | succ n ih =>
    intro σ kx35 C Z kc kz h hC hZ hkx35
    rw [FX3_word_4] at h
    refine wm_aload_n X 0 dX3_word_4 rfl ?_
    refine wm_aload_n X 0 dX3_word_5 rfl ?_
    refine wm_gI X hS cd_3 3 h dX3_word_6 (Nat.le_of_ble_eq_true rfl) rfl q290 (fun x23 h => ?_)
    obtain ⟨s24, h⟩ := ck_e h
    refine wm_cV_i (As := [.int x23]) (st := []) X hS cd_3 s24 rfl h (fun _ _ hF => ctX3_byteAt l hF) mdX3_byteAt mvX3_byteAt q732 dX3_word_9 rfl rfl c1_0 (Nat.le_of_ble_eq_true rfl) ⟨Nat.le_of_ble_eq_true rfl, Nat.le_of_ble_eq_true rfl⟩ ⟨le_p hC, le_p hZ⟩ (fun x25 σ26 _ h => ?_)
    refine wm_bipush (v := 97) X dX3_word_12 (by decide) ?_
    refine wm_bipush (v := 122) X dX3_word_14 (by decide) ?_
    refine wm_cSN_i (As := [.int x25, .int 97, .int 122]) (st := []) X hS h (fun _ _ hF => ctX1_in l hF) mdX1_in msX1_in 48 rfl dX3_word_16 rfl rfl c1_0 (Nat.le_of_ble_eq_true rfl) ⟨Nat.le_of_ble_eq_true rfl, Nat.le_of_ble_eq_true rfl⟩ ⟨le_p hC, le_p hZ⟩ (fun x27 σ28 _ h => ?_)
    refine wm_if_eq X 35 h dX3_word_19 (by decide) (fun c31 h => ?_) (fun c31 h => ?_)
    · exact hkx35 _ _ _ _ _ h hC hZ
    · refine wm_aload_n X 0 dX3_word_22 rfl ?_
      refine wm_dup X dX3_word_23 (catR _) ?_
      refine wm_gI X hS cd_3 3 h dX3_word_24 (Nat.le_of_ble_eq_true rfl) rfl q290 (fun x29 h => ?_)
      refine wm_iconst (v := 1) X dX3_word_27 (by decide) ?_
      refine wm_iadd X dX3_word_28 ?_
      refine wm_pI X hS cd_3 3 h dX3_word_29 (Nat.le_of_ble_eq_true rfl) rfl q290 rfl rfl (fun σ30 _ h => ?_)
      refine wm_goto X 4 dX3_word_32 (by decide) ?_
      exact ih _ _ _ _ _ _ h hC hZ hkx35
set_option maxHeartbeats 4000000 in
theorem wX3_word_48 {p : Program} {l : Launch} {e : Env} {s : State} {m : MethodId} {args : Array Value} {below : List Frame} {meth : Method} {c : Code} {D : va_G} {dA : Nat → ClassId} {sz0 : Nat} {ad0 : Nat → Nat} {N0 : Nat} {xo : (Option Nat × Mm) ⊕ (Nat × Mm)} {mc ms : Nat} (X : CX p s m args meth c cX3_word 3 RX3) (hS : ST D dA sz0 ad0 s) (hr : meth.sig.returnType = (some (FieldType.object "java/lang/String"))) (hnm : meth.name = yX3_word.name) (hl : l.stackTraces = false) (hno : ∀ x ∈ c.exceptionTable.toList, False) (h0 : Nat) (y1 : Option Nat) : ∀ (n : Nat) (v2 : Int32) (σ : Mm) (kx74 : Mm → DX (Option Nat × Mm)) (C Z kc kz : Nat), FX3_word_48 h0 y1 n v2 σ kx74 = some (xo, C, Z) → kc + C ≤ mc → kz + Z ≤ ms → (∀  (σ : Mm) (C Z kc kz : Nat), kx74 σ = some (xo, C, Z) → kc + C ≤ mc → kz + Z ≤ ms → WMxr p l e s m args below meth c 6 171 mc ms 3 D dA sz0 ad0 N0 xo kc kz σ [(1, va_rf y1)] [] 74) → WMxr p l e s m args below meth c 6 171 mc ms 3 D dA sz0 ad0 N0 xo kc kz σ [(0, va_rf (some h0)), (1, va_rf y1), (2, .int v2)] [] 48 := by
  intro n
  induction n with
  | zero =>
    intro v2 σ kx74 C Z kc kz h hC hZ hkx74
    cases h
  | succ n ih =>
    intro v2 σ kx74 C Z kc kz h hC hZ hkx74
    rw [FX3_word_48] at h
    refine wm_iload_n X 2 dX3_word_48 rfl ?_
    refine wm_aload_n X 0 dX3_word_49 rfl ?_
    refine wm_gI X hS cd_3 3 h dX3_word_50 (Nat.le_of_ble_eq_true rfl) rfl q290 (fun x38 h => ?_)
    refine wm_icmp_ge X 74 h dX3_word_53 (by decide) (fun c45 h => ?_) (fun c45 h => ?_)
    · refine wm_sub (ℓ' := [(1, va_rf y1)]) [1] rfl ?_
      exact hkx74 _ _ _ _ _ h hC hZ
    · refine wm_aload_n X 1 dX3_word_56 rfl ?_
      refine wm_aload_n X 0 dX3_word_57 rfl ?_
      refine wm_gR X hS cd_3 0 h dX3_word_58 (Nat.le_of_ble_eq_true rfl) rfl q283 (fun x39 h => ?_)
      refine wm_iload_n X 2 dX3_word_61 rfl ?_
      refine wm_baload X hS h dX3_word_62 (fun x40 h => ?_)
      refine wm_i2c X dX3_word_63 ?_
      obtain ⟨q41, eq41, h⟩ := Option.bind_eq_some_iff.mp h
      obtain ⟨eq41, s42⟩ := rv_some eq41
      refine wm_dV_r (As := [.int ((x40.toUInt32 % 65536).toInt32)]) (st := []) X hS hno cd_19 s42 rfl h hC hZ (fun _ _ _ hF => ctJ5_append l hl hF) mdJ5_append mvJ5_append q776 dX3_word_64 rfl (by rw [eq41]; first | done | rfl) c1_0 (Nat.le_of_ble_eq_true rfl) ⟨Nat.le_of_ble_eq_true rfl, Nat.le_of_ble_eq_true rfl⟩ (Nat.le_refl _) (Nat.le_refl _) (fun x43 σ44 c1 z1 C Z _ h hC hZ => ?_)
      refine wm_pop X dX3_word_67 (catR _) ?_
      refine wm_iinc (v := (v2 + 1)) (ℓ' := [(2, .int (v2 + 1)), (0, va_rf (some h0)), (1, va_rf y1)]) X 2 dX3_word_68 rfl rfl (by decide) rfl ?_
      refine wm_goto X 48 dX3_word_71 (by decide) ?_
      refine wm_sub (ℓ' := [(0, va_rf (some h0)), (1, va_rf y1), (2, .int (v2 + 1))]) [1, 2, 0] rfl ?_
      exact ih _ _ _ _ _ _ _ h hC hZ hkx74
set_option maxHeartbeats 4000000 in
theorem ctX3_word (l : Launch) (hl : l.stackTraces = false) {h0 : Nat} {σ : Mm} {xo : (Option Nat × Mm) ⊕ (Nat × Mm)} {mc ms : Nat} (h : FX3_word h0 σ = some (xo, mc, ms)) : CTXr l yX3_word (ws_ yX3_word cX3_word 3 ((some (FieldType.object "java/lang/String")))) 6 171 mc ms [va_rf (some h0)] σ xo := by
  refine ctx_start (n := 0) mdX3_word (Nat.le_of_ble_eq_true rfl) (c1_r c1_0) (fun p e s m args below meth c D dA sz0 ad0 X hS hr hnm hno => ?_)
  have X : CX p s m args meth c cX3_word 3 RX3 := X
  have hC : 0 + mc ≤ mc := Nat.le_of_eq (Nat.zero_add mc)
  have hZ : 0 + ms ≤ ms := Nat.le_of_eq (Nat.zero_add ms)
  generalize mN σ = N0
  unfold FX3_word at h
  refine wm_aload_n X 0 dX3_word_0 rfl ?_
  obtain ⟨s21, h⟩ := ck_e h
  refine wm_cV_v (As := []) (st := []) X hS cd_3 s21 rfl h (fun _ hF => ctX3_blanks l hF) mdX3_blanks mvX3_blanks q728 dX3_word_1 rfl rfl c1_0 (Nat.le_of_ble_eq_true rfl) ⟨Nat.le_of_ble_eq_true rfl, Nat.le_of_ble_eq_true rfl⟩ ⟨le_p hC, le_p hZ⟩ (fun σ22 _ h => ?_)
  refine wX3_word_4 X hS hr hnm hl hno _ fu _ _ _ _ _ _ h hC hZ (fun σ C Z kc kz h hC hZ => ?_)
  · obtain ⟨C, Z, h, hC, hZ⟩ := pay_d h hC hZ
    refine wm_new X hS cd_19 h dX3_word_35 q745 q746 q142 (le_p hC) (le_p hZ) (fun x32 σ33 _ h => ?_)
    refine wm_dup X dX3_word_38 (catR _) ?_
    obtain ⟨q34, eq34, h⟩ := Option.bind_eq_some_iff.mp h
    obtain ⟨eq34, s35⟩ := rv_some eq34
    refine wm_dI_v (As := []) (st := [va_rf x32]) X hS hno miJ5_init q747 h hC hZ (fun _ _ _ hF => ctJ5_init l hl hF) mdJ5_init dX3_word_39 rfl (by rw [eq34]; first | done | rfl) (c1_r c1_0) (Nat.le_of_ble_eq_true rfl) ⟨Nat.le_of_ble_eq_true rfl, Nat.le_of_ble_eq_true rfl⟩ (Nat.le_refl _) (Nat.le_refl _) (fun σ36 c1 z1 C Z _ h hC hZ => ?_)
    refine wm_astore_n (ℓ' := [(1, va_rf x32), (0, va_rf (some h0))]) X dX3_word_42 (by decide) rfl ?_
    refine wm_aload_n X 1 dX3_word_43 rfl ?_
    refine wm_gI X hS cd_3 4 h dX3_word_44 (Nat.le_of_ble_eq_true rfl) rfl q292 (fun x37 h => ?_)
    refine wm_istore_n (ℓ' := [(2, .int x37), (1, va_rf x32), (0, va_rf (some h0))]) X dX3_word_47 (by decide) rfl ?_
    refine wm_sub (ℓ' := [(0, va_rf (some h0)), (1, va_rf x32), (2, .int x37)]) [2, 1, 0] rfl ?_
    refine wX3_word_48 X hS hr hnm hl hno _ _ fu _ _ _ _ _ _ _ h hC hZ (fun σ C Z kc kz h hC hZ => ?_)
    · refine wm_aload_n X 0 dX3_word_74 rfl ?_
      obtain ⟨q46, eq46, h⟩ := Option.bind_eq_some_iff.mp h
      obtain ⟨eq46, s47⟩ := rv_some eq46
      refine wm_dV_r (As := []) (st := []) X hS hno cd_19 s47 rfl h hC hZ (fun _ _ _ hF => ctJ5_toString l hl hF) mdJ5_toString mvJ5_toString q865 dX3_word_75 rfl (by rw [eq46]; first | done | rfl) c1_0 (Nat.le_of_ble_eq_true rfl) ⟨Nat.le_of_ble_eq_true rfl, Nat.le_of_ble_eq_true rfl⟩ (Nat.le_refl _) (Nat.le_refl _) (fun x48 σ49 c1 z1 C Z _ h hC hZ => ?_)
      exact wm_xaret X hr (Or.inl ⟨_, rfl⟩) (rt_e h) dX3_word_78 (le_p hC) (le_p hZ)
theorem mdJ12_init_3 : MD yJ12_init_3 4 := by unfold MD; decide +kernel
theorem miJ12_init_3 : MI yJ12_init_3 cJ12_init_3 5 := ⟨q1093, q149, q1094, rfl⟩
set_option maxHeartbeats 4000000 in
theorem ctJ12_init_3 (l : Launch) {h0 : Nat} {x1 : Option Nat} {x2 : Option Nat} {x3 : Int32} {x4 : Int32} {σ σf : Mm} (h : FJ12_init_3 h0 x1 x2 x3 x4 σ = some σf) : CTv l yJ12_init_3 (ws_ yJ12_init_3 cJ12_init_3 5 (none)) 1 25 0 0 [va_rf (some h0), va_rf x1, va_rf x2, .int x3, .int x4] σ σf := by
  refine ct_start (n := 4) mdJ12_init_3 (Nat.le_of_ble_eq_true rfl) (c1_r (c1_r (c1_r (c1_i (c1_i c1_0))))) (fun p e s m args below meth c D dA sz0 ad0 X hS hr hnm => ?_)
  have X : CX p s m args meth c cJ12_init_3 5 RJ12 := X
  generalize mN σ = N0
  unfold FJ12_init_3 at h
  refine wm_aload_n X 0 dJ12_init_3_0 rfl ?_
  refine wm_objInit X dJ12_init_3_1 q926 q179 q180 (Nat.le_of_ble_eq_true rfl) c1_0 (Nat.le_of_ble_eq_true rfl) (Nat.le_of_ble_eq_true rfl) ?_
  refine wm_aload_n X 0 dJ12_init_3_4 rfl ?_
  refine wm_aload_n X 0 dJ12_init_3_5 rfl ?_
  refine wm_pR X hS cd_9 0 h dJ12_init_3_6 (Nat.le_of_ble_eq_true rfl) rfl q1036 (fun r => by cases r <;> exact ⟨rfl, rfl⟩) rfl (fun σ21 _ h => ?_)
  refine wm_aload_n X 0 dJ12_init_3_9 rfl ?_
  refine wm_gstQ X hS 0 (by decide) dJ12_init_3_10 q927 ?_
  refine wm_pR X hS cd_9 1 h dJ12_init_3_13 (Nat.le_of_ble_eq_true rfl) rfl q1037 (fun r => by cases r <;> exact ⟨rfl, rfl⟩) rfl (fun σ22 _ h => ?_)
  refine wm_aload_n X 0 dJ12_init_3_16 rfl ?_
  refine wm_gstQ X hS 1 (by decide) dJ12_init_3_17 q929 ?_
  refine wm_pR X hS cd_9 2 h dJ12_init_3_20 (Nat.le_of_ble_eq_true rfl) rfl q1038 (fun r => by cases r <;> exact ⟨rfl, rfl⟩) rfl (fun σ23 _ h => ?_)
  refine wm_iload X 4 dJ12_init_3_23 rfl ?_
  refine wm_if_eq X 36 h dJ12_init_3_25 (by decide) (fun c29 h => ?_) (fun c29 h => ?_)
  · refine wm_aload_n X 0 dJ12_init_3_36 rfl ?_
    refine wm_null X dJ12_init_3_37 ?_
    refine wm_pR X hS cd_9 1 h dJ12_init_3_38 (Nat.le_of_ble_eq_true rfl) rfl q1037 (fun r => by cases r <;> exact ⟨rfl, rfl⟩) rfl (fun σ24 _ h => ?_)
    refine wm_aload_n X 0 dJ12_init_3_41 rfl ?_
    refine wm_aload_n X 1 dJ12_init_3_42 rfl ?_
    refine wm_pR X hS cd_9 3 h dJ12_init_3_43 (Nat.le_of_ble_eq_true rfl) rfl q1035 (fun r => by cases r <;> exact ⟨rfl, rfl⟩) rfl (fun σ25 _ h => ?_)
    refine wm_aload_n X 0 dJ12_init_3_46 rfl ?_
    refine wm_aload_n X 2 dJ12_init_3_47 rfl ?_
    refine wm_pR X hS cd_9 0 h dJ12_init_3_48 (Nat.le_of_ble_eq_true rfl) rfl q1036 (fun r => by cases r <;> exact ⟨rfl, rfl⟩) rfl (fun σ26 _ h => ?_)
    refine wm_iload_n X 3 dJ12_init_3_51 rfl ?_
    refine wm_if_ne X 60 h dJ12_init_3_52 (by decide) (fun c28 h => ?_) (fun c28 h => ?_)
    · exact wm_vret X hr h dJ12_init_3_60 (Nat.le_of_ble_eq_true rfl) (Nat.le_of_ble_eq_true rfl)
    · refine wm_aload_n X 0 dJ12_init_3_55 rfl ?_
      refine wm_null X dJ12_init_3_56 ?_
      refine wm_pR X hS cd_9 2 h dJ12_init_3_57 (Nat.le_of_ble_eq_true rfl) rfl q1038 (fun r => by cases r <;> exact ⟨rfl, rfl⟩) rfl (fun σ27 _ h => ?_)
      exact wm_vret X hr h dJ12_init_3_60 (Nat.le_of_ble_eq_true rfl) (Nat.le_of_ble_eq_true rfl)
  · refine wm_aload_n X 0 dJ12_init_3_28 rfl ?_
    cases h
theorem mdJ13_init_2 : MD yJ13_init_2 4 := by unfold MD; decide +kernel
theorem miJ13_init_2 : MI yJ13_init_2 cJ13_init_2 5 := ⟨q1090, q150, q1091, rfl⟩
set_option maxHeartbeats 4000000 in
theorem ctJ13_init_2 (l : Launch) {h0 : Nat} {x1 : Option Nat} {x2 : Option Nat} {x3 : Int32} {x4 : Int32} {σ σf : Mm} (h : FJ13_init_2 h0 x1 x2 x3 x4 σ = some σf) : CTv l yJ13_init_2 (ws_ yJ13_init_2 cJ13_init_2 5 (none)) 2 49 0 0 [va_rf (some h0), va_rf x1, va_rf x2, .int x3, .int x4] σ σf := by
  refine ct_start (n := 4) mdJ13_init_2 (Nat.le_of_ble_eq_true rfl) (c1_r (c1_r (c1_r (c1_i (c1_i c1_0))))) (fun p e s m args below meth c D dA sz0 ad0 X hS hr hnm => ?_)
  have X : CX p s m args meth c cJ13_init_2 5 RJ13 := X
  generalize mN σ = N0
  unfold FJ13_init_2 at h
  refine wm_aload_n X 0 dJ13_init_2_0 rfl ?_
  refine wm_aload_n X 1 dJ13_init_2_1 rfl ?_
  refine wm_aload_n X 2 dJ13_init_2_2 rfl ?_
  refine wm_iload_n X 3 dJ13_init_2_3 rfl ?_
  refine wm_iload X 4 dJ13_init_2_4 rfl ?_
  obtain ⟨s21, h⟩ := ck_e h
  refine wm_cI_v (As := [va_rf x1, va_rf x2, .int x3, .int x4]) (st := []) X hS h (fun _ hF => ctJ12_init_3 l hF) mdJ12_init_3 miJ12_init_3 q1092 dJ13_init_2_6 rfl rfl c1_0 (Nat.le_of_ble_eq_true rfl) ⟨Nat.le_of_ble_eq_true rfl, Nat.le_of_ble_eq_true rfl⟩ ⟨Nat.le_of_ble_eq_true rfl, Nat.le_of_ble_eq_true rfl⟩ (fun σ22 _ h => ?_)
  exact wm_vret X hr h dJ13_init_2_9 (Nat.le_of_ble_eq_true rfl) (Nat.le_of_ble_eq_true rfl)
theorem mdX9_init : MD yX9_init 0 := by unfold MD; decide +kernel
theorem miX9_init : MI yX9_init cX9_init 1 := ⟨q1087, q155, q1088, rfl⟩
set_option maxHeartbeats 4000000 in
theorem ctX9_init (l : Launch) {h0 : Nat} {σ σf : Mm} (h : FX9_init h0 σ = some σf) : CTv l yX9_init (ws_ yX9_init cX9_init 1 (none)) 3 73 0 0 [va_rf (some h0)] σ σf := by
  refine ct_start (n := 0) mdX9_init (Nat.le_of_ble_eq_true rfl) (c1_r c1_0) (fun p e s m args below meth c D dA sz0 ad0 X hS hr hnm => ?_)
  have X : CX p s m args meth c cX9_init 1 RX9 := X
  generalize mN σ = N0
  unfold FX9_init at h
  refine wm_aload_n X 0 dX9_init_0 rfl ?_
  refine wm_null X dX9_init_1 ?_
  refine wm_null X dX9_init_2 ?_
  refine wm_iconst (v := 0) X dX9_init_3 (by decide) ?_
  refine wm_iconst (v := 0) X dX9_init_4 (by decide) ?_
  obtain ⟨s21, h⟩ := ck_e h
  refine wm_cI_v (As := [va_rf none, va_rf none, .int 0, .int 0]) (st := []) X hS h (fun _ hF => ctJ13_init_2 l hF) mdJ13_init_2 miJ13_init_2 q1089 dX9_init_5 rfl rfl c1_0 (Nat.le_of_ble_eq_true rfl) ⟨Nat.le_of_ble_eq_true rfl, Nat.le_of_ble_eq_true rfl⟩ ⟨Nat.le_of_ble_eq_true rfl, Nat.le_of_ble_eq_true rfl⟩ (fun σ22 _ h => ?_)
  exact wm_vret X hr h dX9_init_8 (Nat.le_of_ble_eq_true rfl) (Nat.le_of_ble_eq_true rfl)
theorem mdX3_wrong : MD yX3_wrong 0 := by unfold MD; decide +kernel
theorem mvX3_wrong : MV yX3_wrong cX3_wrong 1 ((some (FieldType.object "HungFaces$Wrong"))) := ⟨q1074, q1075, q131, q1076⟩
set_option maxHeartbeats 4000000 in
theorem ctX3_wrong (l : Launch) {h0 : Nat} {σ σf : Mm} {r : Option Nat} (h : FX3_wrong h0 σ = some (r, σf)) : CTr l yX3_wrong (ws_ yX3_wrong cX3_wrong 1 ((some (FieldType.object "HungFaces$Wrong")))) 4 93 1 6 [va_rf (some h0)] σ r σf := by
  refine ct_start (n := 0) mdX3_wrong (Nat.le_of_ble_eq_true rfl) (c1_r c1_0) (fun p e s m args below meth c D dA sz0 ad0 X hS hr hnm => ?_)
  have X : CX p s m args meth c cX3_wrong 1 RX3 := X
  generalize mN σ = N0
  unfold FX3_wrong at h
  refine wm_new X hS cd_9 h dX3_wrong_0 q1077 q1078 q155 (Nat.le_of_ble_eq_true rfl) (Nat.le_of_ble_eq_true rfl) (fun x21 σ22 _ h => ?_)
  refine wm_dup X dX3_wrong_3 (catR _) ?_
  obtain ⟨q23, eq23, h⟩ := Option.bind_eq_some_iff.mp h
  obtain ⟨eq23, s24⟩ := rv_some eq23
  refine wm_cI_v (As := []) (st := [va_rf x21]) X hS h (fun _ hF => ctX9_init l hF) mdX9_init miX9_init q1086 dX3_wrong_4 rfl (by rw [eq23]; first | done | rfl) (c1_r c1_0) (Nat.le_of_ble_eq_true rfl) ⟨Nat.le_of_ble_eq_true rfl, Nat.le_of_ble_eq_true rfl⟩ ⟨Nat.le_of_ble_eq_true rfl, Nat.le_of_ble_eq_true rfl⟩ (fun σ25 _ h => ?_)
  exact wm_aret X hr (Or.inl ⟨_, rfl⟩) h dX3_wrong_7 (Nat.le_of_ble_eq_true rfl) (Nat.le_of_ble_eq_true rfl)
theorem mdX1_noMore : MD yX1_noMore 2 := by unfold MD; decide +kernel
theorem mvX1_noMore : MV yX1_noMore cX1_noMore 3 (none) := ⟨q738, qs14, q128, q739⟩
set_option maxHeartbeats 4000000 in
theorem ctX1_noMore (l : Launch) (hl : l.stackTraces = false) {h0 : Nat} {x1 : Int32} {x2 : Int32} {σ : Mm} {xo : Mm ⊕ (Nat × Mm)} {mc ms : Nat} (h : FX1_noMore h0 x1 x2 σ = some (xo, mc, ms)) : CTXv l yX1_noMore (ws_ yX1_noMore cX1_noMore 3 (none)) 7 193 mc ms [va_rf (some h0), .int x1, .int x2] σ xo := by
  refine ctx_start (n := 2) mdX1_noMore (Nat.le_of_ble_eq_true rfl) (c1_r (c1_i (c1_i c1_0))) (fun p e s m args below meth c D dA sz0 ad0 X hS hr hnm hno => ?_)
  have X : CX p s m args meth c cX1_noMore 3 RX1 := X
  have hC : 0 + mc ≤ mc := Nat.le_of_eq (Nat.zero_add mc)
  have hZ : 0 + ms ≤ ms := Nat.le_of_eq (Nat.zero_add ms)
  generalize mN σ = N0
  unfold FX1_noMore at h
  refine wm_iload_n X 1 dX1_noMore_0 rfl ?_
  refine wm_iload_n X 2 dX1_noMore_1 rfl ?_
  refine wm_icmp_ge X 6 h dX1_noMore_2 (by decide) (fun c31 h => ?_) (fun c31 h => ?_)
  · refine wm_aload_n X 0 dX1_noMore_6 rfl ?_
    refine wm_gR X hS cd_1 4 h dX1_noMore_7 (Nat.le_of_ble_eq_true rfl) rfl q441 (fun x21 h => ?_)
    obtain ⟨q22, eq22, h⟩ := Option.bind_eq_some_iff.mp h
    obtain ⟨eq22, s23⟩ := rv_some eq22
    refine wm_dV_r (As := []) (st := []) X hS hno cd_3 s23 rfl h hC hZ (fun _ _ _ hF => ctX3_word l hl hF) mdX3_word mvX3_word q740 dX1_noMore_10 rfl (by rw [eq22]; first | done | rfl) c1_0 (Nat.le_of_ble_eq_true rfl) ⟨Nat.le_of_ble_eq_true rfl, Nat.le_of_ble_eq_true rfl⟩ (Nat.le_refl _) (Nat.le_refl _) (fun x24 σ25 c1 z1 C Z _ h hC hZ => ?_)
    refine wm_pop X dX1_noMore_13 (catR _) ?_
    refine wm_aload_n X 0 dX1_noMore_14 rfl ?_
    refine wm_gR X hS cd_1 4 h dX1_noMore_15 (Nat.le_of_ble_eq_true rfl) rfl q441 (fun x26 h => ?_)
    obtain ⟨q27, eq27, h⟩ := Option.bind_eq_some_iff.mp h
    obtain ⟨eq27, s28⟩ := rv_some eq27
    obtain ⟨C, Z, h, hC, hZ⟩ := pay_d h hC hZ
    refine wm_cV_r (As := []) (st := []) X hS cd_3 s28 rfl h (fun _ _ hF => ctX3_wrong l hF) mdX3_wrong mvX3_wrong q1073 dX1_noMore_18 rfl (by rw [eq27]; first | done | rfl) c1_0 (Nat.le_of_ble_eq_true rfl) ⟨Nat.le_of_ble_eq_true rfl, Nat.le_of_ble_eq_true rfl⟩ ⟨le_p hC, le_p hZ⟩ (fun x29 σ30 _ h => ?_)
    exact wm_athrowW X hS hno (thrd_e h) dX1_noMore_21 (le_p hC) (le_p hZ)
  · exact wm_xvret X hr (rt_e h) dX1_noMore_5 (le_p hC) (le_p hZ)
theorem mdX1_marksTold : MD yX1_marksTold 0 := by unfold MD; decide +kernel
theorem mvX1_marksTold : MV yX1_marksTold cX1_marksTold 5 ((some FieldType.int)) := ⟨q1183, qs18, q128, q1184⟩
set_option maxHeartbeats 4000000 in
theorem wX1_marksTold_13 {p : Program} {l : Launch} {e : Env} {s : State} {m : MethodId} {args : Array Value} {below : List Frame} {meth : Method} {c : Code} {D : va_G} {dA : Nat → ClassId} {sz0 : Nat} {ad0 : Nat → Nat} {N0 : Nat} {xo : (Int32 × Mm) ⊕ (Nat × Mm)} {mc ms : Nat} (X : CX p s m args meth c cX1_marksTold 5 RX1) (hS : ST D dA sz0 ad0 s) (hr : meth.sig.returnType = (some FieldType.int)) (hnm : meth.name = yX1_marksTold.name) (hl : l.stackTraces = false) (hno : ∀ x ∈ c.exceptionTable.toList, False) (y1 : Option Nat) : ∀ (n : Nat) (v2 : Int32) (v3 : Int32) (σ : Mm) (kx109 : Int32 → Int32 → Mm → DX (Int32 × Mm)) (C Z kc kz : Nat), FX1_marksTold_13 y1 n v2 v3 σ kx109 = some (xo, C, Z) → kc + C ≤ mc → kz + Z ≤ ms → (∀ (w2 : Int32) (w3 : Int32) (σ : Mm) (C Z kc kz : Nat), kx109 w2 w3 σ = some (xo, C, Z) → kc + C ≤ mc → kz + Z ≤ ms → WMxi p l e s m args below meth c 5 113 mc ms 5 D dA sz0 ad0 N0 xo kc kz σ [(1, va_rf y1), (2, .int w2), (3, .int w3)] [] 109) → WMxi p l e s m args below meth c 5 113 mc ms 5 D dA sz0 ad0 N0 xo kc kz σ [(1, va_rf y1), (2, .int v2), (3, .int v3)] [] 13 := by
  intro n
  induction n with
  | zero =>
    intro v2 v3 σ kx109 C Z kc kz h hC hZ hkx109
    cases h
  | succ n ih =>
    intro v2 v3 σ kx109 C Z kc kz h hC hZ hkx109
    rw [FX1_marksTold_13] at h
    refine wm_aload_n X 0 dX1_marksTold_13 rfl ?_
    refine wm_aload_n X 0 dX1_marksTold_14 rfl ?_
    refine wm_gIN X hS cd_3 3 h dX1_marksTold_15 (Nat.le_of_ble_eq_true rfl) rfl 23 rfl (fun x25 h => ?_)
    obtain ⟨q26, eq26, h⟩ := Option.bind_eq_some_iff.mp h
    obtain ⟨eq26, s27⟩ := rv_some eq26
    refine wm_cVN_i (As := [.int x25]) (st := []) X hS cd_3 s27 rfl h (fun _ _ hF => ctX3_byteAt l hF) mdX3_byteAt mvX3_byteAt 40 rfl dX1_marksTold_18 rfl (by rw [eq26]; first | done | rfl) c1_0 (Nat.le_of_ble_eq_true rfl) ⟨Nat.le_of_ble_eq_true rfl, Nat.le_of_ble_eq_true rfl⟩ ⟨le_p hC, le_p hZ⟩ (fun x28 σ29 _ h => ?_)
    refine wm_bipush (v := 48) X dX1_marksTold_21 (by decide) ?_
    refine wm_bipush (v := 57) X dX1_marksTold_23 (by decide) ?_
    refine wm_cS_i (As := [.int x28, .int 48, .int 57]) (st := []) X hS h (fun _ _ hF => ctX1_in l hF) mdX1_in msX1_in q625 dX1_marksTold_25 rfl rfl c1_0 (Nat.le_of_ble_eq_true rfl) ⟨Nat.le_of_ble_eq_true rfl, Nat.le_of_ble_eq_true rfl⟩ ⟨le_p hC, le_p hZ⟩ (fun x30 σ31 _ h => ?_)
    refine wm_if_eq X 109 h dX1_marksTold_28 (by decide) (fun c53 h => ?_) (fun c53 h => ?_)
    · exact hkx109 _ _ _ _ _ _ _ h hC hZ
    · refine wm_aload_n X 0 dX1_marksTold_31 rfl ?_
      refine wm_gIN X hS cd_3 3 h dX1_marksTold_32 (Nat.le_of_ble_eq_true rfl) rfl 23 rfl (fun x32 h => ?_)
      refine wm_aload_n X 0 dX1_marksTold_35 rfl ?_
      refine wm_gIN X hS cd_3 4 h dX1_marksTold_36 (Nat.le_of_ble_eq_true rfl) rfl 24 rfl (fun x33 h => ?_)
      refine wm_isub X dX1_marksTold_39 ?_
      refine wm_istore (ℓ' := [(4, .int (x32 - x33)), (1, va_rf y1), (2, .int v2), (3, .int v3)]) X dX1_marksTold_40 (by decide) rfl ?_
      refine wm_iload_n X 3 dX1_marksTold_42 rfl ?_
      obtain ⟨J71, eJ71, h⟩ := jn_e h
      have hJ71 : ∀ (z34 : Int32) (σ : Mm) (C Z kc kz : Nat), J71 z34 σ = some (xo, C, Z) → kc + C ≤ mc → kz + Z ≤ ms → WMxi p l e s m args below meth c 5 113 mc ms 5 D dA sz0 ad0 N0 xo kc kz σ [(1, va_rf y1), (2, .int v2), (4, .int (x32 - x33))] [.int z34] 71 := by
        intro z34 σ C Z kc kz h hC hZ
        rw [eJ71] at h
        refine wm_istore_n (ℓ' := [(3, .int z34), (1, va_rf y1), (2, .int v2), (4, .int (x32 - x33))]) X dX1_marksTold_71 (by decide) rfl ?_
        refine wm_iload_n X 0 dX1_marksTold_72 rfl ?_
        obtain ⟨J96, eJ96, h⟩ := jn_e h
        have hJ96 : ∀ (x35 : Int32) (σ : Mm) (C Z kc kz : Nat), J96 x35 σ = some (xo, C, Z) → kc + C ≤ mc → kz + Z ≤ ms → WMxi p l e s m args below meth c 5 113 mc ms 5 D dA sz0 ad0 N0 xo kc kz σ [(1, va_rf y1), (2, .int x35), (3, .int z34)] [] 96 := by
          intro x35 σ C Z kc kz h hC hZ
          rw [eJ96] at h
          refine wm_aload_n X 0 dX1_marksTold_96 rfl ?_
          refine wm_dup X dX1_marksTold_97 (catR _) ?_
          refine wm_gIN X hS cd_3 3 h dX1_marksTold_98 (Nat.le_of_ble_eq_true rfl) rfl 23 rfl (fun x36 h => ?_)
          refine wm_iconst (v := 1) X dX1_marksTold_101 (by decide) ?_
          refine wm_iadd X dX1_marksTold_102 ?_
          refine wm_pIN X hS cd_3 3 h dX1_marksTold_103 (Nat.le_of_ble_eq_true rfl) rfl 23 rfl rfl rfl (fun σ37 _ h => ?_)
          refine wm_goto X 13 dX1_marksTold_106 (by decide) ?_
          exact ih _ _ _ _ _ _ _ _ h hC hZ hkx109
        clear eJ96
        refine wm_if_eq X 96 h dX1_marksTold_73 (by decide) (fun c44 h => ?_) (fun c44 h => ?_)
        · refine wm_sub (ℓ' := [(1, va_rf y1), (2, .int v2), (3, .int z34)]) [1, 2, 0] rfl ?_
          exact hJ96 _ _ _ _ _ _ h hC hZ
        · refine wm_aload_n X 1 dX1_marksTold_76 rfl ?_
          refine wm_aload_n X 1 dX1_marksTold_77 rfl ?_
          refine wm_gIN X hS cd_3 3 h dX1_marksTold_78 (Nat.le_of_ble_eq_true rfl) rfl 23 rfl (fun x38 h => ?_)
          obtain ⟨q39, eq39, h⟩ := Option.bind_eq_some_iff.mp h
          obtain ⟨eq39, s40⟩ := rv_some eq39
          refine wm_cVN_i (As := [.int x38]) (st := []) X hS cd_3 s40 rfl h (fun _ _ hF => ctX3_byteAt l hF) mdX3_byteAt mvX3_byteAt 40 rfl dX1_marksTold_81 rfl (by rw [eq39]; first | done | rfl) c1_0 (Nat.le_of_ble_eq_true rfl) ⟨Nat.le_of_ble_eq_true rfl, Nat.le_of_ble_eq_true rfl⟩ ⟨le_p hC, le_p hZ⟩ (fun x41 σ42 _ h => ?_)
          refine wm_bipush (v := 49) X dX1_marksTold_84 (by decide) ?_
          refine wm_icmp_ne X 96 h dX1_marksTold_86 (by decide) (fun c43 h => ?_) (fun c43 h => ?_)
          · refine wm_sub (ℓ' := [(1, va_rf y1), (2, .int v2), (3, .int z34)]) [1, 2, 0] rfl ?_
            exact hJ96 _ _ _ _ _ _ h hC hZ
          · refine wm_iload_n X 2 dX1_marksTold_89 rfl ?_
            refine wm_iconst (v := 1) X dX1_marksTold_90 (by decide) ?_
            refine wm_iload X 3 dX1_marksTold_91 rfl ?_
            refine wm_ishl X dX1_marksTold_93 ?_
            refine wm_ior X dX1_marksTold_94 ?_
            refine wm_istore_n (ℓ' := [(2, .int (v2 ||| (1 <<< ((x32 - x33) &&& 31)))), (3, .int z34), (1, va_rf y1), (4, .int (x32 - x33))]) X dX1_marksTold_95 (by decide) rfl ?_
            refine wm_sub (ℓ' := [(1, va_rf y1), (2, .int (v2 ||| (1 <<< ((x32 - x33) &&& 31)))), (3, .int z34)]) [2, 0, 1] rfl ?_
            exact hJ96 _ _ _ _ _ _ h hC hZ
      clear eJ71
      refine wm_if_eq X 70 h dX1_marksTold_43 (by decide) (fun c52 h => ?_) (fun c52 h => ?_)
      · refine wm_iconst (v := 0) X dX1_marksTold_70 (by decide) ?_
        refine wm_sub (ℓ' := [(1, va_rf y1), (2, .int v2), (4, .int (x32 - x33))]) [1, 2, 0] rfl ?_
        exact hJ71 _ _ _ _ _ _ h hC hZ
      · refine wm_iload X 0 dX1_marksTold_46 rfl ?_
        refine wm_bipush (v := 8) X dX1_marksTold_48 (by decide) ?_
        refine wm_icmp_ge X 70 h dX1_marksTold_50 (by decide) (fun c51 h => ?_) (fun c51 h => ?_)
        · refine wm_iconst (v := 0) X dX1_marksTold_70 (by decide) ?_
          refine wm_sub (ℓ' := [(1, va_rf y1), (2, .int v2), (4, .int (x32 - x33))]) [1, 2, 0] rfl ?_
          exact hJ71 _ _ _ _ _ _ h hC hZ
        · refine wm_aload_n X 1 dX1_marksTold_53 rfl ?_
          refine wm_aload_n X 1 dX1_marksTold_54 rfl ?_
          refine wm_gIN X hS cd_3 3 h dX1_marksTold_55 (Nat.le_of_ble_eq_true rfl) rfl 23 rfl (fun x45 h => ?_)
          obtain ⟨q46, eq46, h⟩ := Option.bind_eq_some_iff.mp h
          obtain ⟨eq46, s47⟩ := rv_some eq46
          refine wm_cVN_i (As := [.int x45]) (st := []) X hS cd_3 s47 rfl h (fun _ _ hF => ctX3_byteAt l hF) mdX3_byteAt mvX3_byteAt 40 rfl dX1_marksTold_58 rfl (by rw [eq46]; first | done | rfl) c1_0 (Nat.le_of_ble_eq_true rfl) ⟨Nat.le_of_ble_eq_true rfl, Nat.le_of_ble_eq_true rfl⟩ ⟨le_p hC, le_p hZ⟩ (fun x48 σ49 _ h => ?_)
          refine wm_bipush (v := 49) X dX1_marksTold_61 (by decide) ?_
          refine wm_icmp_gt X 70 h dX1_marksTold_63 (by decide) (fun c50 h => ?_) (fun c50 h => ?_)
          · refine wm_iconst (v := 0) X dX1_marksTold_70 (by decide) ?_
            refine wm_sub (ℓ' := [(1, va_rf y1), (2, .int v2), (4, .int (x32 - x33))]) [1, 2, 0] rfl ?_
            exact hJ71 _ _ _ _ _ _ h hC hZ
          · refine wm_iconst (v := 1) X dX1_marksTold_66 (by decide) ?_
            refine wm_goto X 71 dX1_marksTold_67 (by decide) ?_
            refine wm_sub (ℓ' := [(1, va_rf y1), (2, .int v2), (4, .int (x32 - x33))]) [1, 2, 0] rfl ?_
            exact hJ71 _ _ _ _ _ _ h hC hZ
set_option maxHeartbeats 4000000 in
theorem ctX1_marksTold (l : Launch) (hl : l.stackTraces = false) {h0 : Nat} {σ : Mm} {xo : (Int32 × Mm) ⊕ (Nat × Mm)} {mc ms : Nat} (h : FX1_marksTold h0 σ = some (xo, mc, ms)) : CTXi l yX1_marksTold (ws_ yX1_marksTold cX1_marksTold 5 ((some FieldType.int))) 5 113 mc ms [va_rf (some h0)] σ xo := by
  refine ctx_start (n := 0) mdX1_marksTold (Nat.le_of_ble_eq_true rfl) (c1_r c1_0) (fun p e s m args below meth c D dA sz0 ad0 X hS hr hnm hno => ?_)
  have X : CX p s m args meth c cX1_marksTold 5 RX1 := X
  have hC : 0 + mc ≤ mc := Nat.le_of_eq (Nat.zero_add mc)
  have hZ : 0 + ms ≤ ms := Nat.le_of_eq (Nat.zero_add ms)
  generalize mN σ = N0
  unfold FX1_marksTold at h
  refine wm_aload_n X 0 dX1_marksTold_0 rfl ?_
  refine wm_gR X hS cd_1 4 h dX1_marksTold_1 (Nat.le_of_ble_eq_true rfl) rfl q441 (fun x21 h => ?_)
  refine wm_astore_n (ℓ' := [(1, va_rf x21), (0, va_rf (some h0))]) X dX1_marksTold_4 (by decide) rfl ?_
  refine wm_aload_n X 0 dX1_marksTold_5 rfl ?_
  obtain ⟨q22, eq22, h⟩ := Option.bind_eq_some_iff.mp h
  obtain ⟨eq22, s23⟩ := rv_some eq22
  refine wm_cV_v (As := []) (st := []) X hS cd_3 s23 rfl h (fun _ hF => ctX3_blanks l hF) mdX3_blanks mvX3_blanks q1185 dX1_marksTold_6 rfl (by rw [eq22]; first | done | rfl) c1_0 (Nat.le_of_ble_eq_true rfl) ⟨Nat.le_of_ble_eq_true rfl, Nat.le_of_ble_eq_true rfl⟩ ⟨le_p hC, le_p hZ⟩ (fun σ24 _ h => ?_)
  refine wm_iconst (v := 0) X dX1_marksTold_9 (by decide) ?_
  refine wm_istore_n (ℓ' := [(2, .int 0), (1, va_rf x21), (0, va_rf (some h0))]) X dX1_marksTold_10 (by decide) rfl ?_
  refine wm_iconst (v := 1) X dX1_marksTold_11 (by decide) ?_
  refine wm_istore_n (ℓ' := [(3, .int 1), (2, .int 0), (1, va_rf x21), (0, va_rf (some h0))]) X dX1_marksTold_12 (by decide) rfl ?_
  refine wm_sub (ℓ' := [(1, va_rf x21), (2, .int 0), (3, .int 1)]) [2, 1, 0] rfl ?_
  refine wX1_marksTold_13 X hS hr hnm hl hno _ fu _ _ _ _ _ _ _ _ h hC hZ (fun x54 x55 σ C Z kc kz h hC hZ => ?_)
  · refine wm_iload_n X 2 dX1_marksTold_109 rfl ?_
    obtain ⟨J127, eJ127, h⟩ := jn_e h
    have hJ127 : ∀  (σ : Mm) (C Z kc kz : Nat), J127  σ = some (xo, C, Z) → kc + C ≤ mc → kz + Z ≤ ms → WMxi p l e s m args below meth c 5 113 mc ms 5 D dA sz0 ad0 N0 xo kc kz σ [(1, va_rf x21)] [] 127 := by
      intro  σ C Z kc kz h hC hZ
      rw [eJ127] at h
      refine wm_aload_n X 0 dX1_marksTold_127 rfl ?_
      obtain ⟨q56, eq56, h⟩ := Option.bind_eq_some_iff.mp h
      obtain ⟨eq56, s57⟩ := rv_some eq56
      obtain ⟨C, Z, h, hC, hZ⟩ := pay_d h hC hZ
      refine wm_cV_r (As := []) (st := []) X hS cd_3 s57 rfl h (fun _ _ hF => ctX3_wrong l hF) mdX3_wrong mvX3_wrong q1073 dX1_marksTold_128 rfl (by rw [eq56]; first | done | rfl) c1_0 (Nat.le_of_ble_eq_true rfl) ⟨Nat.le_of_ble_eq_true rfl, Nat.le_of_ble_eq_true rfl⟩ ⟨le_p hC, le_p hZ⟩ (fun x58 σ59 _ h => ?_)
      exact wm_athrowW X hS hno (thrd_e h) dX1_marksTold_131 (le_p hC) (le_p hZ)
    clear eJ127
    refine wm_if_eq X 127 h dX1_marksTold_110 (by decide) (fun c63 h => ?_) (fun c63 h => ?_)
    · refine wm_sub (ℓ' := [(1, va_rf x21)]) [0] rfl ?_
      exact hJ127 _ _ _ _ _ h hC hZ
    · refine wm_aload_n X 0 dX1_marksTold_113 rfl ?_
      refine wm_gIN X hS cd_3 3 h dX1_marksTold_114 (Nat.le_of_ble_eq_true rfl) rfl 23 rfl (fun x60 h => ?_)
      refine wm_aload_n X 0 dX1_marksTold_117 rfl ?_
      refine wm_gIN X hS cd_3 4 h dX1_marksTold_118 (Nat.le_of_ble_eq_true rfl) rfl 24 rfl (fun x61 h => ?_)
      refine wm_isub X dX1_marksTold_121 ?_
      refine wm_bipush (v := 8) X dX1_marksTold_122 (by decide) ?_
      refine wm_icmp_eq X 132 h dX1_marksTold_124 (by decide) (fun c62 h => ?_) (fun c62 h => ?_)
      · refine wm_iload_n X 1 dX1_marksTold_132 rfl ?_
        exact wm_xiret X hr (rt_e h) dX1_marksTold_133 (le_p hC) (le_p hZ)
      · refine wm_sub (ℓ' := [(1, va_rf x21)]) [0] rfl ?_
        exact hJ127 _ _ _ _ _ h hC hZ
theorem mdX2_isTold : MD yX2_isTold 2 := by unfold MD; decide +kernel
theorem mvX2_isTold : MV yX2_isTold cX2_isTold 4 ((some FieldType.boolean)) := ⟨q1192, q1193, q129, q1194⟩
set_option maxHeartbeats 4000000 in
theorem wX2_isTold_2 {p : Program} {l : Launch} {e : Env} {s : State} {m : MethodId} {args : Array Value} {below : List Frame} {meth : Method} {c : Code} {D : va_G} {dA : Nat → ClassId} {sz0 : Nat} {ad0 : Nat → Nat} {N0 : Nat} {r : Int32} {σf : Mm} (X : CX p s m args meth c cX2_isTold 4 RX2) (hS : ST D dA sz0 ad0 s) (hr : meth.sig.returnType = (some FieldType.boolean)) (hnm : meth.name = yX2_isTold.name) (h0 : Nat) (y1 : Int32) (y2 : Int32) : ∀ (n : Nat) (v3 : Int32) (σ : Mm) (kx35 : Mm → Option (Int32 × Mm)) (kx27 : Mm → Option (Int32 × Mm)), FX2_isTold_2 h0 y1 y2 n v3 σ kx35 kx27 = some (r, σf) → (∀  (σ : Mm), kx35 σ = some (r, σf) → WMi p l e s m args below meth c 0 0 0 0 4 D dA sz0 ad0 N0 r σf 0 0 σ [] [] 35) → (∀  (σ : Mm), kx27 σ = some (r, σf) → WMi p l e s m args below meth c 0 0 0 0 4 D dA sz0 ad0 N0 r σf 0 0 σ [] [] 27) → WMi p l e s m args below meth c 0 0 0 0 4 D dA sz0 ad0 N0 r σf 0 0 σ [(0, va_rf (some h0)), (1, .int y1), (2, .int y2), (3, .int v3)] [] 2 := by
  intro n
  induction n with
  | zero =>
    intro v3 σ kx35 kx27 h hkx35 hkx27
    cases h
  | succ n ih =>
    intro v3 σ kx35 kx27 h hkx35 hkx27
    rw [FX2_isTold_2] at h
    refine wm_iload_n X 3 dX2_isTold_2 rfl ?_
    refine wm_aload_n X 0 dX2_isTold_3 rfl ?_
    refine wm_gR X hS cd_2 16 h dX2_isTold_4 (Nat.le_of_ble_eq_true rfl) rfl q227 (fun x21 h => ?_)
    refine wm_iload_n X 1 dX2_isTold_7 rfl ?_
    refine wm_iaload X hS h dX2_isTold_8 (fun x22 h => ?_)
    refine wm_icmp_ge X 35 h dX2_isTold_9 (by decide) (fun c26 h => ?_) (fun c26 h => ?_)
    · refine wm_sub (ℓ' := []) [] rfl ?_
      exact hkx35 _ h
    · refine wm_aload_n X 0 dX2_isTold_12 rfl ?_
      refine wm_gR X hS cd_2 15 h dX2_isTold_13 (Nat.le_of_ble_eq_true rfl) rfl q224 (fun x23 h => ?_)
      refine wm_bipush (v := 10) X dX2_isTold_16 (by decide) ?_
      refine wm_iload_n X 1 dX2_isTold_18 rfl ?_
      refine wm_imul X dX2_isTold_19 ?_
      refine wm_iload_n X 3 dX2_isTold_20 rfl ?_
      refine wm_iadd X dX2_isTold_21 ?_
      refine wm_iaload X hS h dX2_isTold_22 (fun x24 h => ?_)
      refine wm_iload_n X 2 dX2_isTold_23 rfl ?_
      refine wm_icmp_ne X 29 h dX2_isTold_24 (by decide) (fun c25 h => ?_) (fun c25 h => ?_)
      · refine wm_iinc (v := (v3 + 1)) (ℓ' := [(3, .int (v3 + 1)), (0, va_rf (some h0)), (1, .int y1), (2, .int y2)]) X 3 dX2_isTold_29 rfl rfl (by decide) rfl ?_
        refine wm_goto X 2 dX2_isTold_32 (by decide) ?_
        refine wm_sub (ℓ' := [(0, va_rf (some h0)), (1, .int y1), (2, .int y2), (3, .int (v3 + 1))]) [1, 2, 3, 0] rfl ?_
        exact ih _ _ _ _ h hkx35 hkx27
      · refine wm_sub (ℓ' := []) [] rfl ?_
        exact hkx27 _ h
set_option maxHeartbeats 4000000 in
theorem ctX2_isTold (l : Launch) {h0 : Nat} {x1 : Int32} {x2 : Int32} {σ σf : Mm} {r : Int32} (h : FX2_isTold h0 x1 x2 σ = some (r, σf)) : CTi l yX2_isTold (ws_ yX2_isTold cX2_isTold 4 ((some FieldType.boolean))) 0 0 0 0 [va_rf (some h0), .int x1, .int x2] σ r σf := by
  refine ct_start (n := 2) mdX2_isTold (Nat.le_of_ble_eq_true rfl) (c1_r (c1_i (c1_i c1_0))) (fun p e s m args below meth c D dA sz0 ad0 X hS hr hnm => ?_)
  have X : CX p s m args meth c cX2_isTold 4 RX2 := X
  generalize mN σ = N0
  unfold FX2_isTold at h
  refine wm_iconst (v := 0) X dX2_isTold_0 (by decide) ?_
  refine wm_istore_n (ℓ' := [(3, .int 0), (0, va_rf (some h0)), (1, .int x1), (2, .int x2)]) X dX2_isTold_1 (by decide) rfl ?_
  refine wm_sub (ℓ' := [(0, va_rf (some h0)), (1, .int x1), (2, .int x2), (3, .int 0)]) [1, 2, 3, 0] rfl ?_
  refine wX2_isTold_2 X hS hr hnm _ _ _ fu _ _ _ _ h (fun σ h => ?_) (fun σ h => ?_)
  · refine wm_iconst (v := 0) X dX2_isTold_35 (by decide) ?_
    exact wm_zret X hr h dX2_isTold_36 (Nat.le_of_ble_eq_true rfl) (Nat.le_of_ble_eq_true rfl)
  · refine wm_iconst (v := 1) X dX2_isTold_27 (by decide) ?_
    exact wm_zret X hr h dX2_isTold_28 (Nat.le_of_ble_eq_true rfl) (Nat.le_of_ble_eq_true rfl)
theorem mdX2_fillsWishes : MD yX2_fillsWishes 1 := by unfold MD; decide +kernel
theorem mvX2_fillsWishes : MV yX2_fillsWishes cX2_fillsWishes 4 (none) := ⟨q1188, q1189, q129, q1190⟩
set_option maxHeartbeats 4000000 in
theorem wX2_fillsWishes_9 {p : Program} {l : Launch} {e : Env} {s : State} {m : MethodId} {args : Array Value} {below : List Frame} {meth : Method} {c : Code} {D : va_G} {dA : Nat → ClassId} {sz0 : Nat} {ad0 : Nat → Nat} {N0 : Nat} {σf : Mm} (X : CX p s m args meth c cX2_fillsWishes 4 RX2) (hS : ST D dA sz0 ad0 s) (hr : meth.sig.returnType = none) (hnm : meth.name = yX2_fillsWishes.name) (h0 : Nat) (y1 : Int32) : ∀ (n : Nat) (v2 : Int32) (v3 : Int32) (σ : Mm) (kx50 : Mm → Option (Mm)), FX2_fillsWishes_9 h0 y1 n v2 v3 σ kx50 = some σf → (∀  (σ : Mm), kx50 σ = some σf → WMv p l e s m args below meth c 1 23 0 0 4 D dA sz0 ad0 N0 σf 0 0 σ [] [] 50) → WMv p l e s m args below meth c 1 23 0 0 4 D dA sz0 ad0 N0 σf 0 0 σ [(0, va_rf (some h0)), (1, .int y1), (2, .int v2), (3, .int v3)] [] 9 := by
  intro n
  induction n with
  | zero =>
    intro v2 v3 σ kx50 h hkx50
    cases h
  | succ n ih =>
    intro v2 v3 σ kx50 h hkx50
    rw [FX2_fillsWishes_9] at h
    refine wm_iload_n X 3 dX2_fillsWishes_9 rfl ?_
    refine wm_aload_n X 0 dX2_fillsWishes_10 rfl ?_
    refine wm_gI X hS cd_2 1 h dX2_fillsWishes_11 (Nat.le_of_ble_eq_true rfl) rfl q192 (fun x23 h => ?_)
    refine wm_icmp_ge X 50 h dX2_fillsWishes_14 (by decide) (fun c30 h => ?_) (fun c30 h => ?_)
    · refine wm_sub (ℓ' := []) [] rfl ?_
      exact hkx50 _ h
    · refine wm_aload_n X 0 dX2_fillsWishes_17 rfl ?_
      refine wm_iload_n X 1 dX2_fillsWishes_18 rfl ?_
      refine wm_iload_n X 3 dX2_fillsWishes_19 rfl ?_
      obtain ⟨s24, h⟩ := ck_e h
      refine wm_cV_i (As := [.int y1, .int v3]) (st := []) X hS cd_2 s24 rfl h (fun _ _ hF => ctX2_isTold l hF) mdX2_isTold mvX2_isTold q1191 dX2_fillsWishes_20 rfl rfl c1_0 (Nat.le_of_ble_eq_true rfl) ⟨Nat.le_of_ble_eq_true rfl, Nat.le_of_ble_eq_true rfl⟩ ⟨Nat.le_of_ble_eq_true rfl, Nat.le_of_ble_eq_true rfl⟩ (fun x25 σ26 _ h => ?_)
      refine wm_if_eq X 29 h dX2_fillsWishes_23 (by decide) (fun c29 h => ?_) (fun c29 h => ?_)
      · refine wm_aload_n X 0 dX2_fillsWishes_29 rfl ?_
        refine wm_gR X hS cd_2 15 h dX2_fillsWishes_30 (Nat.le_of_ble_eq_true rfl) rfl q224 (fun x27 h => ?_)
        refine wm_bipush (v := 10) X dX2_fillsWishes_33 (by decide) ?_
        refine wm_iload_n X 1 dX2_fillsWishes_35 rfl ?_
        refine wm_imul X dX2_fillsWishes_36 ?_
        refine wm_iload_n X 2 dX2_fillsWishes_37 rfl ?_
        refine wm_iadd X dX2_fillsWishes_38 ?_
        refine wm_iload_n X 3 dX2_fillsWishes_39 rfl ?_
        refine wm_iastore X hS h dX2_fillsWishes_40 (fun σ28 _ h => ?_)
        refine wm_iinc (v := (v2 + 1)) (ℓ' := [(2, .int (v2 + 1)), (0, va_rf (some h0)), (1, .int y1), (3, .int v3)]) X 2 dX2_fillsWishes_41 rfl rfl (by decide) rfl ?_
        refine wm_iinc (v := (v3 + 1)) (ℓ' := [(3, .int (v3 + 1)), (2, .int (v2 + 1)), (0, va_rf (some h0)), (1, .int y1)]) X 3 dX2_fillsWishes_44 rfl rfl (by decide) rfl ?_
        refine wm_goto X 9 dX2_fillsWishes_47 (by decide) ?_
        refine wm_sub (ℓ' := [(0, va_rf (some h0)), (1, .int y1), (2, .int (v2 + 1)), (3, .int (v3 + 1))]) [2, 3, 1, 0] rfl ?_
        exact ih _ _ _ _ h hkx50
      · refine wm_goto X 44 dX2_fillsWishes_26 (by decide) ?_
        refine wm_iinc (v := (v3 + 1)) (ℓ' := [(3, .int (v3 + 1)), (0, va_rf (some h0)), (1, .int y1), (2, .int v2)]) X 3 dX2_fillsWishes_44 rfl rfl (by decide) rfl ?_
        refine wm_goto X 9 dX2_fillsWishes_47 (by decide) ?_
        refine wm_sub (ℓ' := [(0, va_rf (some h0)), (1, .int y1), (2, .int v2), (3, .int (v3 + 1))]) [1, 2, 3, 0] rfl ?_
        exact ih _ _ _ _ h hkx50
set_option maxHeartbeats 4000000 in
theorem ctX2_fillsWishes (l : Launch) {h0 : Nat} {x1 : Int32} {σ σf : Mm} (h : FX2_fillsWishes h0 x1 σ = some σf) : CTv l yX2_fillsWishes (ws_ yX2_fillsWishes cX2_fillsWishes 4 (none)) 1 23 0 0 [va_rf (some h0), .int x1] σ σf := by
  refine ct_start (n := 1) mdX2_fillsWishes (Nat.le_of_ble_eq_true rfl) (c1_r (c1_i c1_0)) (fun p e s m args below meth c D dA sz0 ad0 X hS hr hnm => ?_)
  have X : CX p s m args meth c cX2_fillsWishes 4 RX2 := X
  generalize mN σ = N0
  unfold FX2_fillsWishes at h
  refine wm_aload_n X 0 dX2_fillsWishes_0 rfl ?_
  refine wm_gR X hS cd_2 16 h dX2_fillsWishes_1 (Nat.le_of_ble_eq_true rfl) rfl q227 (fun x21 h => ?_)
  refine wm_iload_n X 1 dX2_fillsWishes_4 rfl ?_
  refine wm_iaload X hS h dX2_fillsWishes_5 (fun x22 h => ?_)
  refine wm_istore_n (ℓ' := [(2, .int x22), (0, va_rf (some h0)), (1, .int x1)]) X dX2_fillsWishes_6 (by decide) rfl ?_
  refine wm_iconst (v := 0) X dX2_fillsWishes_7 (by decide) ?_
  refine wm_istore_n (ℓ' := [(3, .int 0), (2, .int x22), (0, va_rf (some h0)), (1, .int x1)]) X dX2_fillsWishes_8 (by decide) rfl ?_
  refine wm_sub (ℓ' := [(0, va_rf (some h0)), (1, .int x1), (2, .int x22), (3, .int 0)]) [2, 3, 1, 0] rfl ?_
  refine wX2_fillsWishes_9 X hS hr hnm _ _ fu _ _ _ _ h (fun σ h => ?_)
  · exact wm_vret X hr h dX2_fillsWishes_50 (Nat.le_of_ble_eq_true rfl) (Nat.le_of_ble_eq_true rfl)
theorem mdX1_aPerson : MD yX1_aPerson 1 := by unfold MD; decide +kernel
theorem mvX1_aPerson : MV yX1_aPerson cX1_aPerson 4 (none) := ⟨q1179, qs17, q128, q1180⟩
set_option maxHeartbeats 4000000 in
theorem wX1_aPerson_76 {p : Program} {l : Launch} {e : Env} {s : State} {m : MethodId} {args : Array Value} {below : List Frame} {meth : Method} {c : Code} {D : va_G} {dA : Nat → ClassId} {sz0 : Nat} {ad0 : Nat → Nat} {N0 : Nat} {xo : Mm ⊕ (Nat × Mm)} {mc ms : Nat} (X : CX p s m args meth c cX1_aPerson 4 RX1) (hS : ST D dA sz0 ad0 s) (hr : meth.sig.returnType = none) (hnm : meth.name = yX1_aPerson.name) (hl : l.stackTraces = false) (hno : ∀ x ∈ c.exceptionTable.toList, False) (y1 : Option Nat) (y2 : Int32) : ∀ (n : Nat) (v3 : Int32) (σ : Mm) (kx112 : Mm → DX (Mm)) (C Z kc kz : Nat), FX1_aPerson_76 y1 y2 n v3 σ kx112 = some (xo, C, Z) → kc + C ≤ mc → kz + Z ≤ ms → (∀  (σ : Mm) (C Z kc kz : Nat), kx112 σ = some (xo, C, Z) → kc + C ≤ mc → kz + Z ≤ ms → WMxv p l e s m args below meth c 6 137 mc ms 4 D dA sz0 ad0 N0 xo kc kz σ [(1, va_rf y1)] [] 112) → WMxv p l e s m args below meth c 6 137 mc ms 4 D dA sz0 ad0 N0 xo kc kz σ [(1, va_rf y1), (2, .int y2), (3, .int v3)] [] 76 := by
  intro n
  induction n with
  | zero =>
    intro v3 σ kx112 C Z kc kz h hC hZ hkx112
    cases h
  | succ n ih =>
    intro v3 σ kx112 C Z kc kz h hC hZ hkx112
    rw [FX1_aPerson_76] at h
    refine wm_iload_n X 2 dX1_aPerson_76 rfl ?_
    refine wm_bipush (v := 10) X dX1_aPerson_77 (by decide) ?_
    refine wm_icmp_ge X 112 h dX1_aPerson_79 (by decide) (fun c46 h => ?_) (fun c46 h => ?_)
    · refine wm_sub (ℓ' := [(1, va_rf y1)]) [0] rfl ?_
      exact hkx112 _ _ _ _ _ h hC hZ
    · refine wm_aload_n X 0 dX1_aPerson_82 rfl ?_
      refine wm_gRN X hS cd_2 14 h dX1_aPerson_83 (Nat.le_of_ble_eq_true rfl) rfl 14 rfl (fun x42 h => ?_)
      refine wm_bipush (v := 10) X dX1_aPerson_86 (by decide) ?_
      refine wm_iload_n X 1 dX1_aPerson_88 rfl ?_
      refine wm_imul X dX1_aPerson_89 ?_
      refine wm_iload_n X 2 dX1_aPerson_90 rfl ?_
      refine wm_iadd X dX1_aPerson_91 ?_
      refine wm_iconst (v := 0) X dX1_aPerson_92 (by decide) ?_
      refine wm_iastore X hS h dX1_aPerson_93 (fun σ43 _ h => ?_)
      refine wm_aload_n X 0 dX1_aPerson_94 rfl ?_
      refine wm_gRN X hS cd_2 14 h dX1_aPerson_95 (Nat.le_of_ble_eq_true rfl) rfl 14 rfl (fun x44 h => ?_)
      refine wm_bipush (v := 10) X dX1_aPerson_98 (by decide) ?_
      refine wm_iload_n X 2 dX1_aPerson_100 rfl ?_
      refine wm_imul X dX1_aPerson_101 ?_
      refine wm_iload_n X 1 dX1_aPerson_102 rfl ?_
      refine wm_iadd X dX1_aPerson_103 ?_
      refine wm_iconst (v := 0) X dX1_aPerson_104 (by decide) ?_
      refine wm_iastore X hS h dX1_aPerson_105 (fun σ45 _ h => ?_)
      refine wm_iinc (v := (v3 + 1)) (ℓ' := [(3, .int (v3 + 1)), (1, va_rf y1), (2, .int y2)]) X 2 dX1_aPerson_106 rfl rfl (by decide) rfl ?_
      refine wm_goto X 76 dX1_aPerson_109 (by decide) ?_
      refine wm_sub (ℓ' := [(1, va_rf y1), (2, .int y2), (3, .int (v3 + 1))]) [1, 2, 0] rfl ?_
      exact ih _ _ _ _ _ _ _ h hC hZ hkx112
set_option maxHeartbeats 4000000 in
theorem wX1_aPerson_124 {p : Program} {l : Launch} {e : Env} {s : State} {m : MethodId} {args : Array Value} {below : List Frame} {meth : Method} {c : Code} {D : va_G} {dA : Nat → ClassId} {sz0 : Nat} {ad0 : Nat → Nat} {N0 : Nat} {xo : Mm ⊕ (Nat × Mm)} {mc ms : Nat} (X : CX p s m args meth c cX1_aPerson 4 RX1) (hS : ST D dA sz0 ad0 s) (hr : meth.sig.returnType = none) (hnm : meth.name = yX1_aPerson.name) (hl : l.stackTraces = false) (hno : ∀ x ∈ c.exceptionTable.toList, False) (y1 : Option Nat) : ∀ (n : Nat) (v3 : Int32) (σ : Mm) (kx143 : Mm → DX (Mm)) (C Z kc kz : Nat), FX1_aPerson_124 y1 n v3 σ kx143 = some (xo, C, Z) → kc + C ≤ mc → kz + Z ≤ ms → (∀  (σ : Mm) (C Z kc kz : Nat), kx143 σ = some (xo, C, Z) → kc + C ≤ mc → kz + Z ≤ ms → WMxv p l e s m args below meth c 6 137 mc ms 4 D dA sz0 ad0 N0 xo kc kz σ [] [] 143) → WMxv p l e s m args below meth c 6 137 mc ms 4 D dA sz0 ad0 N0 xo kc kz σ [(1, va_rf y1), (3, .int v3)] [] 124 := by
  intro n
  induction n with
  | zero =>
    intro v3 σ kx143 C Z kc kz h hC hZ hkx143
    cases h
  | succ n ih =>
    intro v3 σ kx143 C Z kc kz h hC hZ hkx143
    rw [FX1_aPerson_124] at h
    refine wm_iload_n X 1 dX1_aPerson_124 rfl ?_
    refine wm_aload_n X 0 dX1_aPerson_125 rfl ?_
    refine wm_gIN X hS cd_2 1 h dX1_aPerson_126 (Nat.le_of_ble_eq_true rfl) rfl 1 rfl (fun x49 h => ?_)
    refine wm_icmp_ge X 143 h dX1_aPerson_129 (by decide) (fun c53 h => ?_) (fun c53 h => ?_)
    · refine wm_sub (ℓ' := []) [] rfl ?_
      exact hkx143 _ _ _ _ _ h hC hZ
    · refine wm_aload_n X 0 dX1_aPerson_132 rfl ?_
      refine wm_iload_n X 1 dX1_aPerson_133 rfl ?_
      obtain ⟨q50, eq50, h⟩ := Option.bind_eq_some_iff.mp h
      obtain ⟨eq50, s51⟩ := rv_some eq50
      refine wm_cV_v (As := [.int v3]) (st := []) X hS cd_2 s51 rfl h (fun _ hF => ctX2_fillsWishes l hF) mdX2_fillsWishes mvX2_fillsWishes q1187 dX1_aPerson_134 rfl (by rw [eq50]; first | done | rfl) c1_0 (Nat.le_of_ble_eq_true rfl) ⟨Nat.le_of_ble_eq_true rfl, Nat.le_of_ble_eq_true rfl⟩ ⟨le_p hC, le_p hZ⟩ (fun σ52 _ h => ?_)
      refine wm_iinc (v := (v3 + 1)) (ℓ' := [(3, .int (v3 + 1)), (1, va_rf y1)]) X 1 dX1_aPerson_137 rfl rfl (by decide) rfl ?_
      refine wm_goto X 124 dX1_aPerson_140 (by decide) ?_
      refine wm_sub (ℓ' := [(1, va_rf y1), (3, .int (v3 + 1))]) [1, 0] rfl ?_
      exact ih _ _ _ _ _ _ _ h hC hZ hkx143
set_option maxHeartbeats 4000000 in
theorem ctX1_aPerson (l : Launch) (hl : l.stackTraces = false) {h0 : Nat} {x1 : Option Nat} {σ : Mm} {xo : Mm ⊕ (Nat × Mm)} {mc ms : Nat} (h : FX1_aPerson h0 x1 σ = some (xo, mc, ms)) : CTXv l yX1_aPerson (ws_ yX1_aPerson cX1_aPerson 4 (none)) 6 137 mc ms [va_rf (some h0), va_rf x1] σ xo := by
  refine ctx_start (n := 1) mdX1_aPerson (Nat.le_of_ble_eq_true rfl) (c1_r (c1_r c1_0)) (fun p e s m args below meth c D dA sz0 ad0 X hS hr hnm hno => ?_)
  have X : CX p s m args meth c cX1_aPerson 4 RX1 := X
  have hC : 0 + mc ≤ mc := Nat.le_of_eq (Nat.zero_add mc)
  have hZ : 0 + ms ≤ ms := Nat.le_of_eq (Nat.zero_add ms)
  generalize mN σ = N0
  unfold FX1_aPerson at h
  refine wm_aload_n X 1 dX1_aPerson_0 rfl ?_
  refine wm_gIN X hS cd_2 1 h dX1_aPerson_1 (Nat.le_of_ble_eq_true rfl) rfl 1 rfl (fun x21 h => ?_)
  refine wm_istore_n (ℓ' := [(2, .int x21), (0, va_rf (some h0)), (1, va_rf x1)]) X dX1_aPerson_4 (by decide) rfl ?_
  refine wm_iload_n X 0 dX1_aPerson_5 rfl ?_
  refine wm_bipush (v := 10) X dX1_aPerson_6 (by decide) ?_
  refine wm_icmp_ne X 19 h dX1_aPerson_8 (by decide) (fun c59 h => ?_) (fun c59 h => ?_)
  · refine wm_aload_n X 2 dX1_aPerson_19 rfl ?_
    refine wm_gRN X hS cd_2 8 h dX1_aPerson_20 (Nat.le_of_ble_eq_true rfl) rfl 8 rfl (fun x22 h => ?_)
    refine wm_iload_n X 0 dX1_aPerson_23 rfl ?_
    refine wm_aload_n X 1 dX1_aPerson_24 rfl ?_
    obtain ⟨s23, h⟩ := ck_e h
    refine wm_dV_i (As := []) (st := [.int x21, va_rf x22]) X hS hno cd_1 s23 rfl h hC hZ (fun _ _ _ hF => ctX1_marksTold l hl hF) mdX1_marksTold mvX1_marksTold q1181 dX1_aPerson_25 rfl rfl (c1_i (c1_r c1_0)) (Nat.le_of_ble_eq_true rfl) ⟨Nat.le_of_ble_eq_true rfl, Nat.le_of_ble_eq_true rfl⟩ (Nat.le_refl _) (Nat.le_refl _) (fun x24 σ25 c1 z1 C Z _ h hC hZ => ?_)
    refine wm_iastore X hS h dX1_aPerson_28 (fun σ26 _ h => ?_)
    refine wm_aload_n X 2 dX1_aPerson_29 rfl ?_
    refine wm_gRN X hS cd_2 9 h dX1_aPerson_30 (Nat.le_of_ble_eq_true rfl) rfl 9 rfl (fun x27 h => ?_)
    refine wm_iload_n X 0 dX1_aPerson_33 rfl ?_
    refine wm_aload_n X 1 dX1_aPerson_34 rfl ?_
    obtain ⟨s28, h⟩ := ck_e h
    refine wm_dV_i (As := []) (st := [.int x21, va_rf x27]) X hS hno cd_1 s28 rfl h hC hZ (fun _ _ _ hF => ctX1_marksTold l hl hF) mdX1_marksTold mvX1_marksTold q1181 dX1_aPerson_35 rfl rfl (c1_i (c1_r c1_0)) (Nat.le_of_ble_eq_true rfl) ⟨Nat.le_of_ble_eq_true rfl, Nat.le_of_ble_eq_true rfl⟩ (Nat.le_refl _) (Nat.le_refl _) (fun x29 σ30 c1 z1 C Z _ h hC hZ => ?_)
    refine wm_iastore X hS h dX1_aPerson_38 (fun σ31 _ h => ?_)
    refine wm_aload_n X 2 dX1_aPerson_39 rfl ?_
    refine wm_gRN X hS cd_2 10 h dX1_aPerson_40 (Nat.le_of_ble_eq_true rfl) rfl 10 rfl (fun x32 h => ?_)
    refine wm_iload_n X 0 dX1_aPerson_43 rfl ?_
    refine wm_iload_n X 0 dX1_aPerson_44 rfl ?_
    refine wm_iastore X hS h dX1_aPerson_45 (fun σ33 _ h => ?_)
    refine wm_aload_n X 2 dX1_aPerson_46 rfl ?_
    refine wm_gRN X hS cd_2 11 h dX1_aPerson_47 (Nat.le_of_ble_eq_true rfl) rfl 11 rfl (fun x34 h => ?_)
    refine wm_iload_n X 0 dX1_aPerson_50 rfl ?_
    refine wm_iconst (v := (-1)) X dX1_aPerson_51 (by decide) ?_
    refine wm_iastore X hS h dX1_aPerson_52 (fun σ35 _ h => ?_)
    refine wm_aload_n X 2 dX1_aPerson_53 rfl ?_
    refine wm_gRN X hS cd_2 12 h dX1_aPerson_54 (Nat.le_of_ble_eq_true rfl) rfl 12 rfl (fun x36 h => ?_)
    refine wm_iload_n X 0 dX1_aPerson_57 rfl ?_
    refine wm_iconst (v := (-1)) X dX1_aPerson_58 (by decide) ?_
    refine wm_iastore X hS h dX1_aPerson_59 (fun σ37 _ h => ?_)
    refine wm_aload_n X 2 dX1_aPerson_60 rfl ?_
    refine wm_gRN X hS cd_2 13 h dX1_aPerson_61 (Nat.le_of_ble_eq_true rfl) rfl 13 rfl (fun x38 h => ?_)
    refine wm_iload_n X 0 dX1_aPerson_64 rfl ?_
    refine wm_iconst (v := 0) X dX1_aPerson_65 (by decide) ?_
    refine wm_iastore X hS h dX1_aPerson_66 (fun σ39 _ h => ?_)
    refine wm_aload_n X 2 dX1_aPerson_67 rfl ?_
    refine wm_gRN X hS cd_2 16 h dX1_aPerson_68 (Nat.le_of_ble_eq_true rfl) rfl 16 rfl (fun x40 h => ?_)
    refine wm_iload_n X 0 dX1_aPerson_71 rfl ?_
    refine wm_iconst (v := 0) X dX1_aPerson_72 (by decide) ?_
    refine wm_iastore X hS h dX1_aPerson_73 (fun σ41 _ h => ?_)
    refine wm_iconst (v := 0) X dX1_aPerson_74 (by decide) ?_
    refine wm_istore_n (ℓ' := [(3, .int 0), (2, .int x21), (0, va_rf (some h0)), (1, va_rf x1)]) X dX1_aPerson_75 (by decide) rfl ?_
    refine wm_sub (ℓ' := [(1, va_rf x1), (2, .int x21), (3, .int 0)]) [3, 1, 0] rfl ?_
    refine wX1_aPerson_76 X hS hr hnm hl hno _ _ fu _ _ _ _ _ _ _ h hC hZ (fun σ C Z kc kz h hC hZ => ?_)
    · refine wm_aload_n X 0 dX1_aPerson_112 rfl ?_
      refine wm_dup X dX1_aPerson_113 (catR _) ?_
      refine wm_gIN X hS cd_2 1 h dX1_aPerson_114 (Nat.le_of_ble_eq_true rfl) rfl 1 rfl (fun x47 h => ?_)
      refine wm_iconst (v := 1) X dX1_aPerson_117 (by decide) ?_
      refine wm_iadd X dX1_aPerson_118 ?_
      refine wm_pIN X hS cd_2 1 h dX1_aPerson_119 (Nat.le_of_ble_eq_true rfl) rfl 1 rfl rfl rfl (fun σ48 _ h => ?_)
      refine wm_iconst (v := 0) X dX1_aPerson_122 (by decide) ?_
      refine wm_istore_n (ℓ' := [(3, .int 0), (1, va_rf x1)]) X dX1_aPerson_123 (by decide) rfl ?_
      refine wm_sub (ℓ' := [(1, va_rf x1), (3, .int 0)]) [1, 0] rfl ?_
      refine wX1_aPerson_124 X hS hr hnm hl hno _ fu _ _ _ _ _ _ _ h hC hZ (fun σ C Z kc kz h hC hZ => ?_)
      · exact wm_xvret X hr (rt_e h) dX1_aPerson_143 (le_p hC) (le_p hZ)
  · refine wm_aload_n X 1 dX1_aPerson_11 rfl ?_
    refine wm_gR X hS cd_1 4 h dX1_aPerson_12 (Nat.le_of_ble_eq_true rfl) rfl q441 (fun x54 h => ?_)
    obtain ⟨q55, eq55, h⟩ := Option.bind_eq_some_iff.mp h
    obtain ⟨eq55, s56⟩ := rv_some eq55
    obtain ⟨C, Z, h, hC, hZ⟩ := pay_d h hC hZ
    refine wm_cV_r (As := []) (st := []) X hS cd_3 s56 rfl h (fun _ _ hF => ctX3_wrong l hF) mdX3_wrong mvX3_wrong q1073 dX1_aPerson_15 rfl (by rw [eq55]; first | done | rfl) c1_0 (Nat.le_of_ble_eq_true rfl) ⟨Nat.le_of_ble_eq_true rfl, Nat.le_of_ble_eq_true rfl⟩ ⟨le_p hC, le_p hZ⟩ (fun x57 σ58 _ h => ?_)
    exact wm_athrowW X hS hno (thrd_e h) dX1_aPerson_18 (le_p hC) (le_p hZ)
theorem mdX3_figures : MD yX3_figures 3 := by unfold MD; decide +kernel
theorem mvX3_figures : MV yX3_figures cX3_figures 5 ((some FieldType.int)) := ⟨q1208, q1209, q131, q1210⟩
set_option maxHeartbeats 4000000 in
theorem wX3_figures_7 {p : Program} {l : Launch} {e : Env} {s : State} {m : MethodId} {args : Array Value} {below : List Frame} {meth : Method} {c : Code} {D : va_G} {dA : Nat → ClassId} {sz0 : Nat} {ad0 : Nat → Nat} {N0 : Nat} {xo : (Int32 × Mm) ⊕ (Nat × Mm)} {mc ms : Nat} (X : CX p s m args meth c cX3_figures 5 RX3) (hS : ST D dA sz0 ad0 s) (hr : meth.sig.returnType = (some FieldType.int)) (hnm : meth.name = yX3_figures.name) (hl : l.stackTraces = false) (hno : ∀ x ∈ c.exceptionTable.toList, False) (h0 : Nat) (y1 : Int32) (y2 : Int32) (y3 : Int32) : ∀ (n : Nat) (v4 : Int32) (σ : Mm) (kx75 : Int32 → Mm → DX (Int32 × Mm)) (C Z kc kz : Nat), FX3_figures_7 h0 y1 y2 y3 n v4 σ kx75 = some (xo, C, Z) → kc + C ≤ mc → kz + Z ≤ ms → (∀ (w4 : Int32) (σ : Mm) (C Z kc kz : Nat), kx75 w4 σ = some (xo, C, Z) → kc + C ≤ mc → kz + Z ≤ ms → WMxi p l e s m args below meth c 5 113 mc ms 5 D dA sz0 ad0 N0 xo kc kz σ [(0, va_rf (some h0)), (1, .int y1), (2, .int y2), (3, .int y3), (4, .int w4)] [] 75) → WMxi p l e s m args below meth c 5 113 mc ms 5 D dA sz0 ad0 N0 xo kc kz σ [(0, va_rf (some h0)), (1, .int y1), (2, .int y2), (3, .int y3), (4, .int v4)] [] 7 := by
  intro n
  induction n with
  | zero =>
    intro v4 σ kx75 C Z kc kz h hC hZ hkx75
    cases h
  | succ n ih =>
    intro v4 σ kx75 C Z kc kz h hC hZ hkx75
    rw [FX3_figures_7] at h
    refine wm_aload_n X 0 dX3_figures_7 rfl ?_
    refine wm_aload_n X 0 dX3_figures_8 rfl ?_
    refine wm_gI X hS cd_3 3 h dX3_figures_9 (Nat.le_of_ble_eq_true rfl) rfl q290 (fun x23 h => ?_)
    obtain ⟨s24, h⟩ := ck_e h
    refine wm_cV_i (As := [.int x23]) (st := []) X hS cd_3 s24 rfl h (fun _ _ hF => ctX3_byteAt l hF) mdX3_byteAt mvX3_byteAt q732 dX3_figures_12 rfl rfl c1_0 (Nat.le_of_ble_eq_true rfl) ⟨Nat.le_of_ble_eq_true rfl, Nat.le_of_ble_eq_true rfl⟩ ⟨le_p hC, le_p hZ⟩ (fun x25 σ26 _ h => ?_)
    refine wm_bipush (v := 48) X dX3_figures_15 (by decide) ?_
    refine wm_bipush (v := 57) X dX3_figures_17 (by decide) ?_
    refine wm_cSN_i (As := [.int x25, .int 48, .int 57]) (st := []) X hS h (fun _ _ hF => ctX1_in l hF) mdX1_in msX1_in 48 rfl dX3_figures_19 rfl rfl c1_0 (Nat.le_of_ble_eq_true rfl) ⟨Nat.le_of_ble_eq_true rfl, Nat.le_of_ble_eq_true rfl⟩ ⟨le_p hC, le_p hZ⟩ (fun x27 σ28 _ h => ?_)
    refine wm_if_eq X 75 h dX3_figures_22 (by decide) (fun c39 h => ?_) (fun c39 h => ?_)
    · exact hkx75 _ _ _ _ _ _ h hC hZ
    · refine wm_aload_n X 0 dX3_figures_25 rfl ?_
      refine wm_gI X hS cd_3 3 h dX3_figures_26 (Nat.le_of_ble_eq_true rfl) rfl q290 (fun x29 h => ?_)
      refine wm_aload_n X 0 dX3_figures_29 rfl ?_
      refine wm_gI X hS cd_3 4 h dX3_figures_30 (Nat.le_of_ble_eq_true rfl) rfl q292 (fun x30 h => ?_)
      refine wm_isub X dX3_figures_33 ?_
      refine wm_iload_n X 3 dX3_figures_34 rfl ?_
      obtain ⟨J60, eJ60, h⟩ := jn_e h
      have hJ60 : ∀ (z31 : Int32) (σ : Mm) (C Z kc kz : Nat), J60 z31 σ = some (xo, C, Z) → kc + C ≤ mc → kz + Z ≤ ms → WMxi p l e s m args below meth c 5 113 mc ms 5 D dA sz0 ad0 N0 xo kc kz σ [(0, va_rf (some h0)), (1, .int y1), (2, .int y2), (3, .int y3)] [.int z31] 60 := by
        intro z31 σ C Z kc kz h hC hZ
        rw [eJ60] at h
        refine wm_istore (ℓ' := [(4, .int z31), (0, va_rf (some h0)), (1, .int y1), (2, .int y2), (3, .int y3)]) X dX3_figures_60 (by decide) rfl ?_
        refine wm_aload_n X 1 dX3_figures_62 rfl ?_
        refine wm_dup X dX3_figures_63 (catR _) ?_
        refine wm_gI X hS cd_3 3 h dX3_figures_64 (Nat.le_of_ble_eq_true rfl) rfl q290 (fun x32 h => ?_)
        refine wm_iconst (v := 1) X dX3_figures_67 (by decide) ?_
        refine wm_iadd X dX3_figures_68 ?_
        refine wm_pI X hS cd_3 3 h dX3_figures_69 (Nat.le_of_ble_eq_true rfl) rfl q290 rfl rfl (fun σ33 _ h => ?_)
        refine wm_goto X 7 dX3_figures_72 (by decide) ?_
        refine wm_sub (ℓ' := [(0, va_rf (some h0)), (1, .int y1), (2, .int y2), (3, .int y3), (4, .int z31)]) [1, 2, 3, 4, 0] rfl ?_
        exact ih _ _ _ _ _ _ _ h hC hZ hkx75
      clear eJ60
      refine wm_icmp_ge X 58 h dX3_figures_35 (by decide) (fun c38 h => ?_) (fun c38 h => ?_)
      · refine wm_iload X 4 dX3_figures_58 rfl ?_
        refine wm_sub (ℓ' := [(0, va_rf (some h0)), (1, .int y1), (2, .int y2), (3, .int y3)]) [0, 1, 2, 3] rfl ?_
        exact hJ60 _ _ _ _ _ _ h hC hZ
      · refine wm_bipush (v := 10) X dX3_figures_38 (by decide) ?_
        refine wm_iload X 4 dX3_figures_40 rfl ?_
        refine wm_imul X dX3_figures_42 ?_
        refine wm_aload_n X 0 dX3_figures_43 rfl ?_
        refine wm_aload_n X 0 dX3_figures_44 rfl ?_
        refine wm_gI X hS cd_3 3 h dX3_figures_45 (Nat.le_of_ble_eq_true rfl) rfl q290 (fun x34 h => ?_)
        obtain ⟨s35, h⟩ := ck_e h
        refine wm_cV_i (As := [.int x34]) (st := [.int (10 * v4)]) X hS cd_3 s35 rfl h (fun _ _ hF => ctX3_byteAt l hF) mdX3_byteAt mvX3_byteAt q732 dX3_figures_48 rfl rfl (c1_i c1_0) (Nat.le_of_ble_eq_true rfl) ⟨Nat.le_of_ble_eq_true rfl, Nat.le_of_ble_eq_true rfl⟩ ⟨le_p hC, le_p hZ⟩ (fun x36 σ37 _ h => ?_)
        refine wm_iadd X dX3_figures_51 ?_
        refine wm_bipush (v := 48) X dX3_figures_52 (by decide) ?_
        refine wm_isub X dX3_figures_54 ?_
        refine wm_goto X 60 dX3_figures_55 (by decide) ?_
        refine wm_sub (ℓ' := [(0, va_rf (some h0)), (1, .int y1), (2, .int y2), (3, .int y3)]) [0, 1, 2, 3] rfl ?_
        exact hJ60 _ _ _ _ _ _ h hC hZ
set_option maxHeartbeats 4000000 in
theorem ctX3_figures (l : Launch) (hl : l.stackTraces = false) {h0 : Nat} {x1 : Int32} {x2 : Int32} {x3 : Int32} {σ : Mm} {xo : (Int32 × Mm) ⊕ (Nat × Mm)} {mc ms : Nat} (h : FX3_figures h0 x1 x2 x3 σ = some (xo, mc, ms)) : CTXi l yX3_figures (ws_ yX3_figures cX3_figures 5 ((some FieldType.int))) 5 113 mc ms [va_rf (some h0), .int x1, .int x2, .int x3] σ xo := by
  refine ctx_start (n := 3) mdX3_figures (Nat.le_of_ble_eq_true rfl) (c1_r (c1_i (c1_i (c1_i c1_0)))) (fun p e s m args below meth c D dA sz0 ad0 X hS hr hnm hno => ?_)
  have X : CX p s m args meth c cX3_figures 5 RX3 := X
  have hC : 0 + mc ≤ mc := Nat.le_of_eq (Nat.zero_add mc)
  have hZ : 0 + ms ≤ ms := Nat.le_of_eq (Nat.zero_add ms)
  generalize mN σ = N0
  unfold FX3_figures at h
  refine wm_aload_n X 0 dX3_figures_0 rfl ?_
  obtain ⟨s21, h⟩ := ck_e h
  refine wm_cV_v (As := []) (st := []) X hS cd_3 s21 rfl h (fun _ hF => ctX3_blanks l hF) mdX3_blanks mvX3_blanks q728 dX3_figures_1 rfl rfl c1_0 (Nat.le_of_ble_eq_true rfl) ⟨Nat.le_of_ble_eq_true rfl, Nat.le_of_ble_eq_true rfl⟩ ⟨le_p hC, le_p hZ⟩ (fun σ22 _ h => ?_)
  refine wm_iconst (v := 0) X dX3_figures_4 (by decide) ?_
  refine wm_istore (ℓ' := [(4, .int 0), (0, va_rf (some h0)), (1, .int x1), (2, .int x2), (3, .int x3)]) X dX3_figures_5 (by decide) rfl ?_
  refine wm_sub (ℓ' := [(0, va_rf (some h0)), (1, .int x1), (2, .int x2), (3, .int x3), (4, .int 0)]) [1, 2, 3, 4, 0] rfl ?_
  refine wX3_figures_7 X hS hr hnm hl hno _ _ _ _ fu _ _ _ _ _ _ _ h hC hZ (fun x40 σ C Z kc kz h hC hZ => ?_)
  · refine wm_aload_n X 0 dX3_figures_75 rfl ?_
    refine wm_gI X hS cd_3 3 h dX3_figures_76 (Nat.le_of_ble_eq_true rfl) rfl q290 (fun x41 h => ?_)
    refine wm_aload_n X 0 dX3_figures_79 rfl ?_
    refine wm_gI X hS cd_3 4 h dX3_figures_80 (Nat.le_of_ble_eq_true rfl) rfl q292 (fun x42 h => ?_)
    obtain ⟨J109, eJ109, h⟩ := jn_e h
    have hJ109 : ∀  (σ : Mm) (C Z kc kz : Nat), J109  σ = some (xo, C, Z) → kc + C ≤ mc → kz + Z ≤ ms → WMxi p l e s m args below meth c 5 113 mc ms 5 D dA sz0 ad0 N0 xo kc kz σ [(0, va_rf (some h0))] [] 109 := by
      intro  σ C Z kc kz h hC hZ
      rw [eJ109] at h
      refine wm_aload_n X 0 dX3_figures_109 rfl ?_
      obtain ⟨s43, h⟩ := ck_e h
      obtain ⟨C, Z, h, hC, hZ⟩ := pay_d h hC hZ
      refine wm_cV_r (As := []) (st := []) X hS cd_3 s43 rfl h (fun _ _ hF => ctX3_wrong l hF) mdX3_wrong mvX3_wrong q1211 dX3_figures_110 rfl rfl c1_0 (Nat.le_of_ble_eq_true rfl) ⟨Nat.le_of_ble_eq_true rfl, Nat.le_of_ble_eq_true rfl⟩ ⟨le_p hC, le_p hZ⟩ (fun x44 σ45 _ h => ?_)
      exact wm_athrowW X hS hno (thrd_e h) dX3_figures_113 (le_p hC) (le_p hZ)
    clear eJ109
    refine wm_icmp_eq X 109 h dX3_figures_83 (by decide) (fun c52 h => ?_) (fun c52 h => ?_)
    · refine wm_sub (ℓ' := [(0, va_rf (some h0))]) [0] rfl ?_
      exact hJ109 _ _ _ _ _ h hC hZ
    · refine wm_aload_n X 0 dX3_figures_86 rfl ?_
      refine wm_gI X hS cd_3 3 h dX3_figures_87 (Nat.le_of_ble_eq_true rfl) rfl q290 (fun x46 h => ?_)
      refine wm_aload_n X 0 dX3_figures_90 rfl ?_
      refine wm_gI X hS cd_3 4 h dX3_figures_91 (Nat.le_of_ble_eq_true rfl) rfl q292 (fun x47 h => ?_)
      refine wm_isub X dX3_figures_94 ?_
      refine wm_iload_n X 3 dX3_figures_95 rfl ?_
      refine wm_icmp_gt X 109 h dX3_figures_96 (by decide) (fun c51 h => ?_) (fun c51 h => ?_)
      · refine wm_sub (ℓ' := [(0, va_rf (some h0))]) [0] rfl ?_
        exact hJ109 _ _ _ _ _ h hC hZ
      · refine wm_iload X 4 dX3_figures_99 rfl ?_
        refine wm_iload_n X 1 dX3_figures_101 rfl ?_
        refine wm_iload_n X 2 dX3_figures_102 rfl ?_
        refine wm_cSN_i (As := [.int x40, .int x1, .int x2]) (st := []) X hS h (fun _ _ hF => ctX1_in l hF) mdX1_in msX1_in 48 rfl dX3_figures_103 rfl rfl c1_0 (Nat.le_of_ble_eq_true rfl) ⟨Nat.le_of_ble_eq_true rfl, Nat.le_of_ble_eq_true rfl⟩ ⟨le_p hC, le_p hZ⟩ (fun x48 σ49 _ h => ?_)
        refine wm_if_ne X 114 h dX3_figures_106 (by decide) (fun c50 h => ?_) (fun c50 h => ?_)
        · refine wm_iload X 4 dX3_figures_114 rfl ?_
          exact wm_xiret X hr (rt_e h) dX3_figures_116 (le_p hC) (le_p hZ)
        · refine wm_sub (ℓ' := [(0, va_rf (some h0))]) [0] rfl ?_
          exact hJ109 _ _ _ _ _ h hC hZ
theorem mdX3_number : MD yX3_number 2 := by unfold MD; decide +kernel
theorem mvX3_number : MV yX3_number cX3_number 3 ((some FieldType.int)) := ⟨q1204, q1205, q131, q1206⟩
set_option maxHeartbeats 4000000 in
theorem ctX3_number (l : Launch) (hl : l.stackTraces = false) {h0 : Nat} {x1 : Int32} {x2 : Int32} {σ : Mm} {xo : (Int32 × Mm) ⊕ (Nat × Mm)} {mc ms : Nat} (h : FX3_number h0 x1 x2 σ = some (xo, mc, ms)) : CTXi l yX3_number (ws_ yX3_number cX3_number 3 ((some FieldType.int))) 6 137 mc ms [va_rf (some h0), .int x1, .int x2] σ xo := by
  refine ctx_start (n := 2) mdX3_number (Nat.le_of_ble_eq_true rfl) (c1_r (c1_i (c1_i c1_0))) (fun p e s m args below meth c D dA sz0 ad0 X hS hr hnm hno => ?_)
  have X : CX p s m args meth c cX3_number 3 RX3 := X
  have hC : 0 + mc ≤ mc := Nat.le_of_eq (Nat.zero_add mc)
  have hZ : 0 + ms ≤ ms := Nat.le_of_eq (Nat.zero_add ms)
  generalize mN σ = N0
  unfold FX3_number at h
  refine wm_aload_n X 0 dX3_number_0 rfl ?_
  refine wm_iload_n X 1 dX3_number_1 rfl ?_
  refine wm_iload_n X 2 dX3_number_2 rfl ?_
  refine wm_iconst (v := 3) X dX3_number_3 (by decide) ?_
  obtain ⟨s21, h⟩ := ck_e h
  refine wm_dV_i (As := [.int x1, .int x2, .int 3]) (st := []) X hS hno cd_3 s21 rfl h hC hZ (fun _ _ _ hF => ctX3_figures l hl hF) mdX3_figures mvX3_figures q1207 dX3_number_4 rfl rfl c1_0 (Nat.le_of_ble_eq_true rfl) ⟨Nat.le_of_ble_eq_true rfl, Nat.le_of_ble_eq_true rfl⟩ (Nat.le_refl _) (Nat.le_refl _) (fun x22 σ23 c1 z1 C Z _ h hC hZ => ?_)
  exact wm_xiret X hr (rt_e h) dX3_number_7 (le_p hC) (le_p hZ)
theorem mdX1_personTold : MD yX1_personTold 1 := by unfold MD; decide +kernel
theorem mvX1_personTold : MV yX1_personTold cX1_personTold 2 ((some FieldType.int)) := ⟨q1201, qs20, q128, q1202⟩
set_option maxHeartbeats 4000000 in
theorem ctX1_personTold (l : Launch) (hl : l.stackTraces = false) {h0 : Nat} {x1 : Option Nat} {σ : Mm} {xo : (Int32 × Mm) ⊕ (Nat × Mm)} {mc ms : Nat} (h : FX1_personTold h0 x1 σ = some (xo, mc, ms)) : CTXi l yX1_personTold (ws_ yX1_personTold cX1_personTold 2 ((some FieldType.int))) 7 159 mc ms [va_rf (some h0), va_rf x1] σ xo := by
  refine ctx_start (n := 1) mdX1_personTold (Nat.le_of_ble_eq_true rfl) (c1_r (c1_r c1_0)) (fun p e s m args below meth c D dA sz0 ad0 X hS hr hnm hno => ?_)
  have X : CX p s m args meth c cX1_personTold 2 RX1 := X
  have hC : 0 + mc ≤ mc := Nat.le_of_eq (Nat.zero_add mc)
  have hZ : 0 + ms ≤ ms := Nat.le_of_eq (Nat.zero_add ms)
  generalize mN σ = N0
  unfold FX1_personTold at h
  refine wm_aload_n X 0 dX1_personTold_0 rfl ?_
  refine wm_gR X hS cd_1 4 h dX1_personTold_1 (Nat.le_of_ble_eq_true rfl) rfl q441 (fun x21 h => ?_)
  refine wm_iconst (v := 0) X dX1_personTold_4 (by decide) ?_
  refine wm_aload_n X 1 dX1_personTold_5 rfl ?_
  refine wm_gIN X hS cd_2 1 h dX1_personTold_6 (Nat.le_of_ble_eq_true rfl) rfl 1 rfl (fun x22 h => ?_)
  refine wm_iconst (v := 1) X dX1_personTold_9 (by decide) ?_
  refine wm_isub X dX1_personTold_10 ?_
  obtain ⟨q23, eq23, h⟩ := Option.bind_eq_some_iff.mp h
  obtain ⟨eq23, s24⟩ := rv_some eq23
  refine wm_dV_i (As := [.int 0, .int (x22 - 1)]) (st := []) X hS hno cd_3 s24 rfl h hC hZ (fun _ _ _ hF => ctX3_number l hl hF) mdX3_number mvX3_number q1203 dX1_personTold_11 rfl (by rw [eq23]; first | done | rfl) c1_0 (Nat.le_of_ble_eq_true rfl) ⟨Nat.le_of_ble_eq_true rfl, Nat.le_of_ble_eq_true rfl⟩ (Nat.le_refl _) (Nat.le_refl _) (fun x25 σ26 c1 z1 C Z _ h hC hZ => ?_)
  exact wm_xiret X hr (rt_e h) dX1_personTold_14 (le_p hC) (le_p hZ)
theorem mdX3_isFigure : MD yX3_isFigure 0 := by unfold MD; decide +kernel
theorem mvX3_isFigure : MV yX3_isFigure cX3_isFigure 1 ((some FieldType.boolean)) := ⟨q1214, q1215, q131, q1216⟩
set_option maxHeartbeats 4000000 in
theorem ctX3_isFigure (l : Launch) {h0 : Nat} {σ σf : Mm} {r : Int32} (h : FX3_isFigure h0 σ = some (r, σf)) : CTi l yX3_isFigure (ws_ yX3_isFigure cX3_isFigure 1 ((some FieldType.boolean))) 2 41 0 0 [va_rf (some h0)] σ r σf := by
  refine ct_start (n := 0) mdX3_isFigure (Nat.le_of_ble_eq_true rfl) (c1_r c1_0) (fun p e s m args below meth c D dA sz0 ad0 X hS hr hnm => ?_)
  have X : CX p s m args meth c cX3_isFigure 1 RX3 := X
  generalize mN σ = N0
  unfold FX3_isFigure at h
  refine wm_aload_n X 0 dX3_isFigure_0 rfl ?_
  obtain ⟨s21, h⟩ := ck_e h
  refine wm_cV_v (As := []) (st := []) X hS cd_3 s21 rfl h (fun _ hF => ctX3_blanks l hF) mdX3_blanks mvX3_blanks q728 dX3_isFigure_1 rfl rfl c1_0 (Nat.le_of_ble_eq_true rfl) ⟨Nat.le_of_ble_eq_true rfl, Nat.le_of_ble_eq_true rfl⟩ ⟨Nat.le_of_ble_eq_true rfl, Nat.le_of_ble_eq_true rfl⟩ (fun σ22 _ h => ?_)
  refine wm_aload_n X 0 dX3_isFigure_4 rfl ?_
  refine wm_aload_n X 0 dX3_isFigure_5 rfl ?_
  refine wm_gI X hS cd_3 3 h dX3_isFigure_6 (Nat.le_of_ble_eq_true rfl) rfl q290 (fun x23 h => ?_)
  obtain ⟨s24, h⟩ := ck_e h
  refine wm_cV_i (As := [.int x23]) (st := []) X hS cd_3 s24 rfl h (fun _ _ hF => ctX3_byteAt l hF) mdX3_byteAt mvX3_byteAt q732 dX3_isFigure_9 rfl rfl c1_0 (Nat.le_of_ble_eq_true rfl) ⟨Nat.le_of_ble_eq_true rfl, Nat.le_of_ble_eq_true rfl⟩ ⟨Nat.le_of_ble_eq_true rfl, Nat.le_of_ble_eq_true rfl⟩ (fun x25 σ26 _ h => ?_)
  refine wm_bipush (v := 48) X dX3_isFigure_12 (by decide) ?_
  refine wm_bipush (v := 57) X dX3_isFigure_14 (by decide) ?_
  refine wm_cSN_i (As := [.int x25, .int 48, .int 57]) (st := []) X hS h (fun _ _ hF => ctX1_in l hF) mdX1_in msX1_in 48 rfl dX3_isFigure_16 rfl rfl c1_0 (Nat.le_of_ble_eq_true rfl) ⟨Nat.le_of_ble_eq_true rfl, Nat.le_of_ble_eq_true rfl⟩ ⟨Nat.le_of_ble_eq_true rfl, Nat.le_of_ble_eq_true rfl⟩ (fun x27 σ28 _ h => ?_)
  exact wm_zret X hr h dX3_isFigure_19 (Nat.le_of_ble_eq_true rfl) (Nat.le_of_ble_eq_true rfl)
theorem mdX1_aWish : MD yX1_aWish 1 := by unfold MD; decide +kernel
theorem mvX1_aWish : MV yX1_aWish cX1_aWish 5 (none) := ⟨q1197, qs19, q128, q1198⟩
set_option maxHeartbeats 4000000 in
theorem wX1_aWish_18 {p : Program} {l : Launch} {e : Env} {s : State} {m : MethodId} {args : Array Value} {below : List Frame} {meth : Method} {c : Code} {D : va_G} {dA : Nat → ClassId} {sz0 : Nat} {ad0 : Nat → Nat} {N0 : Nat} {xo : Mm ⊕ (Nat × Mm)} {mc ms : Nat} (X : CX p s m args meth c cX1_aWish 5 RX1) (hS : ST D dA sz0 ad0 s) (hr : meth.sig.returnType = none) (hnm : meth.name = yX1_aWish.name) (hl : l.stackTraces = false) (hno : ∀ x ∈ c.exceptionTable.toList, False) (h0 : Nat) (y1 : Option Nat) (y2 : Option Nat) (y3 : Int32) : ∀ (n : Nat)  (σ : Mm) (kx35 : Mm → DX (Mm)) (kx75 : Mm → DX (Mm)) (C Z kc kz : Nat), FX1_aWish_18 h0 y1 y2 y3 n σ kx35 kx75 = some (xo, C, Z) → kc + C ≤ mc → kz + Z ≤ ms → (∀  (σ : Mm) (C Z kc kz : Nat), kx35 σ = some (xo, C, Z) → kc + C ≤ mc → kz + Z ≤ ms → WMxv p l e s m args below meth c 8 180 mc ms 5 D dA sz0 ad0 N0 xo kc kz σ [(2, va_rf y2)] [] 35) → (∀  (σ : Mm) (C Z kc kz : Nat), kx75 σ = some (xo, C, Z) → kc + C ≤ mc → kz + Z ≤ ms → WMxv p l e s m args below meth c 8 180 mc ms 5 D dA sz0 ad0 N0 xo kc kz σ [(1, va_rf y1), (3, .int y3)] [] 75) → WMxv p l e s m args below meth c 8 180 mc ms 5 D dA sz0 ad0 N0 xo kc kz σ [(0, va_rf (some h0)), (1, va_rf y1), (2, va_rf y2), (3, .int y3)] [] 18 := by
  intro n
  induction n with
  | zero =>
    intro σ kx35 kx75 C Z kc kz h hC hZ hkx35 hkx75
    cases h
  | succ n ih =>
    intro σ kx35 kx75 C Z kc kz h hC hZ hkx35 hkx75
    rw [FX1_aWish_18] at h
    refine wm_aload_n X 0 dX1_aWish_18 rfl ?_
    refine wm_aload_n X 1 dX1_aWish_19 rfl ?_
    obtain ⟨s27, h⟩ := ck_e h
    refine wm_dV_i (As := [va_rf y1]) (st := []) X hS hno cd_1 s27 rfl h hC hZ (fun _ _ _ hF => ctX1_personTold l hl hF) mdX1_personTold mvX1_personTold q1199 dX1_aWish_20 rfl rfl c1_0 (Nat.le_of_ble_eq_true rfl) ⟨Nat.le_of_ble_eq_true rfl, Nat.le_of_ble_eq_true rfl⟩ (Nat.le_refl _) (Nat.le_refl _) (fun x28 σ29 c1 z1 C Z _ h hC hZ => ?_)
    refine wm_istore (ℓ' := [(4, .int x28), (0, va_rf (some h0)), (1, va_rf y1), (2, va_rf y2), (3, .int y3)]) X dX1_aWish_23 (by decide) rfl ?_
    refine wm_aload_n X 2 dX1_aWish_25 rfl ?_
    refine wm_iload_n X 4 dX1_aWish_26 rfl ?_
    refine wm_iload X 0 dX1_aWish_27 rfl ?_
    obtain ⟨q30, eq30, h⟩ := Option.bind_eq_some_iff.mp h
    obtain ⟨eq30, s31⟩ := rv_some eq30
    refine wm_cV_i (As := [.int y3, .int x28]) (st := []) X hS cd_2 s31 rfl h (fun _ _ hF => ctX2_isTold l hF) mdX2_isTold mvX2_isTold q1212 dX1_aWish_29 rfl (by rw [eq30]; first | done | rfl) c1_0 (Nat.le_of_ble_eq_true rfl) ⟨Nat.le_of_ble_eq_true rfl, Nat.le_of_ble_eq_true rfl⟩ ⟨le_p hC, le_p hZ⟩ (fun x32 σ33 _ h => ?_)
    refine wm_if_eq X 40 h dX1_aWish_32 (by decide) (fun c46 h => ?_) (fun c46 h => ?_)
    · refine wm_aload_n X 2 dX1_aWish_40 rfl ?_
      refine wm_gRN X hS cd_2 15 h dX1_aWish_41 (Nat.le_of_ble_eq_true rfl) rfl 15 rfl (fun x34 h => ?_)
      refine wm_bipush (v := 10) X dX1_aWish_44 (by decide) ?_
      refine wm_iload_n X 4 dX1_aWish_46 rfl ?_
      refine wm_imul X dX1_aWish_47 ?_
      refine wm_aload_n X 2 dX1_aWish_48 rfl ?_
      refine wm_gRN X hS cd_2 16 h dX1_aWish_49 (Nat.le_of_ble_eq_true rfl) rfl 16 rfl (fun x35 h => ?_)
      refine wm_iload_n X 4 dX1_aWish_52 rfl ?_
      refine wm_iaload X hS h dX1_aWish_53 (fun x36 h => ?_)
      refine wm_iadd X dX1_aWish_54 ?_
      refine wm_iload X 0 dX1_aWish_55 rfl ?_
      refine wm_iastore X hS h dX1_aWish_57 (fun σ37 _ h => ?_)
      refine wm_aload_n X 2 dX1_aWish_58 rfl ?_
      refine wm_gRN X hS cd_2 16 h dX1_aWish_59 (Nat.le_of_ble_eq_true rfl) rfl 16 rfl (fun x38 h => ?_)
      refine wm_iload_n X 4 dX1_aWish_62 rfl ?_
      refine wm_dup2 X dX1_aWish_63 rfl (catR _) ?_
      refine wm_iaload X hS h dX1_aWish_64 (fun x39 h => ?_)
      refine wm_iconst (v := 1) X dX1_aWish_65 (by decide) ?_
      refine wm_iadd X dX1_aWish_66 ?_
      refine wm_iastore X hS h dX1_aWish_67 (fun σ40 _ h => ?_)
      refine wm_aload_n X 3 dX1_aWish_68 rfl ?_
      obtain ⟨q41, eq41, h⟩ := Option.bind_eq_some_iff.mp h
      obtain ⟨eq41, s42⟩ := rv_some eq41
      refine wm_cV_i (As := []) (st := []) X hS cd_3 s42 rfl h (fun _ _ hF => ctX3_isFigure l hF) mdX3_isFigure mvX3_isFigure q1213 dX1_aWish_69 rfl (by rw [eq41]; first | done | rfl) c1_0 (Nat.le_of_ble_eq_true rfl) ⟨Nat.le_of_ble_eq_true rfl, Nat.le_of_ble_eq_true rfl⟩ ⟨le_p hC, le_p hZ⟩ (fun x43 σ44 _ h => ?_)
      refine wm_if_ne X 18 h dX1_aWish_72 (by decide) (fun c45 h => ?_) (fun c45 h => ?_)
      · refine wm_sub (ℓ' := [(0, va_rf (some h0)), (1, va_rf y1), (2, va_rf y2), (3, .int y3)]) [1, 2, 3, 4] rfl ?_
        exact ih _ _ _ _ _ _ _ h hC hZ hkx35 hkx75
      · refine wm_sub (ℓ' := [(1, va_rf y1), (3, .int y3)]) [2, 4] rfl ?_
        exact hkx75 _ _ _ _ _ h hC hZ
    · refine wm_sub (ℓ' := [(2, va_rf y2)]) [3] rfl ?_
      exact hkx35 _ _ _ _ _ h hC hZ
set_option maxHeartbeats 4000000 in
theorem ctX1_aWish (l : Launch) (hl : l.stackTraces = false) {h0 : Nat} {x1 : Option Nat} {σ : Mm} {xo : Mm ⊕ (Nat × Mm)} {mc ms : Nat} (h : FX1_aWish h0 x1 σ = some (xo, mc, ms)) : CTXv l yX1_aWish (ws_ yX1_aWish cX1_aWish 5 (none)) 8 180 mc ms [va_rf (some h0), va_rf x1] σ xo := by
  refine ctx_start (n := 1) mdX1_aWish (Nat.le_of_ble_eq_true rfl) (c1_r (c1_r c1_0)) (fun p e s m args below meth c D dA sz0 ad0 X hS hr hnm hno => ?_)
  have X : CX p s m args meth c cX1_aWish 5 RX1 := X
  have hC : 0 + mc ≤ mc := Nat.le_of_eq (Nat.zero_add mc)
  have hZ : 0 + ms ≤ ms := Nat.le_of_eq (Nat.zero_add ms)
  generalize mN σ = N0
  unfold FX1_aWish at h
  refine wm_aload_n X 0 dX1_aWish_0 rfl ?_
  refine wm_gR X hS cd_1 4 h dX1_aWish_1 (Nat.le_of_ble_eq_true rfl) rfl q441 (fun x21 h => ?_)
  refine wm_astore_n (ℓ' := [(2, va_rf x21), (0, va_rf (some h0)), (1, va_rf x1)]) X dX1_aWish_4 (by decide) rfl ?_
  refine wm_aload_n X 1 dX1_aWish_5 rfl ?_
  refine wm_aload_n X 2 dX1_aWish_6 rfl ?_
  obtain ⟨s22, h⟩ := ck_e h
  refine wm_dV_i (As := [va_rf x1]) (st := []) X hS hno cd_1 s22 rfl h hC hZ (fun _ _ _ hF => ctX1_personTold l hl hF) mdX1_personTold mvX1_personTold q1199 dX1_aWish_7 rfl rfl c1_0 (Nat.le_of_ble_eq_true rfl) ⟨Nat.le_of_ble_eq_true rfl, Nat.le_of_ble_eq_true rfl⟩ (Nat.le_refl _) (Nat.le_refl _) (fun x23 σ24 c1 z1 C Z _ h hC hZ => ?_)
  refine wm_istore_n (ℓ' := [(3, .int x23), (2, va_rf x21), (0, va_rf (some h0)), (1, va_rf x1)]) X dX1_aWish_10 (by decide) rfl ?_
  refine wm_aload_n X 3 dX1_aWish_11 rfl ?_
  refine wm_gRN X hS cd_2 16 h dX1_aWish_12 (Nat.le_of_ble_eq_true rfl) rfl 16 rfl (fun x25 h => ?_)
  refine wm_iload_n X 0 dX1_aWish_15 rfl ?_
  refine wm_iconst (v := 0) X dX1_aWish_16 (by decide) ?_
  refine wm_iastore X hS h dX1_aWish_17 (fun σ26 _ h => ?_)
  refine wm_sub (ℓ' := [(0, va_rf (some h0)), (1, va_rf x1), (2, va_rf x21), (3, .int x23)]) [2, 3, 1, 0] rfl ?_
  refine wX1_aWish_18 X hS hr hnm hl hno _ _ _ _ fu _ _ _ _ _ _ _ h hC hZ (fun σ C Z kc kz h hC hZ => ?_) (fun σ C Z kc kz h hC hZ => ?_)
  · refine wm_aload_n X 0 dX1_aWish_35 rfl ?_
    obtain ⟨q47, eq47, h⟩ := Option.bind_eq_some_iff.mp h
    obtain ⟨eq47, s48⟩ := rv_some eq47
    obtain ⟨C, Z, h, hC, hZ⟩ := pay_d h hC hZ
    refine wm_cV_r (As := []) (st := []) X hS cd_3 s48 rfl h (fun _ _ hF => ctX3_wrong l hF) mdX3_wrong mvX3_wrong q1073 dX1_aWish_36 rfl (by rw [eq47]; first | done | rfl) c1_0 (Nat.le_of_ble_eq_true rfl) ⟨Nat.le_of_ble_eq_true rfl, Nat.le_of_ble_eq_true rfl⟩ ⟨le_p hC, le_p hZ⟩ (fun x49 σ50 _ h => ?_)
    exact wm_athrowW X hS hno (thrd_e h) dX1_aWish_39 (le_p hC) (le_p hZ)
  · refine wm_aload_n X 0 dX1_aWish_75 rfl ?_
    refine wm_iload_n X 1 dX1_aWish_76 rfl ?_
    obtain ⟨q51, eq51, h⟩ := Option.bind_eq_some_iff.mp h
    obtain ⟨eq51, s52⟩ := rv_some eq51
    refine wm_cV_v (As := [.int x23]) (st := []) X hS cd_2 s52 rfl h (fun _ hF => ctX2_fillsWishes l hF) mdX2_fillsWishes mvX2_fillsWishes q1187 dX1_aWish_77 rfl (by rw [eq51]; first | done | rfl) c1_0 (Nat.le_of_ble_eq_true rfl) ⟨Nat.le_of_ble_eq_true rfl, Nat.le_of_ble_eq_true rfl⟩ ⟨le_p hC, le_p hZ⟩ (fun σ53 _ h => ?_)
    exact wm_xvret X hr (rt_e h) dX1_aWish_80 (le_p hC) (le_p hZ)
theorem mdX1_singleTold : MD yX1_singleTold 1 := by unfold MD; decide +kernel
theorem mvX1_singleTold : MV yX1_singleTold cX1_singleTold 3 ((some FieldType.int)) := ⟨q1223, qs22, q128, q1224⟩
set_option maxHeartbeats 4000000 in
theorem ctX1_singleTold (l : Launch) (hl : l.stackTraces = false) {h0 : Nat} {x1 : Option Nat} {σ : Mm} {xo : (Int32 × Mm) ⊕ (Nat × Mm)} {mc ms : Nat} (h : FX1_singleTold h0 x1 σ = some (xo, mc, ms)) : CTXi l yX1_singleTold (ws_ yX1_singleTold cX1_singleTold 3 ((some FieldType.int))) 8 180 mc ms [va_rf (some h0), va_rf x1] σ xo := by
  refine ctx_start (n := 1) mdX1_singleTold (Nat.le_of_ble_eq_true rfl) (c1_r (c1_r c1_0)) (fun p e s m args below meth c D dA sz0 ad0 X hS hr hnm hno => ?_)
  have X : CX p s m args meth c cX1_singleTold 3 RX1 := X
  have hC : 0 + mc ≤ mc := Nat.le_of_eq (Nat.zero_add mc)
  have hZ : 0 + ms ≤ ms := Nat.le_of_eq (Nat.zero_add ms)
  generalize mN σ = N0
  unfold FX1_singleTold at h
  refine wm_aload_n X 0 dX1_singleTold_0 rfl ?_
  refine wm_aload_n X 1 dX1_singleTold_1 rfl ?_
  obtain ⟨s21, h⟩ := ck_e h
  refine wm_dV_i (As := [va_rf x1]) (st := []) X hS hno cd_1 s21 rfl h hC hZ (fun _ _ _ hF => ctX1_personTold l hl hF) mdX1_personTold mvX1_personTold q1199 dX1_singleTold_2 rfl rfl c1_0 (Nat.le_of_ble_eq_true rfl) ⟨Nat.le_of_ble_eq_true rfl, Nat.le_of_ble_eq_true rfl⟩ (Nat.le_refl _) (Nat.le_refl _) (fun x22 σ23 c1 z1 C Z _ h hC hZ => ?_)
  refine wm_istore_n (ℓ' := [(2, .int x22), (0, va_rf (some h0)), (1, va_rf x1)]) X dX1_singleTold_5 (by decide) rfl ?_
  refine wm_aload_n X 2 dX1_singleTold_6 rfl ?_
  refine wm_gRN X hS cd_2 12 h dX1_singleTold_7 (Nat.le_of_ble_eq_true rfl) rfl 12 rfl (fun x24 h => ?_)
  refine wm_iload_n X 0 dX1_singleTold_10 rfl ?_
  refine wm_iaload X hS h dX1_singleTold_11 (fun x25 h => ?_)
  refine wm_iconst (v := (-1)) X dX1_singleTold_12 (by decide) ?_
  refine wm_icmp_eq X 24 h dX1_singleTold_13 (by decide) (fun c31 h => ?_) (fun c31 h => ?_)
  · refine wm_iload_n X 0 dX1_singleTold_24 rfl ?_
    exact wm_xiret X hr (rt_e h) dX1_singleTold_25 (le_p hC) (le_p hZ)
  · refine wm_aload_n X 1 dX1_singleTold_16 rfl ?_
    refine wm_gR X hS cd_1 4 h dX1_singleTold_17 (Nat.le_of_ble_eq_true rfl) rfl q441 (fun x26 h => ?_)
    obtain ⟨q27, eq27, h⟩ := Option.bind_eq_some_iff.mp h
    obtain ⟨eq27, s28⟩ := rv_some eq27
    obtain ⟨C, Z, h, hC, hZ⟩ := pay_d h hC hZ
    refine wm_cV_r (As := []) (st := []) X hS cd_3 s28 rfl h (fun _ _ hF => ctX3_wrong l hF) mdX3_wrong mvX3_wrong q1073 dX1_singleTold_20 rfl (by rw [eq27]; first | done | rfl) c1_0 (Nat.le_of_ble_eq_true rfl) ⟨Nat.le_of_ble_eq_true rfl, Nat.le_of_ble_eq_true rfl⟩ ⟨le_p hC, le_p hZ⟩ (fun x29 σ30 _ h => ?_)
    exact wm_athrowW X hS hno (thrd_e h) dX1_singleTold_23 (le_p hC) (le_p hZ)
theorem mdX1_aWedding : MD yX1_aWedding 1 := by unfold MD; decide +kernel
theorem mvX1_aWedding : MV yX1_aWedding cX1_aWedding 4 (none) := ⟨q1219, qs21, q128, q1220⟩
set_option maxHeartbeats 4000000 in
theorem ctX1_aWedding (l : Launch) (hl : l.stackTraces = false) {h0 : Nat} {x1 : Option Nat} {σ : Mm} {xo : Mm ⊕ (Nat × Mm)} {mc ms : Nat} (h : FX1_aWedding h0 x1 σ = some (xo, mc, ms)) : CTXv l yX1_aWedding (ws_ yX1_aWedding cX1_aWedding 4 (none)) 9 202 mc ms [va_rf (some h0), va_rf x1] σ xo := by
  refine ctx_start (n := 1) mdX1_aWedding (Nat.le_of_ble_eq_true rfl) (c1_r (c1_r c1_0)) (fun p e s m args below meth c D dA sz0 ad0 X hS hr hnm hno => ?_)
  have X : CX p s m args meth c cX1_aWedding 4 RX1 := X
  have hC : 0 + mc ≤ mc := Nat.le_of_eq (Nat.zero_add mc)
  have hZ : 0 + ms ≤ ms := Nat.le_of_eq (Nat.zero_add ms)
  generalize mN σ = N0
  unfold FX1_aWedding at h
  refine wm_aload_n X 0 dX1_aWedding_0 rfl ?_
  refine wm_aload_n X 1 dX1_aWedding_1 rfl ?_
  obtain ⟨s21, h⟩ := ck_e h
  refine wm_dV_i (As := [va_rf x1]) (st := []) X hS hno cd_1 s21 rfl h hC hZ (fun _ _ _ hF => ctX1_singleTold l hl hF) mdX1_singleTold mvX1_singleTold q1221 dX1_aWedding_2 rfl rfl c1_0 (Nat.le_of_ble_eq_true rfl) ⟨Nat.le_of_ble_eq_true rfl, Nat.le_of_ble_eq_true rfl⟩ (Nat.le_refl _) (Nat.le_refl _) (fun x22 σ23 c1 z1 C Z _ h hC hZ => ?_)
  refine wm_istore_n (ℓ' := [(2, .int x22), (0, va_rf (some h0)), (1, va_rf x1)]) X dX1_aWedding_5 (by decide) rfl ?_
  refine wm_aload_n X 1 dX1_aWedding_6 rfl ?_
  refine wm_aload_n X 2 dX1_aWedding_7 rfl ?_
  obtain ⟨s24, h⟩ := ck_e h
  refine wm_dV_i (As := [va_rf x1]) (st := []) X hS hno cd_1 s24 rfl h hC hZ (fun _ _ _ hF => ctX1_singleTold l hl hF) mdX1_singleTold mvX1_singleTold q1221 dX1_aWedding_8 rfl rfl c1_0 (Nat.le_of_ble_eq_true rfl) ⟨Nat.le_of_ble_eq_true rfl, Nat.le_of_ble_eq_true rfl⟩ (Nat.le_refl _) (Nat.le_refl _) (fun x25 σ26 c1 z1 C Z _ h hC hZ => ?_)
  refine wm_istore_n (ℓ' := [(3, .int x25), (2, .int x22), (0, va_rf (some h0)), (1, va_rf x1)]) X dX1_aWedding_11 (by decide) rfl ?_
  refine wm_iload_n X 1 dX1_aWedding_12 rfl ?_
  refine wm_iload_n X 0 dX1_aWedding_13 rfl ?_
  refine wm_icmp_ne X 25 h dX1_aWedding_14 (by decide) (fun c36 h => ?_) (fun c36 h => ?_)
  · refine wm_aload_n X 3 dX1_aWedding_25 rfl ?_
    refine wm_gRN X hS cd_2 12 h dX1_aWedding_26 (Nat.le_of_ble_eq_true rfl) rfl 12 rfl (fun x27 h => ?_)
    refine wm_iload_n X 1 dX1_aWedding_29 rfl ?_
    refine wm_iload_n X 0 dX1_aWedding_30 rfl ?_
    refine wm_iastore X hS h dX1_aWedding_31 (fun σ28 _ h => ?_)
    refine wm_aload_n X 3 dX1_aWedding_32 rfl ?_
    refine wm_gRN X hS cd_2 12 h dX1_aWedding_33 (Nat.le_of_ble_eq_true rfl) rfl 12 rfl (fun x29 h => ?_)
    refine wm_iload_n X 0 dX1_aWedding_36 rfl ?_
    refine wm_iload_n X 1 dX1_aWedding_37 rfl ?_
    refine wm_iastore X hS h dX1_aWedding_38 (fun σ30 _ h => ?_)
    exact wm_xvret X hr (rt_e h) dX1_aWedding_39 (le_p hC) (le_p hZ)
  · refine wm_aload_n X 2 dX1_aWedding_17 rfl ?_
    refine wm_gR X hS cd_1 4 h dX1_aWedding_18 (Nat.le_of_ble_eq_true rfl) rfl q441 (fun x31 h => ?_)
    obtain ⟨q32, eq32, h⟩ := Option.bind_eq_some_iff.mp h
    obtain ⟨eq32, s33⟩ := rv_some eq32
    obtain ⟨C, Z, h, hC, hZ⟩ := pay_d h hC hZ
    refine wm_cV_r (As := []) (st := []) X hS cd_3 s33 rfl h (fun _ _ hF => ctX3_wrong l hF) mdX3_wrong mvX3_wrong q1073 dX1_aWedding_21 rfl (by rw [eq32]; first | done | rfl) c1_0 (Nat.le_of_ble_eq_true rfl) ⟨Nat.le_of_ble_eq_true rfl, Nat.le_of_ble_eq_true rfl⟩ ⟨le_p hC, le_p hZ⟩ (fun x34 σ35 _ h => ?_)
    exact wm_athrowW X hS hno (thrd_e h) dX1_aWedding_24 (le_p hC) (le_p hZ)
theorem mdX1_aKnowing : MD yX1_aKnowing 1 := by unfold MD; decide +kernel
theorem mvX1_aKnowing : MV yX1_aKnowing cX1_aKnowing 5 (none) := ⟨q1227, qs23, q128, q1228⟩
set_option maxHeartbeats 4000000 in
theorem wX1_aKnowing_11 {p : Program} {l : Launch} {e : Env} {s : State} {m : MethodId} {args : Array Value} {below : List Frame} {meth : Method} {c : Code} {D : va_G} {dA : Nat → ClassId} {sz0 : Nat} {ad0 : Nat → Nat} {N0 : Nat} {xo : Mm ⊕ (Nat × Mm)} {mc ms : Nat} (X : CX p s m args meth c cX1_aKnowing 5 RX1) (hS : ST D dA sz0 ad0 s) (hr : meth.sig.returnType = none) (hnm : meth.name = yX1_aKnowing.name) (hl : l.stackTraces = false) (hno : ∀ x ∈ c.exceptionTable.toList, False) (h0 : Nat) (y1 : Option Nat) (y2 : Option Nat) (y3 : Int32) : ∀ (n : Nat)  (σ : Mm) (kx24 : Mm → DX (Mm)) (kx49 : Mm → DX (Mm)) (C Z kc kz : Nat), FX1_aKnowing_11 h0 y1 y2 y3 n σ kx24 kx49 = some (xo, C, Z) → kc + C ≤ mc → kz + Z ≤ ms → (∀  (σ : Mm) (C Z kc kz : Nat), kx24 σ = some (xo, C, Z) → kc + C ≤ mc → kz + Z ≤ ms → WMxv p l e s m args below meth c 8 180 mc ms 5 D dA sz0 ad0 N0 xo kc kz σ [(2, va_rf y2)] [] 24) → (∀  (σ : Mm) (C Z kc kz : Nat), kx49 σ = some (xo, C, Z) → kc + C ≤ mc → kz + Z ≤ ms → WMxv p l e s m args below meth c 8 180 mc ms 5 D dA sz0 ad0 N0 xo kc kz σ [] [] 49) → WMxv p l e s m args below meth c 8 180 mc ms 5 D dA sz0 ad0 N0 xo kc kz σ [(0, va_rf (some h0)), (1, va_rf y1), (2, va_rf y2), (3, .int y3)] [] 11 := by
  intro n
  induction n with
  | zero =>
    intro σ kx24 kx49 C Z kc kz h hC hZ hkx24 hkx49
    cases h
  | succ n ih =>
    intro σ kx24 kx49 C Z kc kz h hC hZ hkx24 hkx49
    rw [FX1_aKnowing_11] at h
    refine wm_aload_n X 0 dX1_aKnowing_11 rfl ?_
    refine wm_aload_n X 1 dX1_aKnowing_12 rfl ?_
    obtain ⟨s25, h⟩ := ck_e h
    refine wm_dV_i (As := [va_rf y1]) (st := []) X hS hno cd_1 s25 rfl h hC hZ (fun _ _ _ hF => ctX1_personTold l hl hF) mdX1_personTold mvX1_personTold q1199 dX1_aKnowing_13 rfl rfl c1_0 (Nat.le_of_ble_eq_true rfl) ⟨Nat.le_of_ble_eq_true rfl, Nat.le_of_ble_eq_true rfl⟩ (Nat.le_refl _) (Nat.le_refl _) (fun x26 σ27 c1 z1 C Z _ h hC hZ => ?_)
    refine wm_istore (ℓ' := [(4, .int x26), (0, va_rf (some h0)), (1, va_rf y1), (2, va_rf y2), (3, .int y3)]) X dX1_aKnowing_16 (by decide) rfl ?_
    refine wm_iload X 0 dX1_aKnowing_18 rfl ?_
    refine wm_iload_n X 4 dX1_aKnowing_20 rfl ?_
    refine wm_icmp_ne X 29 h dX1_aKnowing_21 (by decide) (fun c36 h => ?_) (fun c36 h => ?_)
    · refine wm_aload_n X 2 dX1_aKnowing_29 rfl ?_
      refine wm_gRN X hS cd_2 13 h dX1_aKnowing_30 (Nat.le_of_ble_eq_true rfl) rfl 13 rfl (fun x28 h => ?_)
      refine wm_iload_n X 4 dX1_aKnowing_33 rfl ?_
      refine wm_dup2 X dX1_aKnowing_34 rfl (catR _) ?_
      refine wm_iaload X hS h dX1_aKnowing_35 (fun x29 h => ?_)
      refine wm_iconst (v := 1) X dX1_aKnowing_36 (by decide) ?_
      refine wm_iload X 0 dX1_aKnowing_37 rfl ?_
      refine wm_ishl X dX1_aKnowing_39 ?_
      refine wm_ior X dX1_aKnowing_40 ?_
      refine wm_iastore X hS h dX1_aKnowing_41 (fun σ30 _ h => ?_)
      refine wm_aload_n X 3 dX1_aKnowing_42 rfl ?_
      obtain ⟨q31, eq31, h⟩ := Option.bind_eq_some_iff.mp h
      obtain ⟨eq31, s32⟩ := rv_some eq31
      refine wm_cV_i (As := []) (st := []) X hS cd_3 s32 rfl h (fun _ _ hF => ctX3_isFigure l hF) mdX3_isFigure mvX3_isFigure q1213 dX1_aKnowing_43 rfl (by rw [eq31]; first | done | rfl) c1_0 (Nat.le_of_ble_eq_true rfl) ⟨Nat.le_of_ble_eq_true rfl, Nat.le_of_ble_eq_true rfl⟩ ⟨le_p hC, le_p hZ⟩ (fun x33 σ34 _ h => ?_)
      refine wm_if_ne X 11 h dX1_aKnowing_46 (by decide) (fun c35 h => ?_) (fun c35 h => ?_)
      · refine wm_sub (ℓ' := [(0, va_rf (some h0)), (1, va_rf y1), (2, va_rf y2), (3, .int y3)]) [1, 2, 3, 4] rfl ?_
        exact ih _ _ _ _ _ _ _ h hC hZ hkx24 hkx49
      · refine wm_sub (ℓ' := []) [] rfl ?_
        exact hkx49 _ _ _ _ _ h hC hZ
    · refine wm_sub (ℓ' := [(2, va_rf y2)]) [3] rfl ?_
      exact hkx24 _ _ _ _ _ h hC hZ
set_option maxHeartbeats 4000000 in
theorem ctX1_aKnowing (l : Launch) (hl : l.stackTraces = false) {h0 : Nat} {x1 : Option Nat} {σ : Mm} {xo : Mm ⊕ (Nat × Mm)} {mc ms : Nat} (h : FX1_aKnowing h0 x1 σ = some (xo, mc, ms)) : CTXv l yX1_aKnowing (ws_ yX1_aKnowing cX1_aKnowing 5 (none)) 8 180 mc ms [va_rf (some h0), va_rf x1] σ xo := by
  refine ctx_start (n := 1) mdX1_aKnowing (Nat.le_of_ble_eq_true rfl) (c1_r (c1_r c1_0)) (fun p e s m args below meth c D dA sz0 ad0 X hS hr hnm hno => ?_)
  have X : CX p s m args meth c cX1_aKnowing 5 RX1 := X
  have hC : 0 + mc ≤ mc := Nat.le_of_eq (Nat.zero_add mc)
  have hZ : 0 + ms ≤ ms := Nat.le_of_eq (Nat.zero_add ms)
  generalize mN σ = N0
  unfold FX1_aKnowing at h
  refine wm_aload_n X 0 dX1_aKnowing_0 rfl ?_
  refine wm_gR X hS cd_1 4 h dX1_aKnowing_1 (Nat.le_of_ble_eq_true rfl) rfl q441 (fun x21 h => ?_)
  refine wm_astore_n (ℓ' := [(2, va_rf x21), (0, va_rf (some h0)), (1, va_rf x1)]) X dX1_aKnowing_4 (by decide) rfl ?_
  refine wm_aload_n X 1 dX1_aKnowing_5 rfl ?_
  refine wm_aload_n X 2 dX1_aKnowing_6 rfl ?_
  obtain ⟨s22, h⟩ := ck_e h
  refine wm_dV_i (As := [va_rf x1]) (st := []) X hS hno cd_1 s22 rfl h hC hZ (fun _ _ _ hF => ctX1_personTold l hl hF) mdX1_personTold mvX1_personTold q1199 dX1_aKnowing_7 rfl rfl c1_0 (Nat.le_of_ble_eq_true rfl) ⟨Nat.le_of_ble_eq_true rfl, Nat.le_of_ble_eq_true rfl⟩ (Nat.le_refl _) (Nat.le_refl _) (fun x23 σ24 c1 z1 C Z _ h hC hZ => ?_)
  refine wm_istore_n (ℓ' := [(3, .int x23), (2, va_rf x21), (0, va_rf (some h0)), (1, va_rf x1)]) X dX1_aKnowing_10 (by decide) rfl ?_
  refine wm_sub (ℓ' := [(0, va_rf (some h0)), (1, va_rf x1), (2, va_rf x21), (3, .int x23)]) [2, 3, 1, 0] rfl ?_
  refine wX1_aKnowing_11 X hS hr hnm hl hno _ _ _ _ fu _ _ _ _ _ _ _ h hC hZ (fun σ C Z kc kz h hC hZ => ?_) (fun σ C Z kc kz h hC hZ => ?_)
  · refine wm_aload_n X 0 dX1_aKnowing_24 rfl ?_
    obtain ⟨q37, eq37, h⟩ := Option.bind_eq_some_iff.mp h
    obtain ⟨eq37, s38⟩ := rv_some eq37
    obtain ⟨C, Z, h, hC, hZ⟩ := pay_d h hC hZ
    refine wm_cV_r (As := []) (st := []) X hS cd_3 s38 rfl h (fun _ _ hF => ctX3_wrong l hF) mdX3_wrong mvX3_wrong q1073 dX1_aKnowing_25 rfl (by rw [eq37]; first | done | rfl) c1_0 (Nat.le_of_ble_eq_true rfl) ⟨Nat.le_of_ble_eq_true rfl, Nat.le_of_ble_eq_true rfl⟩ ⟨le_p hC, le_p hZ⟩ (fun x39 σ40 _ h => ?_)
    exact wm_athrowW X hS hno (thrd_e h) dX1_aKnowing_28 (le_p hC) (le_p hZ)
  · exact wm_xvret X hr (rt_e h) dX1_aKnowing_49 (le_p hC) (le_p hZ)
theorem mdX1_theHooks : MD yX1_theHooks 1 := by unfold MD; decide +kernel
theorem mvX1_theHooks : MV yX1_theHooks cX1_theHooks 4 (none) := ⟨q1231, qs24, q128, q1232⟩
set_option maxHeartbeats 4000000 in
theorem wX1_theHooks_13 {p : Program} {l : Launch} {e : Env} {s : State} {m : MethodId} {args : Array Value} {below : List Frame} {meth : Method} {c : Code} {D : va_G} {dA : Nat → ClassId} {sz0 : Nat} {ad0 : Nat → Nat} {N0 : Nat} {xo : Mm ⊕ (Nat × Mm)} {mc ms : Nat} (X : CX p s m args meth c cX1_theHooks 4 RX1) (hS : ST D dA sz0 ad0 s) (hr : meth.sig.returnType = none) (hnm : meth.name = yX1_theHooks.name) (hl : l.stackTraces = false) (hno : ∀ x ∈ c.exceptionTable.toList, False) (h0 : Nat) (y1 : Option Nat) (y2 : Int32) : ∀ (n : Nat) (v3 : Int32) (σ : Mm) (kx51 : Mm → DX (Mm)) (kx37 : Mm → DX (Mm)) (C Z kc kz : Nat), FX1_theHooks_13 h0 y1 y2 n v3 σ kx51 kx37 = some (xo, C, Z) → kc + C ≤ mc → kz + Z ≤ ms → (∀  (σ : Mm) (C Z kc kz : Nat), kx51 σ = some (xo, C, Z) → kc + C ≤ mc → kz + Z ≤ ms → WMxv p l e s m args below meth c 7 159 mc ms 4 D dA sz0 ad0 N0 xo kc kz σ [(1, va_rf y1), (2, .int y2)] [] 51) → (∀  (σ : Mm) (C Z kc kz : Nat), kx37 σ = some (xo, C, Z) → kc + C ≤ mc → kz + Z ≤ ms → WMxv p l e s m args below meth c 7 159 mc ms 4 D dA sz0 ad0 N0 xo kc kz σ [(0, va_rf (some h0))] [] 37) → WMxv p l e s m args below meth c 7 159 mc ms 4 D dA sz0 ad0 N0 xo kc kz σ [(0, va_rf (some h0)), (1, va_rf y1), (2, .int y2), (3, .int v3)] [] 13 := by
  intro n
  induction n with
  | zero =>
    intro v3 σ kx51 kx37 C Z kc kz h hC hZ hkx51 hkx37
    cases h
  | succ n ih =>
    intro v3 σ kx51 kx37 C Z kc kz h hC hZ hkx51 hkx37
    rw [FX1_theHooks_13] at h
    refine wm_iload_n X 3 dX1_theHooks_13 rfl ?_
    refine wm_bipush (v := 12) X dX1_theHooks_14 (by decide) ?_
    refine wm_icmp_ge X 51 h dX1_theHooks_16 (by decide) (fun c34 h => ?_) (fun c34 h => ?_)
    · refine wm_sub (ℓ' := [(1, va_rf y1), (2, .int y2)]) [1, 2] rfl ?_
      exact hkx51 _ _ _ _ _ h hC hZ
    · refine wm_aload_n X 1 dX1_theHooks_19 rfl ?_
      refine wm_gRN X hS cd_2 17 h dX1_theHooks_20 (Nat.le_of_ble_eq_true rfl) rfl 17 rfl (fun x26 h => ?_)
      refine wm_iload_n X 3 dX1_theHooks_23 rfl ?_
      refine wm_iaload X hS h dX1_theHooks_24 (fun x27 h => ?_)
      refine wm_iconst (v := (-1)) X dX1_theHooks_25 (by decide) ?_
      refine wm_icmp_ne X 37 h dX1_theHooks_26 (by decide) (fun c33 h => ?_) (fun c33 h => ?_)
      · refine wm_sub (ℓ' := [(0, va_rf (some h0))]) [0] rfl ?_
        exact hkx37 _ _ _ _ _ h hC hZ
      · refine wm_aload_n X 1 dX1_theHooks_29 rfl ?_
        refine wm_iload_n X 3 dX1_theHooks_30 rfl ?_
        obtain ⟨q28, eq28, h⟩ := Option.bind_eq_some_iff.mp h
        obtain ⟨eq28, s29⟩ := rv_some eq28
        refine wm_cV_i (As := [.int v3]) (st := []) X hS cd_2 s29 rfl h (fun _ _ hF => ctX2_isTicket l hF) mdX2_isTicket mvX2_isTicket q519 dX1_theHooks_31 rfl (by rw [eq28]; first | done | rfl) c1_0 (Nat.le_of_ble_eq_true rfl) ⟨Nat.le_of_ble_eq_true rfl, Nat.le_of_ble_eq_true rfl⟩ ⟨le_p hC, le_p hZ⟩ (fun x30 σ31 _ h => ?_)
        refine wm_if_eq X 45 h dX1_theHooks_34 (by decide) (fun c32 h => ?_) (fun c32 h => ?_)
        · refine wm_iinc (v := (v3 + 1)) (ℓ' := [(3, .int (v3 + 1)), (0, va_rf (some h0)), (1, va_rf y1), (2, .int y2)]) X 3 dX1_theHooks_45 rfl rfl (by decide) rfl ?_
          refine wm_goto X 13 dX1_theHooks_48 (by decide) ?_
          refine wm_sub (ℓ' := [(0, va_rf (some h0)), (1, va_rf y1), (2, .int y2), (3, .int (v3 + 1))]) [1, 2, 3, 0] rfl ?_
          exact ih _ _ _ _ _ _ _ _ h hC hZ hkx51 hkx37
        · refine wm_sub (ℓ' := [(0, va_rf (some h0))]) [0] rfl ?_
          exact hkx37 _ _ _ _ _ h hC hZ
set_option maxHeartbeats 4000000 in
theorem ctX1_theHooks (l : Launch) (hl : l.stackTraces = false) {h0 : Nat} {x1 : Option Nat} {σ : Mm} {xo : Mm ⊕ (Nat × Mm)} {mc ms : Nat} (h : FX1_theHooks h0 x1 σ = some (xo, mc, ms)) : CTXv l yX1_theHooks (ws_ yX1_theHooks cX1_theHooks 4 (none)) 7 159 mc ms [va_rf (some h0), va_rf x1] σ xo := by
  refine ctx_start (n := 1) mdX1_theHooks (Nat.le_of_ble_eq_true rfl) (c1_r (c1_r c1_0)) (fun p e s m args below meth c D dA sz0 ad0 X hS hr hnm hno => ?_)
  have X : CX p s m args meth c cX1_theHooks 4 RX1 := X
  have hC : 0 + mc ≤ mc := Nat.le_of_eq (Nat.zero_add mc)
  have hZ : 0 + ms ≤ ms := Nat.le_of_eq (Nat.zero_add ms)
  generalize mN σ = N0
  unfold FX1_theHooks at h
  refine wm_aload_n X 0 dX1_theHooks_0 rfl ?_
  refine wm_gR X hS cd_1 4 h dX1_theHooks_1 (Nat.le_of_ble_eq_true rfl) rfl q441 (fun x21 h => ?_)
  refine wm_iconst (v := 1) X dX1_theHooks_4 (by decide) ?_
  refine wm_bipush (v := 12) X dX1_theHooks_5 (by decide) ?_
  obtain ⟨q22, eq22, h⟩ := Option.bind_eq_some_iff.mp h
  obtain ⟨eq22, s23⟩ := rv_some eq22
  refine wm_dV_i (As := [.int 1, .int 12]) (st := []) X hS hno cd_3 s23 rfl h hC hZ (fun _ _ _ hF => ctX3_number l hl hF) mdX3_number mvX3_number q1203 dX1_theHooks_7 rfl (by rw [eq22]; first | done | rfl) c1_0 (Nat.le_of_ble_eq_true rfl) ⟨Nat.le_of_ble_eq_true rfl, Nat.le_of_ble_eq_true rfl⟩ (Nat.le_refl _) (Nat.le_refl _) (fun x24 σ25 c1 z1 C Z _ h hC hZ => ?_)
  refine wm_istore_n (ℓ' := [(2, .int x24), (0, va_rf (some h0)), (1, va_rf x1)]) X dX1_theHooks_10 (by decide) rfl ?_
  refine wm_iload_n X 0 dX1_theHooks_11 rfl ?_
  refine wm_istore_n (ℓ' := [(3, .int x24), (2, .int x24), (0, va_rf (some h0)), (1, va_rf x1)]) X dX1_theHooks_12 (by decide) rfl ?_
  refine wm_sub (ℓ' := [(0, va_rf (some h0)), (1, va_rf x1), (2, .int x24), (3, .int x24)]) [2, 3, 1, 0] rfl ?_
  refine wX1_theHooks_13 X hS hr hnm hl hno _ _ _ fu _ _ _ _ _ _ _ _ h hC hZ (fun σ C Z kc kz h hC hZ => ?_) (fun σ C Z kc kz h hC hZ => ?_)
  · refine wm_aload_n X 0 dX1_theHooks_51 rfl ?_
    refine wm_iload_n X 1 dX1_theHooks_52 rfl ?_
    refine wm_pIN X hS cd_2 2 h dX1_theHooks_53 (Nat.le_of_ble_eq_true rfl) rfl 2 rfl rfl rfl (fun σ35 _ h => ?_)
    exact wm_xvret X hr (rt_e h) dX1_theHooks_56 (le_p hC) (le_p hZ)
  · refine wm_aload_n X 0 dX1_theHooks_37 rfl ?_
    refine wm_gR X hS cd_1 4 h dX1_theHooks_38 (Nat.le_of_ble_eq_true rfl) rfl q441 (fun x36 h => ?_)
    obtain ⟨q37, eq37, h⟩ := Option.bind_eq_some_iff.mp h
    obtain ⟨eq37, s38⟩ := rv_some eq37
    obtain ⟨C, Z, h, hC, hZ⟩ := pay_d h hC hZ
    refine wm_cV_r (As := []) (st := []) X hS cd_3 s38 rfl h (fun _ _ hF => ctX3_wrong l hF) mdX3_wrong mvX3_wrong q1073 dX1_theHooks_41 rfl (by rw [eq37]; first | done | rfl) c1_0 (Nat.le_of_ble_eq_true rfl) ⟨Nat.le_of_ble_eq_true rfl, Nat.le_of_ble_eq_true rfl⟩ ⟨le_p hC, le_p hZ⟩ (fun x39 σ40 _ h => ?_)
    exact wm_athrowW X hS hno (thrd_e h) dX1_theHooks_44 (le_p hC) (le_p hZ)
theorem mdJ6_isLatin1 : MD yJ6_isLatin1 0 := by unfold MD; decide +kernel
theorem mvJ6_isLatin1 : MV yJ6_isLatin1 cJ6_isLatin1 1 ((some FieldType.boolean)) := ⟨q1106, q1107, q143, q1108⟩
set_option maxHeartbeats 4000000 in
theorem ctJ6_isLatin1 (l : Launch) {h0 : Nat} {σ σf : Mm} {r : Int32} (h : FJ6_isLatin1 h0 σ = some (r, σf)) : CTi l yJ6_isLatin1 (ws_ yJ6_isLatin1 cJ6_isLatin1 1 ((some FieldType.boolean))) 0 0 0 0 [va_rf (some h0)] σ r σf := by
  refine ct_start (n := 0) mdJ6_isLatin1 (Nat.le_of_ble_eq_true rfl) (c1_r c1_0) (fun p e s m args below meth c D dA sz0 ad0 X hS hr hnm => ?_)
  have X : CX p s m args meth c cJ6_isLatin1 1 RJ6 := X
  generalize mN σ = N0
  unfold FJ6_isLatin1 at h
  refine wm_gstI X hS dJ6_isLatin1_0 q1005 ?_
  refine wm_if_eq X 17 h dJ6_isLatin1_3 (by decide) (fun c23 h => ?_) (fun c23 h => ?_)
  · refine wm_iconst (v := 0) X dJ6_isLatin1_17 (by decide) ?_
    exact wm_zret X hr h dJ6_isLatin1_18 (Nat.le_of_ble_eq_true rfl) (Nat.le_of_ble_eq_true rfl)
  · refine wm_aload_n X 0 dJ6_isLatin1_6 rfl ?_
    refine wm_gI X hS cd_20 1 h dJ6_isLatin1_7 (Nat.le_of_ble_eq_true rfl) rfl q1061 (fun x21 h => ?_)
    refine wm_if_ne X 17 h dJ6_isLatin1_10 (by decide) (fun c22 h => ?_) (fun c22 h => ?_)
    · refine wm_iconst (v := 0) X dJ6_isLatin1_17 (by decide) ?_
      exact wm_zret X hr h dJ6_isLatin1_18 (Nat.le_of_ble_eq_true rfl) (Nat.le_of_ble_eq_true rfl)
    · refine wm_iconst (v := 1) X dJ6_isLatin1_13 (by decide) ?_
      refine wm_goto X 18 dJ6_isLatin1_14 (by decide) ?_
      exact wm_zret X hr h dJ6_isLatin1_18 (Nat.le_of_ble_eq_true rfl) (Nat.le_of_ble_eq_true rfl)
theorem mdJ8_signedHashCode : MD yJ8_signedHashCode 4 := by unfold MD; decide +kernel
theorem msJ8_signedHashCode : MS yJ8_signedHashCode cJ8_signedHashCode 6 ((some FieldType.int)) := ⟨q1117, q145, q1118⟩
set_option maxHeartbeats 4000000 in
theorem wJ8_signedHashCode_8 {p : Program} {l : Launch} {e : Env} {s : State} {m : MethodId} {args : Array Value} {below : List Frame} {meth : Method} {c : Code} {D : va_G} {dA : Nat → ClassId} {sz0 : Nat} {ad0 : Nat → Nat} {N0 : Nat} {r : Int32} {σf : Mm} (X : CX p s m args meth c cJ8_signedHashCode 6 RJ8) (hS : ST D dA sz0 ad0 s) (hr : meth.sig.returnType = (some FieldType.int)) (hnm : meth.name = yJ8_signedHashCode.name) (y1 : Option Nat) (y4 : Int32) : ∀ (n : Nat) (v0 : Int32) (v5 : Int32) (σ : Mm) (kx35 : Int32 → Mm → Option (Int32 × Mm)), FJ8_signedHashCode_8 y1 y4 n v0 v5 σ kx35 = some (r, σf) → (∀ (w0 : Int32) (σ : Mm), kx35 w0 σ = some (r, σf) → WMi p l e s m args below meth c 0 0 0 0 6 D dA sz0 ad0 N0 r σf 0 0 σ [(0, .int w0)] [] 35) → WMi p l e s m args below meth c 0 0 0 0 6 D dA sz0 ad0 N0 r σf 0 0 σ [(0, .int v0), (1, va_rf y1), (4, .int y4), (5, .int v5)] [] 8 := by
  intro n
  induction n with
  | zero =>
    intro v0 v5 σ kx35 h hkx35
    cases h
  | succ n ih =>
    intro v0 v5 σ kx35 h hkx35
    rw [FJ8_signedHashCode_8] at h
    refine wm_iload X 3 dJ8_signedHashCode_8 rfl ?_
    refine wm_iload X 2 dJ8_signedHashCode_10 rfl ?_
    refine wm_icmp_ge X 35 h dJ8_signedHashCode_12 (by decide) (fun c22 h => ?_) (fun c22 h => ?_)
    · refine wm_sub (ℓ' := [(0, .int v0)]) [0] rfl ?_
      exact hkx35 _ _ h
    · refine wm_bipush (v := 31) X dJ8_signedHashCode_15 (by decide) ?_
      refine wm_iload_n X 0 dJ8_signedHashCode_17 rfl ?_
      refine wm_imul X dJ8_signedHashCode_18 ?_
      refine wm_aload_n X 1 dJ8_signedHashCode_19 rfl ?_
      refine wm_iload X 3 dJ8_signedHashCode_20 rfl ?_
      refine wm_baload X hS h dJ8_signedHashCode_22 (fun x21 h => ?_)
      refine wm_sipush (v := 255) X dJ8_signedHashCode_23 (by decide) ?_
      refine wm_iand X dJ8_signedHashCode_26 ?_
      refine wm_iadd X dJ8_signedHashCode_27 ?_
      refine wm_istore_n (ℓ' := [(0, .int ((31 * v0) + (x21 &&& 255))), (1, va_rf y1), (4, .int y4), (5, .int v5)]) X dJ8_signedHashCode_28 (by decide) rfl ?_
      refine wm_iinc (v := (v5 + 1)) (ℓ' := [(5, .int (v5 + 1)), (0, .int ((31 * v0) + (x21 &&& 255))), (1, va_rf y1), (4, .int y4)]) X 3 dJ8_signedHashCode_29 rfl rfl (by decide) rfl ?_
      refine wm_goto X 8 dJ8_signedHashCode_32 (by decide) ?_
      refine wm_sub (ℓ' := [(0, .int ((31 * v0) + (x21 &&& 255))), (1, va_rf y1), (4, .int y4), (5, .int (v5 + 1))]) [1, 2, 3, 0] rfl ?_
      exact ih _ _ _ _ h hkx35
set_option maxHeartbeats 4000000 in
theorem ctJ8_signedHashCode (l : Launch) {x0 : Int32} {x1 : Option Nat} {x2 : Int32} {x3 : Int32} {σ σf : Mm} {r : Int32} (h : FJ8_signedHashCode x0 x1 x2 x3 σ = some (r, σf)) : CTi l yJ8_signedHashCode (ws_ yJ8_signedHashCode cJ8_signedHashCode 6 ((some FieldType.int))) 0 0 0 0 [.int x0, va_rf x1, .int x2, .int x3] σ r σf := by
  refine ct_start (n := 4) mdJ8_signedHashCode (Nat.le_of_ble_eq_true rfl) (c1_i (c1_r (c1_i (c1_i c1_0)))) (fun p e s m args below meth c D dA sz0 ad0 X hS hr hnm => ?_)
  have X : CX p s m args meth c cJ8_signedHashCode 6 RJ8 := X
  generalize mN σ = N0
  unfold FJ8_signedHashCode at h
  refine wm_iload_n X 2 dJ8_signedHashCode_0 rfl ?_
  refine wm_iload_n X 3 dJ8_signedHashCode_1 rfl ?_
  refine wm_iadd X dJ8_signedHashCode_2 ?_
  refine wm_istore (ℓ' := [(4, .int (x2 + x3)), (0, .int x0), (1, va_rf x1), (2, .int x2), (3, .int x3)]) X dJ8_signedHashCode_3 (by decide) rfl ?_
  refine wm_iload_n X 3 dJ8_signedHashCode_5 rfl ?_
  refine wm_istore (ℓ' := [(5, .int x2), (4, .int (x2 + x3)), (0, .int x0), (1, va_rf x1), (2, .int x2), (3, .int x3)]) X dJ8_signedHashCode_6 (by decide) rfl ?_
  refine wm_sub (ℓ' := [(0, .int x0), (1, va_rf x1), (4, .int (x2 + x3)), (5, .int x2)]) [2, 3, 1, 0] rfl ?_
  refine wJ8_signedHashCode_8 X hS hr hnm _ _ fu _ _ _ _ h (fun x23 σ h => ?_)
  · refine wm_iload_n X 0 dJ8_signedHashCode_35 rfl ?_
    exact wm_iret X hr h dJ8_signedHashCode_36 (Nat.le_of_ble_eq_true rfl) (Nat.le_of_ble_eq_true rfl)
theorem mdJ8_hashCode_2 : MD yJ8_hashCode_2 4 := by unfold MD; decide +kernel
theorem msJ8_hashCode_2 : MS yJ8_hashCode_2 cJ8_hashCode_2 6 ((some FieldType.int)) := ⟨q1140, q145, q1141⟩
set_option maxHeartbeats 4000000 in
theorem wJ8_hashCode_2_8 {p : Program} {l : Launch} {e : Env} {s : State} {m : MethodId} {args : Array Value} {below : List Frame} {meth : Method} {c : Code} {D : va_G} {dA : Nat → ClassId} {sz0 : Nat} {ad0 : Nat → Nat} {N0 : Nat} {r : Int32} {σf : Mm} (X : CX p s m args meth c cJ8_hashCode_2 6 RJ8) (hS : ST D dA sz0 ad0 s) (hr : meth.sig.returnType = (some FieldType.int)) (hnm : meth.name = yJ8_hashCode_2.name) (y1 : Option Nat) (y4 : Int32) : ∀ (n : Nat) (v0 : Int32) (v5 : Int32) (σ : Mm) (kx31 : Int32 → Mm → Option (Int32 × Mm)), FJ8_hashCode_2_8 y1 y4 n v0 v5 σ kx31 = some (r, σf) → (∀ (w0 : Int32) (σ : Mm), kx31 w0 σ = some (r, σf) → WMi p l e s m args below meth c 0 0 0 0 6 D dA sz0 ad0 N0 r σf 0 0 σ [(0, .int w0)] [] 31) → WMi p l e s m args below meth c 0 0 0 0 6 D dA sz0 ad0 N0 r σf 0 0 σ [(0, .int v0), (1, va_rf y1), (4, .int y4), (5, .int v5)] [] 8 := by
  intro n
  induction n with
  | zero =>
    intro v0 v5 σ kx31 h hkx31
    cases h
  | succ n ih =>
    intro v0 v5 σ kx31 h hkx31
    rw [FJ8_hashCode_2_8] at h
    refine wm_iload X 3 dJ8_hashCode_2_8 rfl ?_
    refine wm_iload X 2 dJ8_hashCode_2_10 rfl ?_
    refine wm_icmp_ge X 31 h dJ8_hashCode_2_12 (by decide) (fun c22 h => ?_) (fun c22 h => ?_)
    · refine wm_sub (ℓ' := [(0, .int v0)]) [0] rfl ?_
      exact hkx31 _ _ h
    · refine wm_bipush (v := 31) X dJ8_hashCode_2_15 (by decide) ?_
      refine wm_iload_n X 0 dJ8_hashCode_2_17 rfl ?_
      refine wm_imul X dJ8_hashCode_2_18 ?_
      refine wm_aload_n X 1 dJ8_hashCode_2_19 rfl ?_
      refine wm_iload X 3 dJ8_hashCode_2_20 rfl ?_
      refine wm_baload X hS h dJ8_hashCode_2_22 (fun x21 h => ?_)
      refine wm_iadd X dJ8_hashCode_2_23 ?_
      refine wm_istore_n (ℓ' := [(0, .int ((31 * v0) + x21)), (1, va_rf y1), (4, .int y4), (5, .int v5)]) X dJ8_hashCode_2_24 (by decide) rfl ?_
      refine wm_iinc (v := (v5 + 1)) (ℓ' := [(5, .int (v5 + 1)), (0, .int ((31 * v0) + x21)), (1, va_rf y1), (4, .int y4)]) X 3 dJ8_hashCode_2_25 rfl rfl (by decide) rfl ?_
      refine wm_goto X 8 dJ8_hashCode_2_28 (by decide) ?_
      refine wm_sub (ℓ' := [(0, .int ((31 * v0) + x21)), (1, va_rf y1), (4, .int y4), (5, .int (v5 + 1))]) [1, 2, 3, 0] rfl ?_
      exact ih _ _ _ _ h hkx31
set_option maxHeartbeats 4000000 in
theorem ctJ8_hashCode_2 (l : Launch) {x0 : Int32} {x1 : Option Nat} {x2 : Int32} {x3 : Int32} {σ σf : Mm} {r : Int32} (h : FJ8_hashCode_2 x0 x1 x2 x3 σ = some (r, σf)) : CTi l yJ8_hashCode_2 (ws_ yJ8_hashCode_2 cJ8_hashCode_2 6 ((some FieldType.int))) 0 0 0 0 [.int x0, va_rf x1, .int x2, .int x3] σ r σf := by
  refine ct_start (n := 4) mdJ8_hashCode_2 (Nat.le_of_ble_eq_true rfl) (c1_i (c1_r (c1_i (c1_i c1_0)))) (fun p e s m args below meth c D dA sz0 ad0 X hS hr hnm => ?_)
  have X : CX p s m args meth c cJ8_hashCode_2 6 RJ8 := X
  generalize mN σ = N0
  unfold FJ8_hashCode_2 at h
  refine wm_iload_n X 2 dJ8_hashCode_2_0 rfl ?_
  refine wm_iload_n X 3 dJ8_hashCode_2_1 rfl ?_
  refine wm_iadd X dJ8_hashCode_2_2 ?_
  refine wm_istore (ℓ' := [(4, .int (x2 + x3)), (0, .int x0), (1, va_rf x1), (2, .int x2), (3, .int x3)]) X dJ8_hashCode_2_3 (by decide) rfl ?_
  refine wm_iload_n X 3 dJ8_hashCode_2_5 rfl ?_
  refine wm_istore (ℓ' := [(5, .int x2), (4, .int (x2 + x3)), (0, .int x0), (1, va_rf x1), (2, .int x2), (3, .int x3)]) X dJ8_hashCode_2_6 (by decide) rfl ?_
  refine wm_sub (ℓ' := [(0, .int x0), (1, va_rf x1), (4, .int (x2 + x3)), (5, .int x2)]) [2, 3, 1, 0] rfl ?_
  refine wJ8_hashCode_2_8 X hS hr hnm _ _ fu _ _ _ _ h (fun x23 σ h => ?_)
  · refine wm_iload_n X 0 dJ8_hashCode_2_31 rfl ?_
    exact wm_iret X hr h dJ8_hashCode_2_32 (Nat.le_of_ble_eq_true rfl) (Nat.le_of_ble_eq_true rfl)
theorem mdJ8_vectorizedHashCode : MD yJ8_vectorizedHashCode 5 := by unfold MD; decide +kernel
theorem msJ8_vectorizedHashCode : MS yJ8_vectorizedHashCode cJ8_vectorizedHashCode 5 ((some FieldType.int)) := ⟨q1113, q145, q1114⟩
set_option maxHeartbeats 4000000 in
theorem ctJ8_vectorizedHashCode (l : Launch) {x0 : Option Nat} {x1 : Int32} {x2 : Int32} {x3 : Int32} {x4 : Int32} {σ σf : Mm} {r : Int32} (h : FJ8_vectorizedHashCode x0 x1 x2 x3 x4 σ = some (r, σf)) : CTi l yJ8_vectorizedHashCode (ws_ yJ8_vectorizedHashCode cJ8_vectorizedHashCode 5 ((some FieldType.int))) 1 25 0 0 [va_rf x0, .int x1, .int x2, .int x3, .int x4] σ r σf := by
  refine ct_start (n := 5) mdJ8_vectorizedHashCode (Nat.le_of_ble_eq_true rfl) (c1_r (c1_i (c1_i (c1_i (c1_i c1_0))))) (fun p e s m args below meth c D dA sz0 ad0 X hS hr hnm => ?_)
  have X : CX p s m args meth c cJ8_vectorizedHashCode 5 RJ8 := X
  generalize mN σ = N0
  unfold FJ8_vectorizedHashCode at h
  refine wm_iload X 4 dJ8_vectorizedHashCode_0 rfl ?_
  refine ifx_e h (fun c21 h => ?_) (fun c21 h => ?_)
  · refine wm_tabIn (tgt := 44) X (4 : Int32) c21 dJ8_vectorizedHashCode_2 (by decide) (by decide) rfl (by decide) ?_
    refine wm_iload_n X 3 dJ8_vectorizedHashCode_44 rfl ?_
    refine wm_aload_n X 0 dJ8_vectorizedHashCode_45 rfl ?_
    refine wm_castB X hS h dJ8_vectorizedHashCode_46 q1115 (fun q22 e23 s24 h => ?_)
    refine wm_iload_n X 1 dJ8_vectorizedHashCode_49 rfl ?_
    refine wm_iload_n X 2 dJ8_vectorizedHashCode_50 rfl ?_
    refine wm_cS_i (As := [.int x3, va_rf (some q22), .int x1, .int x2]) (st := []) X hS h (fun _ _ hF => ctJ8_signedHashCode l hF) mdJ8_signedHashCode msJ8_signedHashCode q1116 dJ8_vectorizedHashCode_51 rfl rfl c1_0 (Nat.le_of_ble_eq_true rfl) ⟨Nat.le_of_ble_eq_true rfl, Nat.le_of_ble_eq_true rfl⟩ ⟨Nat.le_of_ble_eq_true rfl, Nat.le_of_ble_eq_true rfl⟩ (fun x25 σ26 _ h => ?_)
    refine wm_goto X 157 dJ8_vectorizedHashCode_54 (by decide) ?_
    exact wm_iret X hr h dJ8_vectorizedHashCode_157 (Nat.le_of_ble_eq_true rfl) (Nat.le_of_ble_eq_true rfl)
  · refine ifx_e h (fun c27 h => ?_) (fun c27 h => ?_)
    · refine wm_tabIn (tgt := 57) X (5 : Int32) c27 dJ8_vectorizedHashCode_2 (by decide) (by decide) rfl (by decide) ?_
      refine wm_aload_n X 0 dJ8_vectorizedHashCode_57 rfl ?_
      cases h
    · refine ifx_e h (fun c28 h => ?_) (fun c28 h => ?_)
      · refine wm_tabIn (tgt := 129) X (6 : Int32) c28 dJ8_vectorizedHashCode_2 (by decide) (by decide) rfl (by decide) ?_
        cases h
      · refine ifx_e h (fun c29 h => ?_) (fun c29 h => ?_)
        · refine wm_tabIn (tgt := 129) X (7 : Int32) c29 dJ8_vectorizedHashCode_2 (by decide) (by decide) rfl (by decide) ?_
          cases h
        · refine ifx_e h (fun c30 h => ?_) (fun c30 h => ?_)
          · refine wm_tabIn (tgt := 90) X (8 : Int32) c30 dJ8_vectorizedHashCode_2 (by decide) (by decide) rfl (by decide) ?_
            refine wm_iload_n X 3 dJ8_vectorizedHashCode_90 rfl ?_
            refine wm_aload_n X 0 dJ8_vectorizedHashCode_91 rfl ?_
            refine wm_castB X hS h dJ8_vectorizedHashCode_92 q1115 (fun q31 e32 s33 h => ?_)
            refine wm_iload_n X 1 dJ8_vectorizedHashCode_95 rfl ?_
            refine wm_iload_n X 2 dJ8_vectorizedHashCode_96 rfl ?_
            refine wm_cS_i (As := [.int x3, va_rf (some q31), .int x1, .int x2]) (st := []) X hS h (fun _ _ hF => ctJ8_hashCode_2 l hF) mdJ8_hashCode_2 msJ8_hashCode_2 q1139 dJ8_vectorizedHashCode_97 rfl rfl c1_0 (Nat.le_of_ble_eq_true rfl) ⟨Nat.le_of_ble_eq_true rfl, Nat.le_of_ble_eq_true rfl⟩ ⟨Nat.le_of_ble_eq_true rfl, Nat.le_of_ble_eq_true rfl⟩ (fun x34 σ35 _ h => ?_)
            refine wm_goto X 157 dJ8_vectorizedHashCode_100 (by decide) ?_
            exact wm_iret X hr h dJ8_vectorizedHashCode_157 (Nat.le_of_ble_eq_true rfl) (Nat.le_of_ble_eq_true rfl)
          · refine ifx_e h (fun c36 h => ?_) (fun c36 h => ?_)
            · refine wm_tabIn (tgt := 103) X (9 : Int32) c36 dJ8_vectorizedHashCode_2 (by decide) (by decide) rfl (by decide) ?_
              refine wm_iload_n X 3 dJ8_vectorizedHashCode_103 rfl ?_
              refine wm_aload_n X 0 dJ8_vectorizedHashCode_104 rfl ?_
              cases h
            · refine ifx_e h (fun c37 h => ?_) (fun c37 h => ?_)
              · refine wm_tabIn (tgt := 116) X (10 : Int32) c37 dJ8_vectorizedHashCode_2 (by decide) (by decide) rfl (by decide) ?_
                refine wm_iload_n X 3 dJ8_vectorizedHashCode_116 rfl ?_
                refine wm_aload_n X 0 dJ8_vectorizedHashCode_117 rfl ?_
                cases h
              · refine wm_tabOut (tgt := 129) X dJ8_vectorizedHashCode_2 (by have t0 := lv_neT c21 (by decide : (4 : Int32).toInt = 4); have t1 := lv_neT c27 (by decide : (5 : Int32).toInt = 5); have t2 := lv_neT c28 (by decide : (6 : Int32).toInt = 6); have t3 := lv_neT c29 (by decide : (7 : Int32).toInt = 7); have t4 := lv_neT c30 (by decide : (8 : Int32).toInt = 8); have t5 := lv_neT c36 (by decide : (9 : Int32).toInt = 9); have t6 := lv_neT c37 (by decide : (10 : Int32).toInt = 10); omega) (by decide) ?_
                cases h
theorem mdJ10_hashCode : MD yJ10_hashCode 1 := by unfold MD; decide +kernel
theorem msJ10_hashCode : MS yJ10_hashCode cJ10_hashCode 1 ((some FieldType.int)) := ⟨q1110, q147, q1111⟩
set_option maxHeartbeats 4000000 in
theorem ctJ10_hashCode (l : Launch) {x0 : Option Nat} {σ σf : Mm} {r : Int32} (h : FJ10_hashCode x0 σ = some (r, σf)) : CTi l yJ10_hashCode (ws_ yJ10_hashCode cJ10_hashCode 1 ((some FieldType.int))) 2 49 0 0 [va_rf x0] σ r σf := by
  refine ct_start (n := 1) mdJ10_hashCode (Nat.le_of_ble_eq_true rfl) (c1_r c1_0) (fun p e s m args below meth c D dA sz0 ad0 X hS hr hnm => ?_)
  have X : CX p s m args meth c cJ10_hashCode 1 RJ10 := X
  generalize mN σ = N0
  unfold FJ10_hashCode at h
  refine wm_aload_n X 0 dJ10_hashCode_0 rfl ?_
  refine wm_alen X hS 101 (by decide) h dJ10_hashCode_1 (fun x21 h => ?_)
  refine ifx_e h (fun c22 h => ?_) (fun c22 h => ?_)
  · refine wm_look (off := 26) (tgt := 28) X dJ10_hashCode_2 (by decide) (by first | (rw [c22]; done) | (rw [c22]; decide)) (by decide) ?_
    refine wm_iconst (v := 0) X dJ10_hashCode_28 (by decide) ?_
    refine wm_goto X 51 dJ10_hashCode_29 (by decide) ?_
    exact wm_iret X hr h dJ10_hashCode_51 (Nat.le_of_ble_eq_true rfl) (Nat.le_of_ble_eq_true rfl)
  · refine ifx_e h (fun c23 h => ?_) (fun c23 h => ?_)
    · refine wm_look (off := 30) (tgt := 32) X dJ10_hashCode_2 (by decide) (by first | (rw [c23]; done) | (rw [c23]; decide)) (by decide) ?_
      refine wm_aload_n X 0 dJ10_hashCode_32 rfl ?_
      refine wm_iconst (v := 0) X dJ10_hashCode_33 (by decide) ?_
      refine wm_baload X hS h dJ10_hashCode_34 (fun x24 h => ?_)
      refine wm_sipush (v := 255) X dJ10_hashCode_35 (by decide) ?_
      refine wm_iand X dJ10_hashCode_38 ?_
      refine wm_goto X 51 dJ10_hashCode_39 (by decide) ?_
      exact wm_iret X hr h dJ10_hashCode_51 (Nat.le_of_ble_eq_true rfl) (Nat.le_of_ble_eq_true rfl)
    · refine wm_look (off := 40) (tgt := 42) X dJ10_hashCode_2 (by decide) ((lv_osw c22 (by decide)).trans ((lv_osw c23 (by decide)).trans rfl)) (by decide) ?_
      refine wm_aload_n X 0 dJ10_hashCode_42 rfl ?_
      refine wm_iconst (v := 0) X dJ10_hashCode_43 (by decide) ?_
      refine wm_aload_n X 0 dJ10_hashCode_44 rfl ?_
      refine wm_alen X hS 101 (by decide) h dJ10_hashCode_45 (fun x25 h => ?_)
      refine wm_iconst (v := 0) X dJ10_hashCode_46 (by decide) ?_
      refine wm_iconst (v := 4) X dJ10_hashCode_47 (by decide) ?_
      refine wm_cS_i (As := [va_rf x0, .int 0, .int x25, .int 0, .int 4]) (st := []) X hS h (fun _ _ hF => ctJ8_vectorizedHashCode l hF) mdJ8_vectorizedHashCode msJ8_vectorizedHashCode q1112 dJ10_hashCode_48 rfl rfl c1_0 (Nat.le_of_ble_eq_true rfl) ⟨Nat.le_of_ble_eq_true rfl, Nat.le_of_ble_eq_true rfl⟩ ⟨Nat.le_of_ble_eq_true rfl, Nat.le_of_ble_eq_true rfl⟩ (fun x26 σ27 _ h => ?_)
      exact wm_iret X hr h dJ10_hashCode_51 (Nat.le_of_ble_eq_true rfl) (Nat.le_of_ble_eq_true rfl)
theorem mdJ6_hashCode : MD yJ6_hashCode 0 := by unfold MD; decide +kernel
theorem mvJ6_hashCode : MV yJ6_hashCode cJ6_hashCode 2 ((some FieldType.int)) := ⟨q1102, q1103, q143, q1104⟩
set_option maxHeartbeats 4000000 in
theorem ctJ6_hashCode (l : Launch) {h0 : Nat} {σ σf : Mm} {r : Int32} (h : FJ6_hashCode h0 σ = some (r, σf)) : CTi l yJ6_hashCode (ws_ yJ6_hashCode cJ6_hashCode 2 ((some FieldType.int))) 3 69 0 0 [va_rf (some h0)] σ r σf := by
  refine ct_start (n := 0) mdJ6_hashCode (Nat.le_of_ble_eq_true rfl) (c1_r c1_0) (fun p e s m args below meth c D dA sz0 ad0 X hS hr hnm => ?_)
  have X : CX p s m args meth c cJ6_hashCode 2 RJ6 := X
  generalize mN σ = N0
  unfold FJ6_hashCode at h
  refine wm_aload_n X 0 dJ6_hashCode_0 rfl ?_
  refine wm_gI X hS cd_20 2 h dJ6_hashCode_1 (Nat.le_of_ble_eq_true rfl) rfl q1062 (fun x21 h => ?_)
  refine wm_istore_n (ℓ' := [(1, .int x21), (0, va_rf (some h0))]) X dJ6_hashCode_4 (by decide) rfl ?_
  refine wm_iload_n X 0 dJ6_hashCode_5 rfl ?_
  refine wm_if_ne X 58 h dJ6_hashCode_6 (by decide) (fun c35 h => ?_) (fun c35 h => ?_)
  · refine wm_iload_n X 0 dJ6_hashCode_58 rfl ?_
    exact wm_iret X hr h dJ6_hashCode_59 (Nat.le_of_ble_eq_true rfl) (Nat.le_of_ble_eq_true rfl)
  · refine wm_aload_n X 1 dJ6_hashCode_9 rfl ?_
    refine wm_gI X hS cd_20 3 h dJ6_hashCode_10 (Nat.le_of_ble_eq_true rfl) rfl q1063 (fun x22 h => ?_)
    refine wm_if_ne X 58 h dJ6_hashCode_13 (by decide) (fun c34 h => ?_) (fun c34 h => ?_)
    · refine wm_iload_n X 0 dJ6_hashCode_58 rfl ?_
      exact wm_iret X hr h dJ6_hashCode_59 (Nat.le_of_ble_eq_true rfl) (Nat.le_of_ble_eq_true rfl)
    · refine wm_aload_n X 1 dJ6_hashCode_16 rfl ?_
      obtain ⟨s23, h⟩ := ck_e h
      refine wm_cV_i (As := []) (st := []) X hS cd_20 s23 rfl h (fun _ _ hF => ctJ6_isLatin1 l hF) mdJ6_isLatin1 mvJ6_isLatin1 q1105 dJ6_hashCode_17 rfl rfl c1_0 (Nat.le_of_ble_eq_true rfl) ⟨Nat.le_of_ble_eq_true rfl, Nat.le_of_ble_eq_true rfl⟩ ⟨Nat.le_of_ble_eq_true rfl, Nat.le_of_ble_eq_true rfl⟩ (fun x24 σ25 _ h => ?_)
      refine wm_if_eq X 33 h dJ6_hashCode_20 (by decide) (fun c33 h => ?_) (fun c33 h => ?_)
      · refine wm_aload_n X 1 dJ6_hashCode_33 rfl ?_
        refine wm_gR X hS cd_20 0 h dJ6_hashCode_34 (Nat.le_of_ble_eq_true rfl) rfl q1060 (fun x26 h => ?_)
        cases h
      · refine wm_aload_n X 1 dJ6_hashCode_23 rfl ?_
        refine wm_gR X hS cd_20 0 h dJ6_hashCode_24 (Nat.le_of_ble_eq_true rfl) rfl q1060 (fun x27 h => ?_)
        refine wm_cS_i (As := [va_rf x27]) (st := []) X hS h (fun _ _ hF => ctJ10_hashCode l hF) mdJ10_hashCode msJ10_hashCode q1109 dJ6_hashCode_27 rfl rfl c1_0 (Nat.le_of_ble_eq_true rfl) ⟨Nat.le_of_ble_eq_true rfl, Nat.le_of_ble_eq_true rfl⟩ ⟨Nat.le_of_ble_eq_true rfl, Nat.le_of_ble_eq_true rfl⟩ (fun x28 σ29 _ h => ?_)
        refine wm_goto X 40 dJ6_hashCode_30 (by decide) ?_
        refine wm_istore_n (ℓ' := [(1, .int x28), (0, va_rf (some h0))]) X dJ6_hashCode_40 (by decide) rfl ?_
        refine wm_iload_n X 0 dJ6_hashCode_41 rfl ?_
        refine wm_if_ne X 53 h dJ6_hashCode_42 (by decide) (fun c32 h => ?_) (fun c32 h => ?_)
        · refine wm_aload_n X 1 dJ6_hashCode_53 rfl ?_
          refine wm_iload_n X 0 dJ6_hashCode_54 rfl ?_
          refine wm_pI X hS cd_20 2 h dJ6_hashCode_55 (Nat.le_of_ble_eq_true rfl) rfl q1062 rfl rfl (fun σ30 _ h => ?_)
          refine wm_iload_n X 0 dJ6_hashCode_58 rfl ?_
          exact wm_iret X hr h dJ6_hashCode_59 (Nat.le_of_ble_eq_true rfl) (Nat.le_of_ble_eq_true rfl)
        · refine wm_aload_n X 1 dJ6_hashCode_45 rfl ?_
          refine wm_iconst (v := 1) X dJ6_hashCode_46 (by decide) ?_
          refine wm_pZ X hS cd_20 3 h dJ6_hashCode_47 (Nat.le_of_ble_eq_true rfl) rfl q1063 rfl rfl (fun σ31 _ h => ?_)
          refine wm_goto X 58 dJ6_hashCode_50 (by decide) ?_
          refine wm_iload_n X 0 dJ6_hashCode_58 rfl ?_
          exact wm_iret X hr h dJ6_hashCode_59 (Nat.le_of_ble_eq_true rfl) (Nat.le_of_ble_eq_true rfl)
theorem mdJ10_equals : MD yJ10_equals 2 := by unfold MD; decide +kernel
theorem msJ10_equals : MS yJ10_equals cJ10_equals 3 ((some FieldType.boolean)) := ⟨q1169, q147, q1170⟩
set_option maxHeartbeats 4000000 in
theorem wJ10_equalsk01_9 {p : Program} {l : Launch} {e : Env} {s : State} {m : MethodId} {args : Array Value} {below : List Frame} {meth : Method} {c : Code} {D : va_G} {dA : Nat → ClassId} {sz0 : Nat} {ad0 : Nat → Nat} {N0 : Nat} {r : Int32} {σf : Mm} (X : CX p s m args meth c cJ10_equals 3 RJ10) (hS : ST D dA sz0 ad0 s) (hr : meth.sig.returnType = (some FieldType.boolean)) (hnm : meth.name = yJ10_equals.name) (y0 : Option Nat) (y1 : Option Nat) : ∀ (n : Nat) (v2 : Int32) (σ : Mm) (kx32 : Mm → Option (Int32 × Mm)) (kx24 : Mm → Option (Int32 × Mm)), FJ10_equalsk01_9 y0 y1 n v2 σ kx32 kx24 = some (r, σf) → (∀  (σ : Mm), kx32 σ = some (r, σf) → WMi p l e s m args below meth c 0 0 0 0 3 D dA sz0 ad0 N0 r σf 0 0 σ [] [] 32) → (∀  (σ : Mm), kx24 σ = some (r, σf) → WMi p l e s m args below meth c 0 0 0 0 3 D dA sz0 ad0 N0 r σf 0 0 σ [] [] 24) → WMi p l e s m args below meth c 0 0 0 0 3 D dA sz0 ad0 N0 r σf 0 0 σ [(0, va_rf y0), (1, va_rf y1), (2, .int v2)] [] 9 := by
  intro n
  induction n with
  | zero =>
    intro v2 σ kx32 kx24 h hkx32 hkx24
    cases h
  | succ n ih =>
    intro v2 σ kx32 kx24 h hkx32 hkx24
    rw [FJ10_equalsk01_9] at h
    refine wm_iload_n X 2 dJ10_equals_9 rfl ?_
    refine wm_aload_n X 0 dJ10_equals_10 rfl ?_
    refine wm_alen X hS 101 (by decide) h dJ10_equals_11 (fun x23 h => ?_)
    refine wm_icmp_ge X 32 h dJ10_equals_12 (by decide) (fun c27 h => ?_) (fun c27 h => ?_)
    · refine wm_sub (ℓ' := []) [] rfl ?_
      exact hkx32 _ h
    · refine wm_aload_n X 0 dJ10_equals_15 rfl ?_
      refine wm_iload_n X 2 dJ10_equals_16 rfl ?_
      refine wm_baload X hS h dJ10_equals_17 (fun x24 h => ?_)
      refine wm_aload_n X 1 dJ10_equals_18 rfl ?_
      refine wm_iload_n X 2 dJ10_equals_19 rfl ?_
      refine wm_baloadK X hS h dJ10_equals_20 (fun x25 h => ?_)
      refine wm_icmp_eq X 26 h dJ10_equals_21 (by decide) (fun c26 h => ?_) (fun c26 h => ?_)
      · refine wm_iinc (v := (v2 + 1)) (ℓ' := [(2, .int (v2 + 1)), (0, va_rf y0), (1, va_rf y1)]) X 2 dJ10_equals_26 rfl rfl (by decide) rfl ?_
        refine wm_goto X 9 dJ10_equals_29 (by decide) ?_
        refine wm_sub (ℓ' := [(0, va_rf y0), (1, va_rf y1), (2, .int (v2 + 1))]) [1, 2, 0] rfl ?_
        exact ih _ _ _ _ h hkx32 hkx24
      · refine wm_sub (ℓ' := []) [] rfl ?_
        exact hkx24 _ h
set_option maxHeartbeats 4000000 in
theorem ctJ10_equalsk01 (l : Launch) {x0 : Option Nat} {x1 : Option Nat} {σ σf : Mm} {r : Int32} (h : FJ10_equalsk01 x0 x1 σ = some (r, σf)) : CTi l yJ10_equals (ws_ yJ10_equals cJ10_equals 3 ((some FieldType.boolean))) 0 0 0 0 [va_rf x0, va_rf x1] σ r σf := by
  refine ct_start (n := 2) mdJ10_equals (Nat.le_of_ble_eq_true rfl) (c1_r (c1_r c1_0)) (fun p e s m args below meth c D dA sz0 ad0 X hS hr hnm => ?_)
  have X : CX p s m args meth c cJ10_equals 3 RJ10 := X
  generalize mN σ = N0
  unfold FJ10_equalsk01 at h
  refine wm_aload_n X 0 dJ10_equals_0 rfl ?_
  refine wm_alen X hS 101 (by decide) h dJ10_equals_1 (fun x21 h => ?_)
  refine wm_aload_n X 1 dJ10_equals_2 rfl ?_
  refine wm_alenK X hS 601 (by decide) h dJ10_equals_3 (fun x22 h => ?_)
  refine wm_icmp_ne X 34 h dJ10_equals_4 (by decide) (fun c28 h => ?_) (fun c28 h => ?_)
  · refine wm_iconst (v := 0) X dJ10_equals_34 (by decide) ?_
    exact wm_zret X hr h dJ10_equals_35 (Nat.le_of_ble_eq_true rfl) (Nat.le_of_ble_eq_true rfl)
  · refine wm_iconst (v := 0) X dJ10_equals_7 (by decide) ?_
    refine wm_istore_n (ℓ' := [(2, .int 0), (0, va_rf x0), (1, va_rf x1)]) X dJ10_equals_8 (by decide) rfl ?_
    refine wm_sub (ℓ' := [(0, va_rf x0), (1, va_rf x1), (2, .int 0)]) [1, 2, 0] rfl ?_
    refine wJ10_equalsk01_9 X hS hr hnm _ _ fu _ _ _ _ h (fun σ h => ?_) (fun σ h => ?_)
    · refine wm_iconst (v := 1) X dJ10_equals_32 (by decide) ?_
      exact wm_zret X hr h dJ10_equals_33 (Nat.le_of_ble_eq_true rfl) (Nat.le_of_ble_eq_true rfl)
    · refine wm_iconst (v := 0) X dJ10_equals_24 (by decide) ?_
      exact wm_zret X hr h dJ10_equals_25 (Nat.le_of_ble_eq_true rfl) (Nat.le_of_ble_eq_true rfl)
theorem mdJ6_equals : MD yJ6_equals 1 := by unfold MD; decide +kernel
theorem mvJ6_equals : MV yJ6_equals cJ6_equals 3 ((some FieldType.boolean)) := ⟨q1164, q1165, q143, q1166⟩
set_option maxHeartbeats 4000000 in
theorem ctJ6_equalsk01 (l : Launch) {h0 : Nat} {x1 : Option Nat} {σ σf : Mm} {r : Int32} (h : FJ6_equalsk01 h0 x1 σ = some (r, σf)) : CTi l yJ6_equals (ws_ yJ6_equals cJ6_equals 3 ((some FieldType.boolean))) 1 22 0 0 [va_rf (some h0), va_rf x1] σ r σf := by
  refine ct_start (n := 1) mdJ6_equals (Nat.le_of_ble_eq_true rfl) (c1_r (c1_r c1_0)) (fun p e s m args below meth c D dA sz0 ad0 X hS hr hnm => ?_)
  have X : CX p s m args meth c cJ6_equals 3 RJ6 := X
  generalize mN σ = N0
  unfold FJ6_equalsk01 at h
  refine wm_aload_n X 0 dJ6_equals_0 rfl ?_
  refine wm_aload_n X 1 dJ6_equals_1 rfl ?_
  refine wm_acmpD X hS 7 h dJ6_equals_2 (by decide) (fun h => ?_)
  · refine wm_aload_n X 1 dJ6_equals_7 rfl ?_
    refine wm_instK X hS 20 rfl (by decide) h dJ6_equals_8 q1167 (fun q21 e22 s23 h => ?_)
    refine wm_if_eq X 54 h dJ6_equals_11 (by decide) (fun c36 h => ?_) (fun c36 h => ?_)
    · refine wm_iconst (v := 0) X dJ6_equals_54 (by decide) ?_
      exact wm_zret X hr h dJ6_equals_55 (Nat.le_of_ble_eq_true rfl) (Nat.le_of_ble_eq_true rfl)
    · refine wm_aload_n X 1 dJ6_equals_14 rfl ?_
      refine wm_castK X hS 20 rfl (by decide) h dJ6_equals_15 q1167 (fun q24 e25 s26 h => ?_)
      refine wm_astore_n (ℓ' := [(2, va_rf (some q24)), (0, va_rf (some h0)), (1, va_rf x1)]) X dJ6_equals_18 (by decide) rfl ?_
      refine wm_gstI X hS dJ6_equals_19 q1005 ?_
      obtain ⟨J36, eJ36, h⟩ := jn_e h
      have hJ36 : ∀  (σ : Mm), J36  σ = some (r, σf) → WMi p l e s m args below meth c 1 22 0 0 3 D dA sz0 ad0 N0 r σf 0 0 σ [(0, va_rf (some h0)), (2, va_rf (some q24))] [] 36 := by
        intro  σ h
        rw [eJ36] at h
        refine wm_aload_n X 0 dJ6_equals_36 rfl ?_
        refine wm_gR X hS cd_20 0 h dJ6_equals_37 (Nat.le_of_ble_eq_true rfl) rfl q1060 (fun x27 h => ?_)
        refine wm_aload_n X 1 dJ6_equals_40 rfl ?_
        refine wm_gRk X hS 20 0 rfl h (by decide) (by decide) rfl dJ6_equals_41 q1060 (fun x28 h => ?_)
        refine wm_cS_i (As := [va_rf x27, va_rf x28]) (st := []) X hS h (fun _ _ hF => ctJ10_equalsk01 l hF) mdJ10_equals msJ10_equals q1168 dJ6_equals_44 rfl rfl c1_0 (Nat.le_of_ble_eq_true rfl) ⟨Nat.le_of_ble_eq_true rfl, Nat.le_of_ble_eq_true rfl⟩ ⟨Nat.le_of_ble_eq_true rfl, Nat.le_of_ble_eq_true rfl⟩ (fun x29 σ30 _ h => ?_)
        refine wm_if_eq X 54 h dJ6_equals_47 (by decide) (fun c31 h => ?_) (fun c31 h => ?_)
        · refine wm_iconst (v := 0) X dJ6_equals_54 (by decide) ?_
          exact wm_zret X hr h dJ6_equals_55 (Nat.le_of_ble_eq_true rfl) (Nat.le_of_ble_eq_true rfl)
        · refine wm_iconst (v := 1) X dJ6_equals_50 (by decide) ?_
          refine wm_goto X 55 dJ6_equals_51 (by decide) ?_
          exact wm_zret X hr h dJ6_equals_55 (Nat.le_of_ble_eq_true rfl) (Nat.le_of_ble_eq_true rfl)
      clear eJ36
      refine wm_if_eq X 36 h dJ6_equals_22 (by decide) (fun c35 h => ?_) (fun c35 h => ?_)
      · refine wm_sub (ℓ' := [(0, va_rf (some h0)), (2, va_rf (some q24))]) [1, 0] rfl ?_
        exact hJ36 _ h
      · refine wm_aload_n X 1 dJ6_equals_25 rfl ?_
        refine wm_gI X hS cd_20 1 h dJ6_equals_26 (Nat.le_of_ble_eq_true rfl) rfl q1061 (fun x32 h => ?_)
        refine wm_aload_n X 0 dJ6_equals_29 rfl ?_
        refine wm_gIk X hS 20 1 rfl h (by decide) (by decide) rfl dJ6_equals_30 q1061 (fun x33 h => ?_)
        refine wm_icmp_ne X 54 h dJ6_equals_33 (by decide) (fun c34 h => ?_) (fun c34 h => ?_)
        · refine wm_iconst (v := 0) X dJ6_equals_54 (by decide) ?_
          exact wm_zret X hr h dJ6_equals_55 (Nat.le_of_ble_eq_true rfl) (Nat.le_of_ble_eq_true rfl)
        · refine wm_sub (ℓ' := [(0, va_rf (some h0)), (2, va_rf (some q24))]) [1, 0] rfl ?_
          exact hJ36 _ h
theorem mdX1_doorLine : MD yX1_doorLine 1 := by unfold MD; decide +kernel
theorem mvX1_doorLine : MV yX1_doorLine cX1_doorLine 5 (none) := ⟨q1099, qs16, q128, q1100⟩
set_option maxHeartbeats 4000000 in
theorem ctX1_doorLine (l : Launch) (hl : l.stackTraces = false) {h0 : Nat} {x1 : Option Nat} {σ : Mm} {xo : Mm ⊕ (Nat × Mm)} {mc ms : Nat} (h : FX1_doorLine h0 x1 σ = some (xo, mc, ms)) : CTXv l yX1_doorLine (ws_ yX1_doorLine cX1_doorLine 5 (none)) 10 225 mc ms [va_rf (some h0), va_rf x1] σ xo := by
  refine ctx_start (n := 1) mdX1_doorLine (Nat.le_of_ble_eq_true rfl) (c1_r (c1_r c1_0)) (fun p e s m args below meth c D dA sz0 ad0 X hS hr hnm hno => ?_)
  have X : CX p s m args meth c cX1_doorLine 5 RX1 := X
  have hC : 0 + mc ≤ mc := Nat.le_of_eq (Nat.zero_add mc)
  have hZ : 0 + ms ≤ ms := Nat.le_of_eq (Nat.zero_add ms)
  generalize mN σ = N0
  unfold FX1_doorLine at h
  refine wm_aload_n X 0 dX1_doorLine_0 rfl ?_
  refine wm_gR X hS cd_1 4 h dX1_doorLine_1 (Nat.le_of_ble_eq_true rfl) rfl q441 (fun x21 h => ?_)
  refine wm_astore_n (ℓ' := [(2, va_rf x21), (0, va_rf (some h0)), (1, va_rf x1)]) X dX1_doorLine_4 (by decide) rfl ?_
  refine wm_aload_n X 0 dX1_doorLine_5 rfl ?_
  obtain ⟨q22, eq22, h⟩ := Option.bind_eq_some_iff.mp h
  obtain ⟨eq22, s23⟩ := rv_some eq22
  refine wm_dV_r (As := []) (st := []) X hS hno cd_3 s23 rfl h hC hZ (fun _ _ _ hF => ctX3_word l hl hF) mdX3_word mvX3_word q740 dX1_doorLine_6 rfl (by rw [eq22]; first | done | rfl) c1_0 (Nat.le_of_ble_eq_true rfl) ⟨Nat.le_of_ble_eq_true rfl, Nat.le_of_ble_eq_true rfl⟩ (Nat.le_refl _) (Nat.le_refl _) (fun x24 σ25 c1 z1 C Z _ h hC hZ => ?_)
  refine wm_astore_n (ℓ' := [(3, va_rf x24), (2, va_rf x21), (0, va_rf (some h0)), (1, va_rf x1)]) X dX1_doorLine_9 (by decide) rfl ?_
  refine wm_iconst (v := (-1)) X dX1_doorLine_10 (by decide) ?_
  refine wm_istore (ℓ' := [(4, .int (-1)), (3, va_rf x24), (2, va_rf x21), (0, va_rf (some h0)), (1, va_rf x1)]) X dX1_doorLine_11 (by decide) rfl ?_
  refine wm_aload_n X 1 dX1_doorLine_13 rfl ?_
  obtain ⟨q26, eq26, h⟩ := Option.bind_eq_some_iff.mp h
  obtain ⟨eq26, s27⟩ := rv_some eq26
  refine wm_cV_i (As := []) (st := []) X hS cd_20 s27 rfl h (fun _ _ hF => ctJ6_hashCode l hF) mdJ6_hashCode mvJ6_hashCode q1101 dX1_doorLine_14 rfl (by rw [eq26]; first | done | rfl) c1_0 (Nat.le_of_ble_eq_true rfl) ⟨Nat.le_of_ble_eq_true rfl, Nat.le_of_ble_eq_true rfl⟩ ⟨le_p hC, le_p hZ⟩ (fun x28 σ29 _ h => ?_)
  obtain ⟨J187, eJ187, h⟩ := jn_e h
  have hJ187 : ∀ (x30 : Int32) (σ : Mm) (C Z kc kz : Nat), J187 x30 σ = some (xo, C, Z) → kc + C ≤ mc → kz + Z ≤ ms → WMxv p l e s m args below meth c 10 225 mc ms 5 D dA sz0 ad0 N0 xo kc kz σ [(0, va_rf (some h0)), (1, va_rf x1), (2, va_rf x21), (4, .int x30)] [] 187 := by
    intro x30 σ C Z kc kz h hC hZ
    rw [eJ187] at h
    refine wm_iload X 3 dX1_doorLine_187 rfl ?_
    refine ifx_e h (fun c31 h => ?_) (fun c31 h => ?_)
    · refine wm_tabIn (tgt := 232) X (0 : Int32) c31 dX1_doorLine_189 (by decide) (by decide) rfl (by decide) ?_
      refine wm_aload_n X 0 dX1_doorLine_232 rfl ?_
      refine wm_aload_n X 1 dX1_doorLine_233 rfl ?_
      obtain ⟨s32, h⟩ := ck_e h
      refine wm_dV_v (As := [va_rf x1]) (st := []) X hS hno cd_1 s32 rfl h hC hZ (fun _ _ _ hF => ctX1_aPerson l hl hF) mdX1_aPerson mvX1_aPerson q1177 dX1_doorLine_234 rfl rfl c1_0 (Nat.le_of_ble_eq_true rfl) ⟨Nat.le_of_ble_eq_true rfl, Nat.le_of_ble_eq_true rfl⟩ (Nat.le_refl _) (Nat.le_refl _) (fun σ33 c1 z1 C Z _ h hC hZ => ?_)
      exact wm_xvret X hr (rt_e h) dX1_doorLine_237 (le_p hC) (le_p hZ)
    · refine ifx_e h (fun c34 h => ?_) (fun c34 h => ?_)
      · refine wm_tabIn (tgt := 238) X (1 : Int32) c34 dX1_doorLine_189 (by decide) (by decide) rfl (by decide) ?_
        refine wm_aload_n X 0 dX1_doorLine_238 rfl ?_
        refine wm_aload_n X 1 dX1_doorLine_239 rfl ?_
        obtain ⟨s35, h⟩ := ck_e h
        refine wm_dV_v (As := [va_rf x1]) (st := []) X hS hno cd_1 s35 rfl h hC hZ (fun _ _ _ hF => ctX1_aWish l hl hF) mdX1_aWish mvX1_aWish q1195 dX1_doorLine_240 rfl rfl c1_0 (Nat.le_of_ble_eq_true rfl) ⟨Nat.le_of_ble_eq_true rfl, Nat.le_of_ble_eq_true rfl⟩ (Nat.le_refl _) (Nat.le_refl _) (fun σ36 c1 z1 C Z _ h hC hZ => ?_)
        exact wm_xvret X hr (rt_e h) dX1_doorLine_243 (le_p hC) (le_p hZ)
      · refine ifx_e h (fun c37 h => ?_) (fun c37 h => ?_)
        · refine wm_tabIn (tgt := 244) X (2 : Int32) c37 dX1_doorLine_189 (by decide) (by decide) rfl (by decide) ?_
          refine wm_aload_n X 0 dX1_doorLine_244 rfl ?_
          refine wm_aload_n X 1 dX1_doorLine_245 rfl ?_
          obtain ⟨s38, h⟩ := ck_e h
          refine wm_dV_v (As := [va_rf x1]) (st := []) X hS hno cd_1 s38 rfl h hC hZ (fun _ _ _ hF => ctX1_aWedding l hl hF) mdX1_aWedding mvX1_aWedding q1217 dX1_doorLine_246 rfl rfl c1_0 (Nat.le_of_ble_eq_true rfl) ⟨Nat.le_of_ble_eq_true rfl, Nat.le_of_ble_eq_true rfl⟩ (Nat.le_refl _) (Nat.le_refl _) (fun σ39 c1 z1 C Z _ h hC hZ => ?_)
          exact wm_xvret X hr (rt_e h) dX1_doorLine_249 (le_p hC) (le_p hZ)
        · refine ifx_e h (fun c40 h => ?_) (fun c40 h => ?_)
          · refine wm_tabIn (tgt := 250) X (3 : Int32) c40 dX1_doorLine_189 (by decide) (by decide) rfl (by decide) ?_
            refine wm_aload_n X 0 dX1_doorLine_250 rfl ?_
            refine wm_aload_n X 1 dX1_doorLine_251 rfl ?_
            obtain ⟨s41, h⟩ := ck_e h
            refine wm_dV_v (As := [va_rf x1]) (st := []) X hS hno cd_1 s41 rfl h hC hZ (fun _ _ _ hF => ctX1_aKnowing l hl hF) mdX1_aKnowing mvX1_aKnowing q1225 dX1_doorLine_252 rfl rfl c1_0 (Nat.le_of_ble_eq_true rfl) ⟨Nat.le_of_ble_eq_true rfl, Nat.le_of_ble_eq_true rfl⟩ (Nat.le_refl _) (Nat.le_refl _) (fun σ42 c1 z1 C Z _ h hC hZ => ?_)
            exact wm_xvret X hr (rt_e h) dX1_doorLine_255 (le_p hC) (le_p hZ)
          · refine ifx_e h (fun c43 h => ?_) (fun c43 h => ?_)
            · refine wm_tabIn (tgt := 256) X (4 : Int32) c43 dX1_doorLine_189 (by decide) (by decide) rfl (by decide) ?_
              refine wm_aload_n X 0 dX1_doorLine_256 rfl ?_
              refine wm_aload_n X 1 dX1_doorLine_257 rfl ?_
              obtain ⟨s44, h⟩ := ck_e h
              refine wm_dV_v (As := [va_rf x1]) (st := []) X hS hno cd_1 s44 rfl h hC hZ (fun _ _ _ hF => ctX1_theHooks l hl hF) mdX1_theHooks mvX1_theHooks q1229 dX1_doorLine_258 rfl rfl c1_0 (Nat.le_of_ble_eq_true rfl) ⟨Nat.le_of_ble_eq_true rfl, Nat.le_of_ble_eq_true rfl⟩ (Nat.le_refl _) (Nat.le_refl _) (fun σ45 c1 z1 C Z _ h hC hZ => ?_)
              exact wm_xvret X hr (rt_e h) dX1_doorLine_261 (le_p hC) (le_p hZ)
            · refine ifx_e h (fun c46 h => ?_) (fun c46 h => ?_)
              · refine wm_tabIn (tgt := 262) X (5 : Int32) c46 dX1_doorLine_189 (by decide) (by decide) rfl (by decide) ?_
                refine wm_aload_n X 1 dX1_doorLine_262 rfl ?_
                refine wm_aload_n X 2 dX1_doorLine_263 rfl ?_
                refine wm_iconst (v := 0) X dX1_doorLine_264 (by decide) ?_
                refine wm_bipush (v := 100) X dX1_doorLine_265 (by decide) ?_
                obtain ⟨q47, eq47, h⟩ := Option.bind_eq_some_iff.mp h
                obtain ⟨eq47, s48⟩ := rv_some eq47
                refine wm_dV_i (As := [.int 0, .int 100]) (st := [va_rf x1]) X hS hno cd_3 s48 rfl h hC hZ (fun _ _ _ hF => ctX3_number l hl hF) mdX3_number mvX3_number q1203 dX1_doorLine_267 rfl (by rw [eq47]; first | done | rfl) (c1_r c1_0) (Nat.le_of_ble_eq_true rfl) ⟨Nat.le_of_ble_eq_true rfl, Nat.le_of_ble_eq_true rfl⟩ (Nat.le_refl _) (Nat.le_refl _) (fun x49 σ50 c1 z1 C Z _ h hC hZ => ?_)
                refine wm_pIN X hS cd_2 4 h dX1_doorLine_270 (Nat.le_of_ble_eq_true rfl) rfl 4 rfl rfl rfl (fun σ51 _ h => ?_)
                exact wm_xvret X hr (rt_e h) dX1_doorLine_273 (le_p hC) (le_p hZ)
              · refine ifx_e h (fun c52 h => ?_) (fun c52 h => ?_)
                · refine wm_tabIn (tgt := 274) X (6 : Int32) c52 dX1_doorLine_189 (by decide) (by decide) rfl (by decide) ?_
                  refine wm_aload_n X 1 dX1_doorLine_274 rfl ?_
                  refine wm_aload_n X 2 dX1_doorLine_275 rfl ?_
                  refine wm_iconst (v := 0) X dX1_doorLine_276 (by decide) ?_
                  refine wm_bipush (v := 100) X dX1_doorLine_277 (by decide) ?_
                  obtain ⟨q53, eq53, h⟩ := Option.bind_eq_some_iff.mp h
                  obtain ⟨eq53, s54⟩ := rv_some eq53
                  refine wm_dV_i (As := [.int 0, .int 100]) (st := [va_rf x1]) X hS hno cd_3 s54 rfl h hC hZ (fun _ _ _ hF => ctX3_number l hl hF) mdX3_number mvX3_number q1203 dX1_doorLine_279 rfl (by rw [eq53]; first | done | rfl) (c1_r c1_0) (Nat.le_of_ble_eq_true rfl) ⟨Nat.le_of_ble_eq_true rfl, Nat.le_of_ble_eq_true rfl⟩ (Nat.le_refl _) (Nat.le_refl _) (fun x55 σ56 c1 z1 C Z _ h hC hZ => ?_)
                  refine wm_pIN X hS cd_2 5 h dX1_doorLine_282 (Nat.le_of_ble_eq_true rfl) rfl 5 rfl rfl rfl (fun σ57 _ h => ?_)
                  exact wm_xvret X hr (rt_e h) dX1_doorLine_285 (le_p hC) (le_p hZ)
                · refine wm_tabOut (tgt := 286) X dX1_doorLine_189 (by have t0 := lv_neT c31 (by decide : (0 : Int32).toInt = 0); have t1 := lv_neT c34 (by decide : (1 : Int32).toInt = 1); have t2 := lv_neT c37 (by decide : (2 : Int32).toInt = 2); have t3 := lv_neT c40 (by decide : (3 : Int32).toInt = 3); have t4 := lv_neT c43 (by decide : (4 : Int32).toInt = 4); have t5 := lv_neT c46 (by decide : (5 : Int32).toInt = 5); have t6 := lv_neT c52 (by decide : (6 : Int32).toInt = 6); omega) (by decide) ?_
                  refine wm_aload_n X 2 dX1_doorLine_286 rfl ?_
                  obtain ⟨q58, eq58, h⟩ := Option.bind_eq_some_iff.mp h
                  obtain ⟨eq58, s59⟩ := rv_some eq58
                  obtain ⟨C, Z, h, hC, hZ⟩ := pay_d h hC hZ
                  refine wm_cV_r (As := []) (st := []) X hS cd_3 s59 rfl h (fun _ _ hF => ctX3_wrong l hF) mdX3_wrong mvX3_wrong q1073 dX1_doorLine_287 rfl (by rw [eq58]; first | done | rfl) c1_0 (Nat.le_of_ble_eq_true rfl) ⟨Nat.le_of_ble_eq_true rfl, Nat.le_of_ble_eq_true rfl⟩ ⟨le_p hC, le_p hZ⟩ (fun x60 σ61 _ h => ?_)
                  exact wm_athrowW X hS hno (thrd_e h) dX1_doorLine_290 (le_p hC) (le_p hZ)
  clear eJ187
  refine ifx_e h (fun c62 h => ?_) (fun c62 h => ?_)
  · refine wm_look (off := 67) (tgt := 84) X dX1_doorLine_17 (by decide) (by first | (rw [c62]; done) | (rw [c62]; decide)) (by decide) ?_
    refine wm_aload_n X 1 dX1_doorLine_84 rfl ?_
    refine wm_ldcS X hS 0 0 rfl dX1_doorLine_85 ?_
    obtain ⟨q63, eq63, h⟩ := Option.bind_eq_some_iff.mp h
    obtain ⟨eq63, s64⟩ := rv_some eq63
    refine wm_cV_i (As := [va_rf (some (BIG + 2 * 0))]) (st := []) X hS cd_20 s64 rfl h (fun _ _ hF => ctJ6_equalsk01 l hF) mdJ6_equals mvJ6_equals q1163 dX1_doorLine_87 rfl (by rw [eq63]; first | done | rfl) c1_0 (Nat.le_of_ble_eq_true rfl) ⟨Nat.le_of_ble_eq_true rfl, Nat.le_of_ble_eq_true rfl⟩ ⟨le_p hC, le_p hZ⟩ (fun x65 σ66 _ h => ?_)
    refine wm_if_eq X 187 h dX1_doorLine_90 (by decide) (fun c67 h => ?_) (fun c67 h => ?_)
    · refine wm_sub (ℓ' := [(0, va_rf (some h0)), (1, va_rf x1), (2, va_rf x21), (4, .int (-1))]) [3, 4, 2, 0] rfl ?_
      exact hJ187 _ _ _ _ _ _ h hC hZ
    · refine wm_iconst (v := 0) X dX1_doorLine_93 (by decide) ?_
      refine wm_istore (ℓ' := [(4, .int 0), (3, va_rf x24), (2, va_rf x21), (0, va_rf (some h0)), (1, va_rf x1)]) X dX1_doorLine_94 (by decide) rfl ?_
      refine wm_goto X 187 dX1_doorLine_96 (by decide) ?_
      refine wm_sub (ℓ' := [(0, va_rf (some h0)), (1, va_rf x1), (2, va_rf x21), (4, .int 0)]) [3, 4, 2, 0] rfl ?_
      exact hJ187 _ _ _ _ _ _ h hC hZ
  · refine ifx_e h (fun c68 h => ?_) (fun c68 h => ?_)
    · refine wm_look (off := 142) (tgt := 159) X dX1_doorLine_17 (by decide) (by first | (rw [c68]; done) | (rw [c68]; decide)) (by decide) ?_
      refine wm_aload_n X 1 dX1_doorLine_159 rfl ?_
      refine wm_ldcS X hS 5 5 rfl dX1_doorLine_160 ?_
      obtain ⟨q69, eq69, h⟩ := Option.bind_eq_some_iff.mp h
      obtain ⟨eq69, s70⟩ := rv_some eq69
      refine wm_cV_i (As := [va_rf (some (BIG + 2 * 5))]) (st := []) X hS cd_20 s70 rfl h (fun _ _ hF => ctJ6_equalsk01 l hF) mdJ6_equals mvJ6_equals q1163 dX1_doorLine_162 rfl (by rw [eq69]; first | done | rfl) c1_0 (Nat.le_of_ble_eq_true rfl) ⟨Nat.le_of_ble_eq_true rfl, Nat.le_of_ble_eq_true rfl⟩ ⟨le_p hC, le_p hZ⟩ (fun x71 σ72 _ h => ?_)
      refine wm_if_eq X 187 h dX1_doorLine_165 (by decide) (fun c73 h => ?_) (fun c73 h => ?_)
      · refine wm_sub (ℓ' := [(0, va_rf (some h0)), (1, va_rf x1), (2, va_rf x21), (4, .int (-1))]) [3, 4, 2, 0] rfl ?_
        exact hJ187 _ _ _ _ _ _ h hC hZ
      · refine wm_iconst (v := 5) X dX1_doorLine_168 (by decide) ?_
        refine wm_istore (ℓ' := [(4, .int 5), (3, va_rf x24), (2, va_rf x21), (0, va_rf (some h0)), (1, va_rf x1)]) X dX1_doorLine_169 (by decide) rfl ?_
        refine wm_goto X 187 dX1_doorLine_171 (by decide) ?_
        refine wm_sub (ℓ' := [(0, va_rf (some h0)), (1, va_rf x1), (2, va_rf x21), (4, .int 5)]) [3, 4, 2, 0] rfl ?_
        exact hJ187 _ _ _ _ _ _ h hC hZ
    · refine ifx_e h (fun c74 h => ?_) (fun c74 h => ?_)
      · refine wm_look (off := 97) (tgt := 114) X dX1_doorLine_17 (by decide) (by first | (rw [c74]; done) | (rw [c74]; decide)) (by decide) ?_
        refine wm_aload_n X 1 dX1_doorLine_114 rfl ?_
        refine wm_ldcS X hS 2 2 rfl dX1_doorLine_115 ?_
        obtain ⟨q75, eq75, h⟩ := Option.bind_eq_some_iff.mp h
        obtain ⟨eq75, s76⟩ := rv_some eq75
        refine wm_cV_i (As := [va_rf (some (BIG + 2 * 2))]) (st := []) X hS cd_20 s76 rfl h (fun _ _ hF => ctJ6_equalsk01 l hF) mdJ6_equals mvJ6_equals q1163 dX1_doorLine_117 rfl (by rw [eq75]; first | done | rfl) c1_0 (Nat.le_of_ble_eq_true rfl) ⟨Nat.le_of_ble_eq_true rfl, Nat.le_of_ble_eq_true rfl⟩ ⟨le_p hC, le_p hZ⟩ (fun x77 σ78 _ h => ?_)
        refine wm_if_eq X 187 h dX1_doorLine_120 (by decide) (fun c79 h => ?_) (fun c79 h => ?_)
        · refine wm_sub (ℓ' := [(0, va_rf (some h0)), (1, va_rf x1), (2, va_rf x21), (4, .int (-1))]) [3, 4, 2, 0] rfl ?_
          exact hJ187 _ _ _ _ _ _ h hC hZ
        · refine wm_iconst (v := 2) X dX1_doorLine_123 (by decide) ?_
          refine wm_istore (ℓ' := [(4, .int 2), (3, va_rf x24), (2, va_rf x21), (0, va_rf (some h0)), (1, va_rf x1)]) X dX1_doorLine_124 (by decide) rfl ?_
          refine wm_goto X 187 dX1_doorLine_126 (by decide) ?_
          refine wm_sub (ℓ' := [(0, va_rf (some h0)), (1, va_rf x1), (2, va_rf x21), (4, .int 2)]) [3, 4, 2, 0] rfl ?_
          exact hJ187 _ _ _ _ _ _ h hC hZ
      · refine ifx_e h (fun c80 h => ?_) (fun c80 h => ?_)
        · refine wm_look (off := 82) (tgt := 99) X dX1_doorLine_17 (by decide) (by first | (rw [c80]; done) | (rw [c80]; decide)) (by decide) ?_
          refine wm_aload_n X 1 dX1_doorLine_99 rfl ?_
          refine wm_ldcS X hS 1 1 rfl dX1_doorLine_100 ?_
          obtain ⟨q81, eq81, h⟩ := Option.bind_eq_some_iff.mp h
          obtain ⟨eq81, s82⟩ := rv_some eq81
          refine wm_cV_i (As := [va_rf (some (BIG + 2 * 1))]) (st := []) X hS cd_20 s82 rfl h (fun _ _ hF => ctJ6_equalsk01 l hF) mdJ6_equals mvJ6_equals q1163 dX1_doorLine_102 rfl (by rw [eq81]; first | done | rfl) c1_0 (Nat.le_of_ble_eq_true rfl) ⟨Nat.le_of_ble_eq_true rfl, Nat.le_of_ble_eq_true rfl⟩ ⟨le_p hC, le_p hZ⟩ (fun x83 σ84 _ h => ?_)
          refine wm_if_eq X 187 h dX1_doorLine_105 (by decide) (fun c85 h => ?_) (fun c85 h => ?_)
          · refine wm_sub (ℓ' := [(0, va_rf (some h0)), (1, va_rf x1), (2, va_rf x21), (4, .int (-1))]) [3, 4, 2, 0] rfl ?_
            exact hJ187 _ _ _ _ _ _ h hC hZ
          · refine wm_iconst (v := 1) X dX1_doorLine_108 (by decide) ?_
            refine wm_istore (ℓ' := [(4, .int 1), (3, va_rf x24), (2, va_rf x21), (0, va_rf (some h0)), (1, va_rf x1)]) X dX1_doorLine_109 (by decide) rfl ?_
            refine wm_goto X 187 dX1_doorLine_111 (by decide) ?_
            refine wm_sub (ℓ' := [(0, va_rf (some h0)), (1, va_rf x1), (2, va_rf x21), (4, .int 1)]) [3, 4, 2, 0] rfl ?_
            exact hJ187 _ _ _ _ _ _ h hC hZ
        · refine ifx_e h (fun c86 h => ?_) (fun c86 h => ?_)
          · refine wm_look (off := 127) (tgt := 144) X dX1_doorLine_17 (by decide) (by first | (rw [c86]; done) | (rw [c86]; decide)) (by decide) ?_
            refine wm_aload_n X 1 dX1_doorLine_144 rfl ?_
            refine wm_ldcS X hS 4 4 rfl dX1_doorLine_145 ?_
            obtain ⟨q87, eq87, h⟩ := Option.bind_eq_some_iff.mp h
            obtain ⟨eq87, s88⟩ := rv_some eq87
            refine wm_cV_i (As := [va_rf (some (BIG + 2 * 4))]) (st := []) X hS cd_20 s88 rfl h (fun _ _ hF => ctJ6_equalsk01 l hF) mdJ6_equals mvJ6_equals q1163 dX1_doorLine_147 rfl (by rw [eq87]; first | done | rfl) c1_0 (Nat.le_of_ble_eq_true rfl) ⟨Nat.le_of_ble_eq_true rfl, Nat.le_of_ble_eq_true rfl⟩ ⟨le_p hC, le_p hZ⟩ (fun x89 σ90 _ h => ?_)
            refine wm_if_eq X 187 h dX1_doorLine_150 (by decide) (fun c91 h => ?_) (fun c91 h => ?_)
            · refine wm_sub (ℓ' := [(0, va_rf (some h0)), (1, va_rf x1), (2, va_rf x21), (4, .int (-1))]) [3, 4, 2, 0] rfl ?_
              exact hJ187 _ _ _ _ _ _ h hC hZ
            · refine wm_iconst (v := 4) X dX1_doorLine_153 (by decide) ?_
              refine wm_istore (ℓ' := [(4, .int 4), (3, va_rf x24), (2, va_rf x21), (0, va_rf (some h0)), (1, va_rf x1)]) X dX1_doorLine_154 (by decide) rfl ?_
              refine wm_goto X 187 dX1_doorLine_156 (by decide) ?_
              refine wm_sub (ℓ' := [(0, va_rf (some h0)), (1, va_rf x1), (2, va_rf x21), (4, .int 4)]) [3, 4, 2, 0] rfl ?_
              exact hJ187 _ _ _ _ _ _ h hC hZ
          · refine ifx_e h (fun c92 h => ?_) (fun c92 h => ?_)
            · refine wm_look (off := 112) (tgt := 129) X dX1_doorLine_17 (by decide) (by first | (rw [c92]; done) | (rw [c92]; decide)) (by decide) ?_
              refine wm_aload_n X 1 dX1_doorLine_129 rfl ?_
              refine wm_ldcS X hS 3 3 rfl dX1_doorLine_130 ?_
              obtain ⟨q93, eq93, h⟩ := Option.bind_eq_some_iff.mp h
              obtain ⟨eq93, s94⟩ := rv_some eq93
              refine wm_cV_i (As := [va_rf (some (BIG + 2 * 3))]) (st := []) X hS cd_20 s94 rfl h (fun _ _ hF => ctJ6_equalsk01 l hF) mdJ6_equals mvJ6_equals q1163 dX1_doorLine_132 rfl (by rw [eq93]; first | done | rfl) c1_0 (Nat.le_of_ble_eq_true rfl) ⟨Nat.le_of_ble_eq_true rfl, Nat.le_of_ble_eq_true rfl⟩ ⟨le_p hC, le_p hZ⟩ (fun x95 σ96 _ h => ?_)
              refine wm_if_eq X 187 h dX1_doorLine_135 (by decide) (fun c97 h => ?_) (fun c97 h => ?_)
              · refine wm_sub (ℓ' := [(0, va_rf (some h0)), (1, va_rf x1), (2, va_rf x21), (4, .int (-1))]) [3, 4, 2, 0] rfl ?_
                exact hJ187 _ _ _ _ _ _ h hC hZ
              · refine wm_iconst (v := 3) X dX1_doorLine_138 (by decide) ?_
                refine wm_istore (ℓ' := [(4, .int 3), (3, va_rf x24), (2, va_rf x21), (0, va_rf (some h0)), (1, va_rf x1)]) X dX1_doorLine_139 (by decide) rfl ?_
                refine wm_goto X 187 dX1_doorLine_141 (by decide) ?_
                refine wm_sub (ℓ' := [(0, va_rf (some h0)), (1, va_rf x1), (2, va_rf x21), (4, .int 3)]) [3, 4, 2, 0] rfl ?_
                exact hJ187 _ _ _ _ _ _ h hC hZ
            · refine ifx_e h (fun c98 h => ?_) (fun c98 h => ?_)
              · refine wm_look (off := 157) (tgt := 174) X dX1_doorLine_17 (by decide) (by first | (rw [c98]; done) | (rw [c98]; decide)) (by decide) ?_
                refine wm_aload_n X 1 dX1_doorLine_174 rfl ?_
                refine wm_ldcS X hS 6 6 rfl dX1_doorLine_175 ?_
                obtain ⟨q99, eq99, h⟩ := Option.bind_eq_some_iff.mp h
                obtain ⟨eq99, s100⟩ := rv_some eq99
                refine wm_cV_i (As := [va_rf (some (BIG + 2 * 6))]) (st := []) X hS cd_20 s100 rfl h (fun _ _ hF => ctJ6_equalsk01 l hF) mdJ6_equals mvJ6_equals q1163 dX1_doorLine_177 rfl (by rw [eq99]; first | done | rfl) c1_0 (Nat.le_of_ble_eq_true rfl) ⟨Nat.le_of_ble_eq_true rfl, Nat.le_of_ble_eq_true rfl⟩ ⟨le_p hC, le_p hZ⟩ (fun x101 σ102 _ h => ?_)
                refine wm_if_eq X 187 h dX1_doorLine_180 (by decide) (fun c103 h => ?_) (fun c103 h => ?_)
                · refine wm_sub (ℓ' := [(0, va_rf (some h0)), (1, va_rf x1), (2, va_rf x21), (4, .int (-1))]) [3, 4, 2, 0] rfl ?_
                  exact hJ187 _ _ _ _ _ _ h hC hZ
                · refine wm_bipush (v := 6) X dX1_doorLine_183 (by decide) ?_
                  refine wm_istore (ℓ' := [(4, .int 6), (3, va_rf x24), (2, va_rf x21), (0, va_rf (some h0)), (1, va_rf x1)]) X dX1_doorLine_185 (by decide) rfl ?_
                  refine wm_sub (ℓ' := [(0, va_rf (some h0)), (1, va_rf x1), (2, va_rf x21), (4, .int 6)]) [3, 4, 2, 0] rfl ?_
                  exact hJ187 _ _ _ _ _ _ h hC hZ
              · refine wm_look (off := 170) (tgt := 187) X dX1_doorLine_17 (by decide) ((lv_osw c62 (by decide)).trans ((lv_osw c68 (by decide)).trans ((lv_osw c74 (by decide)).trans ((lv_osw c80 (by decide)).trans ((lv_osw c86 (by decide)).trans ((lv_osw c92 (by decide)).trans ((lv_osw c98 (by decide)).trans rfl))))))) (by decide) ?_
                refine wm_sub (ℓ' := [(0, va_rf (some h0)), (1, va_rf x1), (2, va_rf x21), (4, .int (-1))]) [3, 4, 2, 0] rfl ?_
                exact hJ187 _ _ _ _ _ _ h hC hZ
theorem mdX3_sign : MD yX3_sign 1 := by unfold MD; decide +kernel
theorem mvX3_sign : MV yX3_sign cX3_sign 2 ((some FieldType.boolean)) := ⟨q1238, q1239, q131, q1240⟩
set_option maxHeartbeats 4000000 in
theorem ctX3_sign (l : Launch) {h0 : Nat} {x1 : Int32} {σ σf : Mm} {r : Int32} (h : FX3_sign h0 x1 σ = some (r, σf)) : CTi l yX3_sign (ws_ yX3_sign cX3_sign 2 ((some FieldType.boolean))) 2 41 0 0 [va_rf (some h0), .int x1] σ r σf := by
  refine ct_start (n := 1) mdX3_sign (Nat.le_of_ble_eq_true rfl) (c1_r (c1_i c1_0)) (fun p e s m args below meth c D dA sz0 ad0 X hS hr hnm => ?_)
  have X : CX p s m args meth c cX3_sign 2 RX3 := X
  generalize mN σ = N0
  unfold FX3_sign at h
  refine wm_aload_n X 0 dX3_sign_0 rfl ?_
  obtain ⟨s21, h⟩ := ck_e h
  refine wm_cV_v (As := []) (st := []) X hS cd_3 s21 rfl h (fun _ hF => ctX3_blanks l hF) mdX3_blanks mvX3_blanks q728 dX3_sign_1 rfl rfl c1_0 (Nat.le_of_ble_eq_true rfl) ⟨Nat.le_of_ble_eq_true rfl, Nat.le_of_ble_eq_true rfl⟩ ⟨Nat.le_of_ble_eq_true rfl, Nat.le_of_ble_eq_true rfl⟩ (fun σ22 _ h => ?_)
  refine wm_aload_n X 0 dX3_sign_4 rfl ?_
  refine wm_aload_n X 0 dX3_sign_5 rfl ?_
  refine wm_gI X hS cd_3 3 h dX3_sign_6 (Nat.le_of_ble_eq_true rfl) rfl q290 (fun x23 h => ?_)
  obtain ⟨s24, h⟩ := ck_e h
  refine wm_cV_i (As := [.int x23]) (st := []) X hS cd_3 s24 rfl h (fun _ _ hF => ctX3_byteAt l hF) mdX3_byteAt mvX3_byteAt q732 dX3_sign_9 rfl rfl c1_0 (Nat.le_of_ble_eq_true rfl) ⟨Nat.le_of_ble_eq_true rfl, Nat.le_of_ble_eq_true rfl⟩ ⟨Nat.le_of_ble_eq_true rfl, Nat.le_of_ble_eq_true rfl⟩ (fun x25 σ26 _ h => ?_)
  refine wm_iload_n X 1 dX3_sign_12 rfl ?_
  refine wm_icmp_eq X 18 h dX3_sign_13 (by decide) (fun c29 h => ?_) (fun c29 h => ?_)
  · refine wm_aload_n X 0 dX3_sign_18 rfl ?_
    refine wm_dup X dX3_sign_19 (catR _) ?_
    refine wm_gI X hS cd_3 3 h dX3_sign_20 (Nat.le_of_ble_eq_true rfl) rfl q290 (fun x27 h => ?_)
    refine wm_iconst (v := 1) X dX3_sign_23 (by decide) ?_
    refine wm_iadd X dX3_sign_24 ?_
    refine wm_pI X hS cd_3 3 h dX3_sign_25 (Nat.le_of_ble_eq_true rfl) rfl q290 rfl rfl (fun σ28 _ h => ?_)
    refine wm_iconst (v := 1) X dX3_sign_28 (by decide) ?_
    exact wm_zret X hr h dX3_sign_29 (Nat.le_of_ble_eq_true rfl) (Nat.le_of_ble_eq_true rfl)
  · refine wm_iconst (v := 0) X dX3_sign_16 (by decide) ?_
    exact wm_zret X hr h dX3_sign_17 (Nat.le_of_ble_eq_true rfl) (Nat.le_of_ble_eq_true rfl)
theorem mdX1_goesOn : MD yX1_goesOn 0 := by unfold MD; decide +kernel
theorem mvX1_goesOn : MV yX1_goesOn cX1_goesOn 1 ((some FieldType.boolean)) := ⟨q1235, qs25, q128, q1236⟩
set_option maxHeartbeats 4000000 in
theorem ctX1_goesOn (l : Launch) (hl : l.stackTraces = false) {h0 : Nat} {σ : Mm} {xo : (Int32 × Mm) ⊕ (Nat × Mm)} {mc ms : Nat} (h : FX1_goesOn h0 σ = some (xo, mc, ms)) : CTXi l yX1_goesOn (ws_ yX1_goesOn cX1_goesOn 1 ((some FieldType.boolean))) 5 113 mc ms [va_rf (some h0)] σ xo := by
  refine ctx_start (n := 0) mdX1_goesOn (Nat.le_of_ble_eq_true rfl) (c1_r c1_0) (fun p e s m args below meth c D dA sz0 ad0 X hS hr hnm hno => ?_)
  have X : CX p s m args meth c cX1_goesOn 1 RX1 := X
  have hC : 0 + mc ≤ mc := Nat.le_of_eq (Nat.zero_add mc)
  have hZ : 0 + ms ≤ ms := Nat.le_of_eq (Nat.zero_add ms)
  generalize mN σ = N0
  unfold FX1_goesOn at h
  refine wm_aload_n X 0 dX1_goesOn_0 rfl ?_
  refine wm_gR X hS cd_1 4 h dX1_goesOn_1 (Nat.le_of_ble_eq_true rfl) rfl q441 (fun x21 h => ?_)
  obtain ⟨q22, eq22, h⟩ := Option.bind_eq_some_iff.mp h
  obtain ⟨eq22, s23⟩ := rv_some eq22
  refine wm_cV_i (As := []) (st := []) X hS cd_3 s23 rfl h (fun _ _ hF => ctX3_isOver l hF) mdX3_isOver mvX3_isOver q724 dX1_goesOn_4 rfl (by rw [eq22]; first | done | rfl) c1_0 (Nat.le_of_ble_eq_true rfl) ⟨Nat.le_of_ble_eq_true rfl, Nat.le_of_ble_eq_true rfl⟩ ⟨le_p hC, le_p hZ⟩ (fun x24 σ25 _ h => ?_)
  refine wm_if_eq X 12 h dX1_goesOn_7 (by decide) (fun c37 h => ?_) (fun c37 h => ?_)
  · refine wm_aload_n X 0 dX1_goesOn_12 rfl ?_
    refine wm_gR X hS cd_1 4 h dX1_goesOn_13 (Nat.le_of_ble_eq_true rfl) rfl q441 (fun x26 h => ?_)
    refine wm_bipush (v := 59) X dX1_goesOn_16 (by decide) ?_
    obtain ⟨q27, eq27, h⟩ := Option.bind_eq_some_iff.mp h
    obtain ⟨eq27, s28⟩ := rv_some eq27
    refine wm_cV_i (As := [.int 59]) (st := []) X hS cd_3 s28 rfl h (fun _ _ hF => ctX3_sign l hF) mdX3_sign mvX3_sign q1237 dX1_goesOn_18 rfl (by rw [eq27]; first | done | rfl) c1_0 (Nat.le_of_ble_eq_true rfl) ⟨Nat.le_of_ble_eq_true rfl, Nat.le_of_ble_eq_true rfl⟩ ⟨le_p hC, le_p hZ⟩ (fun x29 σ30 _ h => ?_)
    refine wm_if_eq X 26 h dX1_goesOn_21 (by decide) (fun c36 h => ?_) (fun c36 h => ?_)
    · refine wm_aload_n X 0 dX1_goesOn_26 rfl ?_
      refine wm_gR X hS cd_1 4 h dX1_goesOn_27 (Nat.le_of_ble_eq_true rfl) rfl q441 (fun x31 h => ?_)
      obtain ⟨q32, eq32, h⟩ := Option.bind_eq_some_iff.mp h
      obtain ⟨eq32, s33⟩ := rv_some eq32
      obtain ⟨C, Z, h, hC, hZ⟩ := pay_d h hC hZ
      refine wm_cV_r (As := []) (st := []) X hS cd_3 s33 rfl h (fun _ _ hF => ctX3_wrong l hF) mdX3_wrong mvX3_wrong q1073 dX1_goesOn_30 rfl (by rw [eq32]; first | done | rfl) c1_0 (Nat.le_of_ble_eq_true rfl) ⟨Nat.le_of_ble_eq_true rfl, Nat.le_of_ble_eq_true rfl⟩ ⟨le_p hC, le_p hZ⟩ (fun x34 σ35 _ h => ?_)
      exact wm_athrowW X hS hno (thrd_e h) dX1_goesOn_33 (le_p hC) (le_p hZ)
    · refine wm_iconst (v := 1) X dX1_goesOn_24 (by decide) ?_
      exact wm_xzret X hr (rZd_e h) dX1_goesOn_25 (le_p hC) (le_p hZ)
  · refine wm_iconst (v := 0) X dX1_goesOn_10 (by decide) ?_
    exact wm_xzret X hr (rZd_e h) dX1_goesOn_11 (le_p hC) (le_p hZ)
theorem mdX1_doorText : MD yX1_doorText 1 := by unfold MD; decide +kernel
theorem mvX1_doorText : MV yX1_doorText cX1_doorText 3 (none) := ⟨q722, qs12, q128, q723⟩
set_option maxHeartbeats 4000000 in
theorem wX1_doorText_13 {p : Program} {l : Launch} {e : Env} {s : State} {m : MethodId} {args : Array Value} {below : List Frame} {meth : Method} {c : Code} {D : va_G} {dA : Nat → ClassId} {sz0 : Nat} {ad0 : Nat → Nat} {N0 : Nat} {xo : Mm ⊕ (Nat × Mm)} {mc ms : Nat} (X : CX p s m args meth c cX1_doorText 3 RX1) (hS : ST D dA sz0 ad0 s) (hr : meth.sig.returnType = none) (hnm : meth.name = yX1_doorText.name) (hl : l.stackTraces = false) (hno : ∀ x ∈ c.exceptionTable.toList, False) (h0 : Nat) (y1 : Option Nat) : ∀ (n : Nat) (v2 : Int32) (σ : Mm) (kx35 : Mm → DX (Mm)) (C Z kc kz : Nat), FX1_doorText_13 h0 y1 n v2 σ kx35 = some (xo, C, Z) → kc + C ≤ mc → kz + Z ≤ ms → (∀  (σ : Mm) (C Z kc kz : Nat), kx35 σ = some (xo, C, Z) → kc + C ≤ mc → kz + Z ≤ ms → WMxv p l e s m args below meth c 11 249 mc ms 3 D dA sz0 ad0 N0 xo kc kz σ [] [] 35) → WMxv p l e s m args below meth c 11 249 mc ms 3 D dA sz0 ad0 N0 xo kc kz σ [(0, va_rf (some h0)), (1, va_rf y1), (2, .int v2)] [] 13 := by
  intro n
  induction n with
  | zero =>
    intro v2 σ kx35 C Z kc kz h hC hZ hkx35
    cases h
  | succ n ih =>
    intro v2 σ kx35 C Z kc kz h hC hZ hkx35
    rw [FX1_doorText_13] at h
    refine wm_aload_n X 0 dX1_doorText_13 rfl ?_
    refine wm_iload_n X 2 dX1_doorText_14 rfl ?_
    refine wm_bipush (v := 14) X dX1_doorText_15 (by decide) ?_
    obtain ⟨s26, h⟩ := ck_e h
    refine wm_dV_v (As := [.int v2, .int 14]) (st := []) X hS hno cd_1 s26 rfl h hC hZ (fun _ _ _ hF => ctX1_noMore l hl hF) mdX1_noMore mvX1_noMore q736 dX1_doorText_17 rfl rfl c1_0 (Nat.le_of_ble_eq_true rfl) ⟨Nat.le_of_ble_eq_true rfl, Nat.le_of_ble_eq_true rfl⟩ (Nat.le_refl _) (Nat.le_refl _) (fun σ27 c1 z1 C Z _ h hC hZ => ?_)
    refine wm_aload_n X 0 dX1_doorText_20 rfl ?_
    refine wm_aload_n X 1 dX1_doorText_21 rfl ?_
    obtain ⟨s28, h⟩ := ck_e h
    refine wm_dV_v (As := [va_rf y1]) (st := []) X hS hno cd_1 s28 rfl h hC hZ (fun _ _ _ hF => ctX1_doorLine l hl hF) mdX1_doorLine mvX1_doorLine q1097 dX1_doorText_22 rfl rfl c1_0 (Nat.le_of_ble_eq_true rfl) ⟨Nat.le_of_ble_eq_true rfl, Nat.le_of_ble_eq_true rfl⟩ (Nat.le_refl _) (Nat.le_refl _) (fun σ29 c1 z1 C Z _ h hC hZ => ?_)
    refine wm_iinc (v := (v2 + 1)) (ℓ' := [(2, .int (v2 + 1)), (0, va_rf (some h0)), (1, va_rf y1)]) X 2 dX1_doorText_25 rfl rfl (by decide) rfl ?_
    refine wm_aload_n X 1 dX1_doorText_28 rfl ?_
    obtain ⟨s30, h⟩ := ck_e h
    refine wm_dV_i (As := []) (st := []) X hS hno cd_1 s30 rfl h hC hZ (fun _ _ _ hF => ctX1_goesOn l hl hF) mdX1_goesOn mvX1_goesOn q1233 dX1_doorText_29 rfl rfl c1_0 (Nat.le_of_ble_eq_true rfl) ⟨Nat.le_of_ble_eq_true rfl, Nat.le_of_ble_eq_true rfl⟩ (Nat.le_refl _) (Nat.le_refl _) (fun x31 σ32 c1 z1 C Z _ h hC hZ => ?_)
    refine wm_if_ne X 13 h dX1_doorText_32 (by decide) (fun c33 h => ?_) (fun c33 h => ?_)
    · refine wm_sub (ℓ' := [(0, va_rf (some h0)), (1, va_rf y1), (2, .int (v2 + 1))]) [1, 2, 0] rfl ?_
      exact ih _ _ _ _ _ _ _ h hC hZ hkx35
    · refine wm_sub (ℓ' := []) [] rfl ?_
      exact hkx35 _ _ _ _ _ h hC hZ
set_option maxHeartbeats 4000000 in
theorem ctX1_doorText (l : Launch) (hl : l.stackTraces = false) {h0 : Nat} {x1 : Option Nat} {σ : Mm} {xo : Mm ⊕ (Nat × Mm)} {mc ms : Nat} (h : FX1_doorText h0 x1 σ = some (xo, mc, ms)) : CTXv l yX1_doorText (ws_ yX1_doorText cX1_doorText 3 (none)) 11 249 mc ms [va_rf (some h0), va_rf x1] σ xo := by
  refine ctx_start (n := 1) mdX1_doorText (Nat.le_of_ble_eq_true rfl) (c1_r (c1_r c1_0)) (fun p e s m args below meth c D dA sz0 ad0 X hS hr hnm hno => ?_)
  have X : CX p s m args meth c cX1_doorText 3 RX1 := X
  have hC : 0 + mc ≤ mc := Nat.le_of_eq (Nat.zero_add mc)
  have hZ : 0 + ms ≤ ms := Nat.le_of_eq (Nat.zero_add ms)
  generalize mN σ = N0
  unfold FX1_doorText at h
  refine wm_aload_n X 0 dX1_doorText_0 rfl ?_
  refine wm_gR X hS cd_1 4 h dX1_doorText_1 (Nat.le_of_ble_eq_true rfl) rfl q441 (fun x21 h => ?_)
  obtain ⟨q22, eq22, h⟩ := Option.bind_eq_some_iff.mp h
  obtain ⟨eq22, s23⟩ := rv_some eq22
  refine wm_cV_i (As := []) (st := []) X hS cd_3 s23 rfl h (fun _ _ hF => ctX3_isOver l hF) mdX3_isOver mvX3_isOver q724 dX1_doorText_4 rfl (by rw [eq22]; first | done | rfl) c1_0 (Nat.le_of_ble_eq_true rfl) ⟨Nat.le_of_ble_eq_true rfl, Nat.le_of_ble_eq_true rfl⟩ ⟨le_p hC, le_p hZ⟩ (fun x24 σ25 _ h => ?_)
  refine wm_if_eq X 11 h dX1_doorText_7 (by decide) (fun c34 h => ?_) (fun c34 h => ?_)
  · refine wm_iconst (v := 0) X dX1_doorText_11 (by decide) ?_
    refine wm_istore_n (ℓ' := [(2, .int 0), (0, va_rf (some h0)), (1, va_rf x1)]) X dX1_doorText_12 (by decide) rfl ?_
    refine wm_sub (ℓ' := [(0, va_rf (some h0)), (1, va_rf x1), (2, .int 0)]) [1, 2, 0] rfl ?_
    refine wX1_doorText_13 X hS hr hnm hl hno _ _ fu _ _ _ _ _ _ _ h hC hZ (fun σ C Z kc kz h hC hZ => ?_)
    · exact wm_xvret X hr (rt_e h) dX1_doorText_35 (le_p hC) (le_p hZ)
  · exact wm_xvret X hr (rt_e h) dX1_doorText_10 (le_p hC) (le_p hZ)
theorem mdX1_fails : MD yX1_fails 0 := by unfold MD; decide +kernel
theorem mvX1_fails : MV yX1_fails cX1_fails 1 (none) := ⟨q1243, qs26, q128, q1244⟩
set_option maxHeartbeats 4000000 in
theorem ctX1_fails (l : Launch) (hl : l.stackTraces = false) {h0 : Nat} {σ : Mm} {xo : Mm ⊕ (Nat × Mm)} {mc ms : Nat} (h : FX1_fails h0 σ = some (xo, mc, ms)) : CTXv l yX1_fails (ws_ yX1_fails cX1_fails 1 (none)) 6 110 mc ms [va_rf (some h0)] σ xo := by
  refine ctx_start (n := 0) mdX1_fails (Nat.le_of_ble_eq_true rfl) (c1_r c1_0) (fun p e s m args below meth c D dA sz0 ad0 X hS hr hnm hno => ?_)
  have X : CX p s m args meth c cX1_fails 1 RX1 := X
  have hC : 0 + mc ≤ mc := Nat.le_of_eq (Nat.zero_add mc)
  have hZ : 0 + ms ≤ ms := Nat.le_of_eq (Nat.zero_add ms)
  generalize mN σ = N0
  unfold FX1_fails at h
  refine wm_aload_n X 0 dX1_fails_0 rfl ?_
  refine wm_gR X hS cd_1 4 h dX1_fails_1 (Nat.le_of_ble_eq_true rfl) rfl q441 (fun x21 h => ?_)
  refine wm_aload_n X 0 dX1_fails_4 rfl ?_
  refine wm_gR X hS cd_1 4 h dX1_fails_5 (Nat.le_of_ble_eq_true rfl) rfl q441 (fun x22 h => ?_)
  refine wm_gIN X hS cd_3 4 h dX1_fails_8 (Nat.le_of_ble_eq_true rfl) rfl 24 rfl (fun x23 h => ?_)
  refine wm_pIN X hS cd_3 5 h dX1_fails_11 (Nat.le_of_ble_eq_true rfl) rfl 25 rfl rfl rfl (fun σ24 _ h => ?_)
  obtain ⟨h9, rfl, rfl⟩ := thw_e h
  exact wm_throw0 (k := 3) X hS hl hno h9 rfl at3 q1245 q152 (by decide +kernel) (by decide +kernel) dX1_fails_14 dX1_fails_17 dX1_fails_18 dX1_fails_21 c1_0 (Nat.le_of_ble_eq_true rfl) (Nat.le_of_ble_eq_true rfl) (Nat.le_of_ble_eq_true rfl) hC hZ hC hZ
theorem mdX1_door : MD yX1_door 0 := by unfold MD; decide +kernel
theorem mvX1_door : MVW yX1_door cX1_door 2 ((some FieldType.int)) [(19, 35, 38, 243)] := ⟨q712, q713, q128, q714⟩
set_option maxHeartbeats 4000000 in
theorem ctX1_door (l : Launch) (hl : l.stackTraces = false) {h0 : Nat} {σ : Mm} {xo : (Int32 × Mm) ⊕ (Nat × Mm)} {mc ms : Nat} (h : FX1_door h0 σ = some (xo, mc, ms)) : CTXi l yX1_door (wsW_ yX1_door cX1_door 2 ((some FieldType.int)) [(19, 35, 38, 243)]) 12 271 mc ms [va_rf (some h0)] σ xo := by
  refine ctxW_start (n := 0) mdX1_door (Nat.le_of_ble_eq_true rfl) (c1_r c1_0) (fun p e s m args below meth c D dA sz0 ad0 X hS hr hnm hno => ?_)
  have X : CX p s m args meth c cX1_door 2 RX1 := X
  have hC : 0 + mc ≤ mc := Nat.le_of_eq (Nat.zero_add mc)
  have hZ : 0 + ms ≤ ms := Nat.le_of_eq (Nat.zero_add ms)
  generalize mN σ = N0
  unfold FX1_door at h
  refine wm_aload_n X 0 dX1_door_0 rfl ?_
  refine wm_gR X hS cd_1 4 h dX1_door_1 (Nat.le_of_ble_eq_true rfl) rfl q441 (fun x21 h => ?_)
  obtain ⟨q22, eq22, h⟩ := Option.bind_eq_some_iff.mp h
  obtain ⟨eq22, s23⟩ := rv_some eq22
  refine wm_cV_v (As := []) (st := []) X hS cd_3 s23 rfl h (fun _ hF => ctX3_begins l hF) mdX3_begins mvX3_begins q716 dX1_door_4 rfl (by rw [eq22]; first | done | rfl) c1_0 (Nat.le_of_ble_eq_true rfl) ⟨Nat.le_of_ble_eq_true rfl, Nat.le_of_ble_eq_true rfl⟩ ⟨le_p hC, le_p hZ⟩ (fun σ24 _ h => ?_)
  refine wm_aload_n X 0 dX1_door_7 rfl ?_
  refine wm_gR X hS cd_1 1 h dX1_door_8 (Nat.le_of_ble_eq_true rfl) rfl q438 (fun x25 h => ?_)
  refine wm_aload_n X 0 dX1_door_11 rfl ?_
  refine wm_gR X hS cd_1 0 h dX1_door_12 (Nat.le_of_ble_eq_true rfl) rfl q434 (fun x26 h => ?_)
  obtain ⟨q27, eq27, h⟩ := Option.bind_eq_some_iff.mp h
  obtain ⟨eq27, s28⟩ := rv_some eq27
  refine wm_cV_r (As := [va_rf x26]) (st := []) X hS cd_2 s28 rfl h (fun _ _ hF => ctX2_likens l hF) mdX2_likens mvX2_likens q673 dX1_door_15 rfl (by rw [eq27]; first | done | rfl) c1_0 (Nat.le_of_ble_eq_true rfl) ⟨Nat.le_of_ble_eq_true rfl, Nat.le_of_ble_eq_true rfl⟩ ⟨le_p hC, le_p hZ⟩ (fun x29 σ30 _ h => ?_)
  refine wm_pop X dX1_door_18 (catR _) ?_
  refine wm_aload_n X 0 dX1_door_19 rfl ?_
  refine wm_aload_n X 0 dX1_door_20 rfl ?_
  refine wm_gR X hS cd_1 1 h dX1_door_21 (Nat.le_of_ble_eq_true rfl) rfl q438 (fun x31 h => ?_)
  obtain ⟨J43, eJ43, h⟩ := jn_e h
  have hJ43 : ∀  (σ : Mm) (C Z kc kz : Nat), J43  σ = some (xo, C, Z) → kc + C ≤ mc → kz + Z ≤ ms → WMxi p l e s m args below meth c 12 271 mc ms 2 D dA sz0 ad0 N0 xo kc kz σ [(0, va_rf (some h0))] [] 43 := by
    intro  σ C Z kc kz h hC hZ
    rw [eJ43] at h
    refine wm_aload_n X 0 dX1_door_43 rfl ?_
    refine wm_gR X hS cd_1 0 h dX1_door_44 (Nat.le_of_ble_eq_true rfl) rfl q434 (fun x34 h => ?_)
    refine wm_gIN X hS cd_2 0 h dX1_door_47 (Nat.le_of_ble_eq_true rfl) rfl 0 rfl (fun x35 h => ?_)
    refine wm_bipush (v := 12) X dX1_door_50 (by decide) ?_
    refine wm_icmp_ne X 63 h dX1_door_52 (by decide) (fun c51 h => ?_) (fun c51 h => ?_)
    · refine wm_aload_n X 0 dX1_door_63 rfl ?_
      refine wm_gR X hS cd_1 1 h dX1_door_64 (Nat.le_of_ble_eq_true rfl) rfl q438 (fun x36 h => ?_)
      refine wm_dup X dX1_door_67 (catR _) ?_
      refine wm_gIN X hS cd_2 0 h dX1_door_68 (Nat.le_of_ble_eq_true rfl) rfl 0 rfl (fun x37 h => ?_)
      refine wm_iconst (v := 1) X dX1_door_71 (by decide) ?_
      refine wm_iadd X dX1_door_72 ?_
      refine wm_pIN X hS cd_2 0 h dX1_door_73 (Nat.le_of_ble_eq_true rfl) rfl 0 rfl rfl rfl (fun σ38 _ h => ?_)
      refine wm_aload_n X 0 dX1_door_76 rfl ?_
      refine wm_gR X hS cd_1 0 h dX1_door_77 (Nat.le_of_ble_eq_true rfl) rfl q434 (fun x39 h => ?_)
      refine wm_aload_n X 0 dX1_door_80 rfl ?_
      refine wm_gR X hS cd_1 1 h dX1_door_81 (Nat.le_of_ble_eq_true rfl) rfl q438 (fun x40 h => ?_)
      obtain ⟨q41, eq41, h⟩ := Option.bind_eq_some_iff.mp h
      obtain ⟨eq41, s42⟩ := rv_some eq41
      refine wm_cV_r (As := [va_rf x40]) (st := []) X hS cd_2 s42 rfl h (fun _ _ hF => ctX2_likens l hF) mdX2_likens mvX2_likens q673 dX1_door_84 rfl (by rw [eq41]; first | done | rfl) c1_0 (Nat.le_of_ble_eq_true rfl) ⟨Nat.le_of_ble_eq_true rfl, Nat.le_of_ble_eq_true rfl⟩ ⟨le_p hC, le_p hZ⟩ (fun x43 σ44 _ h => ?_)
      refine wm_pop X dX1_door_87 (catR _) ?_
      refine wm_aload_n X 0 dX1_door_88 rfl ?_
      refine wm_gR X hS cd_1 6 h dX1_door_89 (Nat.le_of_ble_eq_true rfl) rfl q444 (fun x45 h => ?_)
      obtain ⟨q46, eq46, h⟩ := Option.bind_eq_some_iff.mp h
      obtain ⟨eq46, s47⟩ := rv_some eq46
      refine wm_cV_v (As := []) (st := []) X hS cd_17 s47 rfl h (fun _ hF => ctJ3_clear l hF) mdJ3_clear mvJ3_clear q689 dX1_door_92 rfl (by rw [eq46]; first | done | rfl) c1_0 (Nat.le_of_ble_eq_true rfl) ⟨Nat.le_of_ble_eq_true rfl, Nat.le_of_ble_eq_true rfl⟩ ⟨le_p hC, le_p hZ⟩ (fun σ48 _ h => ?_)
      refine wm_aload_n X 0 dX1_door_95 rfl ?_
      refine wm_gR X hS cd_1 0 h dX1_door_96 (Nat.le_of_ble_eq_true rfl) rfl q434 (fun x49 h => ?_)
      refine wm_gIN X hS cd_2 0 h dX1_door_99 (Nat.le_of_ble_eq_true rfl) rfl 0 rfl (fun x50 h => ?_)
      exact wm_xiret X hr (rt_e h) dX1_door_102 (le_p hC) (le_p hZ)
    · obtain ⟨h9, rfl, rfl⟩ := thw_e h
      exact wm_throw0C (k := 6) X hS hl (by rw [hno]; decide) h9 rfl at6 q1256 q156 (by decide +kernel) (by decide +kernel) dX1_door_55 dX1_door_58 dX1_door_59 dX1_door_62 c1_0 (Nat.le_of_ble_eq_true rfl) (Nat.le_of_ble_eq_true rfl) (Nat.le_of_ble_eq_true rfl) hC hZ hC hZ
  clear eJ43
  obtain ⟨s32, h⟩ := ck_e h
  refine wm_tV_v (As := [va_rf x31]) (st := []) X hS cd_1 s32 rfl h hC hZ (fun _ _ _ hF => ctX1_doorText l hl hF) mdX1_doorText mvX1_doorText q720 dX1_door_24 rfl rfl c1_0 (Nat.le_of_ble_eq_true rfl) ⟨Nat.le_of_ble_eq_true rfl, Nat.le_of_ble_eq_true rfl⟩ (Nat.le_refl _) (Nat.le_refl _) (fun σ33 c1 z1 C Z _ h hC hZ => ?_) (fun k54 σ55 c1 z1 C Z _ h hC hZ => ?_)
  · refine wm_aload_n X 0 dX1_door_27 rfl ?_
    refine wm_gR X hS cd_1 4 h dX1_door_28 (Nat.le_of_ble_eq_true rfl) rfl q441 (fun x52 h => ?_)
    refine wm_iconst (v := (-1)) X dX1_door_31 (by decide) ?_
    refine wm_pIN X hS cd_3 5 h dX1_door_32 (Nat.le_of_ble_eq_true rfl) rfl 25 rfl rfl rfl (fun σ53 _ h => ?_)
    refine wm_goto X 43 dX1_door_35 (by decide) ?_
    exact hJ43 _ _ _ _ _ h hC hZ
  · refine ifx_e h (fun c58 h => ?_) (fun c58 h => ?_)
    · subst c58
      refine wx_catch (k := 1) (i := 1) (len := 1) (name := "HungFaces$Wrong") X hS [] ⟨19, 35, 38, 243⟩ [] hno (fun z hz => by cases hz) (by decide) (by decide) q715 82 rfl (Or.inl ⟨1, rfl, dX1_door_38, rfl⟩) (by decide) (List.forall_mem_cons.mpr ⟨by dsimp only; decide, (fun z hz => by cases hz)⟩) ?_
      refine wm_aload_n X 0 dX1_door_39 rfl ?_
      obtain ⟨s56, h⟩ := ck_e h
      refine wm_dV_vC (As := []) (st := []) X hS (by rw [hno]; decide) cd_1 s56 rfl h hC hZ (fun _ _ _ hF => ctX1_fails l hl hF) mdX1_fails mvX1_fails q1241 dX1_door_40 rfl rfl c1_0 (Nat.le_of_ble_eq_true rfl) ⟨Nat.le_of_ble_eq_true rfl, Nat.le_of_ble_eq_true rfl⟩ (Nat.le_refl _) (Nat.le_refl _) (fun σ57 c1 z1 C Z _ h hC hZ => ?_)
      exact hJ43 _ _ _ _ _ h hC hZ
    · cases h
theorem mdX10_init : MD yX10_init 0 := by unfold MD; decide +kernel
theorem miX10_init : MI yX10_init cX10_init 1 := ⟨q1285, q157, q1286, rfl⟩
set_option maxHeartbeats 4000000 in
theorem ctX10_init (l : Launch) {h0 : Nat} {σ σf : Mm} (h : FX10_init h0 σ = some σf) : CTv l yX10_init (ws_ yX10_init cX10_init 1 (none)) 4 85 1 3 [va_rf (some h0)] σ σf := by
  refine ct_start (n := 0) mdX10_init (Nat.le_of_ble_eq_true rfl) (c1_r c1_0) (fun p e s m args below meth c D dA sz0 ad0 X hS hr hnm => ?_)
  have X : CX p s m args meth c cX10_init 1 RX10 := X
  generalize mN σ = N0
  unfold FX10_init at h
  refine wm_aload_n X 0 dX10_init_0 rfl ?_
  refine wm_objInit X dX10_init_1 q1287 q179 q180 (Nat.le_of_ble_eq_true rfl) c1_0 (Nat.le_of_ble_eq_true rfl) (Nat.le_of_ble_eq_true rfl) ?_
  refine wm_aload_n X 0 dX10_init_4 rfl ?_
  refine wm_new X hS cd_17 h dX10_init_5 q1288 q353 q135 (Nat.le_of_ble_eq_true rfl) (Nat.le_of_ble_eq_true rfl) (fun x21 σ22 _ h => ?_)
  refine wm_dup X dX10_init_8 (catR _) ?_
  obtain ⟨q23, eq23, h⟩ := Option.bind_eq_some_iff.mp h
  obtain ⟨eq23, s24⟩ := rv_some eq23
  refine wm_cI_v (As := []) (st := [va_rf x21, va_rf (some h0)]) X hS h (fun _ hF => ctJ3_init l hF) mdJ3_init miJ3_init q1289 dX10_init_9 rfl (by rw [eq23]; first | done | rfl) (c1_r (c1_r c1_0)) (Nat.le_of_ble_eq_true rfl) ⟨Nat.le_of_ble_eq_true rfl, Nat.le_of_ble_eq_true rfl⟩ ⟨Nat.le_of_ble_eq_true rfl, Nat.le_of_ble_eq_true rfl⟩ (fun σ25 _ h => ?_)
  refine wm_pRF X hS cd_10 0 h dX10_init_12 (Nat.le_of_ble_eq_true rfl) rfl q1290 (fun r => by cases r <;> exact ⟨rfl, rfl⟩) rfl hnm rfl (fun σ26 _ h => ?_)
  exact wm_vret X hr h dX10_init_15 (Nat.le_of_ble_eq_true rfl) (Nat.le_of_ble_eq_true rfl)
set_option maxHeartbeats 4000000 in
theorem wJ10_equals_9 {p : Program} {l : Launch} {e : Env} {s : State} {m : MethodId} {args : Array Value} {below : List Frame} {meth : Method} {c : Code} {D : va_G} {dA : Nat → ClassId} {sz0 : Nat} {ad0 : Nat → Nat} {N0 : Nat} {r : Int32} {σf : Mm} (X : CX p s m args meth c cJ10_equals 3 RJ10) (hS : ST D dA sz0 ad0 s) (hr : meth.sig.returnType = (some FieldType.boolean)) (hnm : meth.name = yJ10_equals.name) (y0 : Option Nat) (y1 : Option Nat) : ∀ (n : Nat) (v2 : Int32) (σ : Mm) (kx32 : Mm → Option (Int32 × Mm)) (kx24 : Mm → Option (Int32 × Mm)), FJ10_equals_9 y0 y1 n v2 σ kx32 kx24 = some (r, σf) → (∀  (σ : Mm), kx32 σ = some (r, σf) → WMi p l e s m args below meth c 0 0 0 0 3 D dA sz0 ad0 N0 r σf 0 0 σ [] [] 32) → (∀  (σ : Mm), kx24 σ = some (r, σf) → WMi p l e s m args below meth c 0 0 0 0 3 D dA sz0 ad0 N0 r σf 0 0 σ [] [] 24) → WMi p l e s m args below meth c 0 0 0 0 3 D dA sz0 ad0 N0 r σf 0 0 σ [(0, va_rf y0), (1, va_rf y1), (2, .int v2)] [] 9 := by
  intro n
  induction n with
  | zero =>
    intro v2 σ kx32 kx24 h hkx32 hkx24
    cases h
  | succ n ih =>
    intro v2 σ kx32 kx24 h hkx32 hkx24
    rw [FJ10_equals_9] at h
    refine wm_iload_n X 2 dJ10_equals_9 rfl ?_
    refine wm_aload_n X 0 dJ10_equals_10 rfl ?_
    refine wm_alen X hS 101 (by decide) h dJ10_equals_11 (fun x23 h => ?_)
    refine wm_icmp_ge X 32 h dJ10_equals_12 (by decide) (fun c27 h => ?_) (fun c27 h => ?_)
    · refine wm_sub (ℓ' := []) [] rfl ?_
      exact hkx32 _ h
    · refine wm_aload_n X 0 dJ10_equals_15 rfl ?_
      refine wm_iload_n X 2 dJ10_equals_16 rfl ?_
      refine wm_baload X hS h dJ10_equals_17 (fun x24 h => ?_)
      refine wm_aload_n X 1 dJ10_equals_18 rfl ?_
      refine wm_iload_n X 2 dJ10_equals_19 rfl ?_
      refine wm_baload X hS h dJ10_equals_20 (fun x25 h => ?_)
      refine wm_icmp_eq X 26 h dJ10_equals_21 (by decide) (fun c26 h => ?_) (fun c26 h => ?_)
      · refine wm_iinc (v := (v2 + 1)) (ℓ' := [(2, .int (v2 + 1)), (0, va_rf y0), (1, va_rf y1)]) X 2 dJ10_equals_26 rfl rfl (by decide) rfl ?_
        refine wm_goto X 9 dJ10_equals_29 (by decide) ?_
        refine wm_sub (ℓ' := [(0, va_rf y0), (1, va_rf y1), (2, .int (v2 + 1))]) [1, 2, 0] rfl ?_
        exact ih _ _ _ _ h hkx32 hkx24
      · refine wm_sub (ℓ' := []) [] rfl ?_
        exact hkx24 _ h
set_option maxHeartbeats 4000000 in
theorem ctJ10_equals (l : Launch) {x0 : Option Nat} {x1 : Option Nat} {σ σf : Mm} {r : Int32} (h : FJ10_equals x0 x1 σ = some (r, σf)) : CTi l yJ10_equals (ws_ yJ10_equals cJ10_equals 3 ((some FieldType.boolean))) 0 0 0 0 [va_rf x0, va_rf x1] σ r σf := by
  refine ct_start (n := 2) mdJ10_equals (Nat.le_of_ble_eq_true rfl) (c1_r (c1_r c1_0)) (fun p e s m args below meth c D dA sz0 ad0 X hS hr hnm => ?_)
  have X : CX p s m args meth c cJ10_equals 3 RJ10 := X
  generalize mN σ = N0
  unfold FJ10_equals at h
  refine wm_aload_n X 0 dJ10_equals_0 rfl ?_
  refine wm_alen X hS 101 (by decide) h dJ10_equals_1 (fun x21 h => ?_)
  refine wm_aload_n X 1 dJ10_equals_2 rfl ?_
  refine wm_alen X hS 101 (by decide) h dJ10_equals_3 (fun x22 h => ?_)
  refine wm_icmp_ne X 34 h dJ10_equals_4 (by decide) (fun c28 h => ?_) (fun c28 h => ?_)
  · refine wm_iconst (v := 0) X dJ10_equals_34 (by decide) ?_
    exact wm_zret X hr h dJ10_equals_35 (Nat.le_of_ble_eq_true rfl) (Nat.le_of_ble_eq_true rfl)
  · refine wm_iconst (v := 0) X dJ10_equals_7 (by decide) ?_
    refine wm_istore_n (ℓ' := [(2, .int 0), (0, va_rf x0), (1, va_rf x1)]) X dJ10_equals_8 (by decide) rfl ?_
    refine wm_sub (ℓ' := [(0, va_rf x0), (1, va_rf x1), (2, .int 0)]) [1, 2, 0] rfl ?_
    refine wJ10_equals_9 X hS hr hnm _ _ fu _ _ _ _ h (fun σ h => ?_) (fun σ h => ?_)
    · refine wm_iconst (v := 1) X dJ10_equals_32 (by decide) ?_
      exact wm_zret X hr h dJ10_equals_33 (Nat.le_of_ble_eq_true rfl) (Nat.le_of_ble_eq_true rfl)
    · refine wm_iconst (v := 0) X dJ10_equals_24 (by decide) ?_
      exact wm_zret X hr h dJ10_equals_25 (Nat.le_of_ble_eq_true rfl) (Nat.le_of_ble_eq_true rfl)
set_option maxHeartbeats 4000000 in
theorem ctJ6_equals (l : Launch) {h0 : Nat} {x1 : Option Nat} {σ σf : Mm} {r : Int32} (h : FJ6_equals h0 x1 σ = some (r, σf)) : CTi l yJ6_equals (ws_ yJ6_equals cJ6_equals 3 ((some FieldType.boolean))) 1 22 0 0 [va_rf (some h0), va_rf x1] σ r σf := by
  refine ct_start (n := 1) mdJ6_equals (Nat.le_of_ble_eq_true rfl) (c1_r (c1_r c1_0)) (fun p e s m args below meth c D dA sz0 ad0 X hS hr hnm => ?_)
  have X : CX p s m args meth c cJ6_equals 3 RJ6 := X
  generalize mN σ = N0
  unfold FJ6_equals at h
  refine wm_aload_n X 0 dJ6_equals_0 rfl ?_
  refine wm_aload_n X 1 dJ6_equals_1 rfl ?_
  refine wm_acmpD X hS 7 h dJ6_equals_2 (by decide) (fun h => ?_)
  · refine wm_aload_n X 1 dJ6_equals_7 rfl ?_
    refine wm_inst X hS cd_20 h dJ6_equals_8 q1167 (fun q21 e22 s23 h => ?_)
    refine wm_if_eq X 54 h dJ6_equals_11 (by decide) (fun c36 h => ?_) (fun c36 h => ?_)
    · refine wm_iconst (v := 0) X dJ6_equals_54 (by decide) ?_
      exact wm_zret X hr h dJ6_equals_55 (Nat.le_of_ble_eq_true rfl) (Nat.le_of_ble_eq_true rfl)
    · refine wm_aload_n X 1 dJ6_equals_14 rfl ?_
      refine wm_cast X hS cd_20 h dJ6_equals_15 q1167 (fun q24 e25 s26 h => ?_)
      refine wm_astore_n (ℓ' := [(2, va_rf (some q24)), (0, va_rf (some h0)), (1, va_rf x1)]) X dJ6_equals_18 (by decide) rfl ?_
      refine wm_gstI X hS dJ6_equals_19 q1005 ?_
      obtain ⟨J36, eJ36, h⟩ := jn_e h
      have hJ36 : ∀  (σ : Mm), J36  σ = some (r, σf) → WMi p l e s m args below meth c 1 22 0 0 3 D dA sz0 ad0 N0 r σf 0 0 σ [(0, va_rf (some h0)), (2, va_rf (some q24))] [] 36 := by
        intro  σ h
        rw [eJ36] at h
        refine wm_aload_n X 0 dJ6_equals_36 rfl ?_
        refine wm_gR X hS cd_20 0 h dJ6_equals_37 (Nat.le_of_ble_eq_true rfl) rfl q1060 (fun x27 h => ?_)
        refine wm_aload_n X 1 dJ6_equals_40 rfl ?_
        refine wm_gR X hS cd_20 0 h dJ6_equals_41 (Nat.le_of_ble_eq_true rfl) rfl q1060 (fun x28 h => ?_)
        refine wm_cS_i (As := [va_rf x27, va_rf x28]) (st := []) X hS h (fun _ _ hF => ctJ10_equals l hF) mdJ10_equals msJ10_equals q1168 dJ6_equals_44 rfl rfl c1_0 (Nat.le_of_ble_eq_true rfl) ⟨Nat.le_of_ble_eq_true rfl, Nat.le_of_ble_eq_true rfl⟩ ⟨Nat.le_of_ble_eq_true rfl, Nat.le_of_ble_eq_true rfl⟩ (fun x29 σ30 _ h => ?_)
        refine wm_if_eq X 54 h dJ6_equals_47 (by decide) (fun c31 h => ?_) (fun c31 h => ?_)
        · refine wm_iconst (v := 0) X dJ6_equals_54 (by decide) ?_
          exact wm_zret X hr h dJ6_equals_55 (Nat.le_of_ble_eq_true rfl) (Nat.le_of_ble_eq_true rfl)
        · refine wm_iconst (v := 1) X dJ6_equals_50 (by decide) ?_
          refine wm_goto X 55 dJ6_equals_51 (by decide) ?_
          exact wm_zret X hr h dJ6_equals_55 (Nat.le_of_ble_eq_true rfl) (Nat.le_of_ble_eq_true rfl)
      clear eJ36
      refine wm_if_eq X 36 h dJ6_equals_22 (by decide) (fun c35 h => ?_) (fun c35 h => ?_)
      · refine wm_sub (ℓ' := [(0, va_rf (some h0)), (2, va_rf (some q24))]) [1, 0] rfl ?_
        exact hJ36 _ h
      · refine wm_aload_n X 1 dJ6_equals_25 rfl ?_
        refine wm_gI X hS cd_20 1 h dJ6_equals_26 (Nat.le_of_ble_eq_true rfl) rfl q1061 (fun x32 h => ?_)
        refine wm_aload_n X 0 dJ6_equals_29 rfl ?_
        refine wm_gI X hS cd_20 1 h dJ6_equals_30 (Nat.le_of_ble_eq_true rfl) rfl q1061 (fun x33 h => ?_)
        refine wm_icmp_ne X 54 h dJ6_equals_33 (by decide) (fun c34 h => ?_) (fun c34 h => ?_)
        · refine wm_iconst (v := 0) X dJ6_equals_54 (by decide) ?_
          exact wm_zret X hr h dJ6_equals_55 (Nat.le_of_ble_eq_true rfl) (Nat.le_of_ble_eq_true rfl)
        · refine wm_sub (ℓ' := [(0, va_rf (some h0)), (2, va_rf (some q24))]) [1, 0] rfl ?_
          exact hJ36 _ h
theorem mdX3_passes : MD yX3_passes 1 := by unfold MD; decide +kernel
theorem mvX3_passes : MV yX3_passes cX3_passes 2 ((some FieldType.boolean)) := ⟨q1305, q1306, q131, q1307⟩
set_option maxHeartbeats 4000000 in
theorem ctX3_passes (l : Launch) (hl : l.stackTraces = false) {h0 : Nat} {x1 : Option Nat} {σ : Mm} {xo : (Int32 × Mm) ⊕ (Nat × Mm)} {mc ms : Nat} (h : FX3_passes h0 x1 σ = some (xo, mc, ms)) : CTXi l yX3_passes (ws_ yX3_passes cX3_passes 2 ((some FieldType.boolean))) 7 193 mc ms [va_rf (some h0), va_rf x1] σ xo := by
  refine ctx_start (n := 1) mdX3_passes (Nat.le_of_ble_eq_true rfl) (c1_r (c1_r c1_0)) (fun p e s m args below meth c D dA sz0 ad0 X hS hr hnm hno => ?_)
  have X : CX p s m args meth c cX3_passes 2 RX3 := X
  have hC : 0 + mc ≤ mc := Nat.le_of_eq (Nat.zero_add mc)
  have hZ : 0 + ms ≤ ms := Nat.le_of_eq (Nat.zero_add ms)
  generalize mN σ = N0
  unfold FX3_passes at h
  refine wm_aload_n X 0 dX3_passes_0 rfl ?_
  obtain ⟨s21, h⟩ := ck_e h
  refine wm_dV_r (As := []) (st := []) X hS hno cd_3 s21 rfl h hC hZ (fun _ _ _ hF => ctX3_word l hl hF) mdX3_word mvX3_word q1308 dX3_passes_1 rfl rfl c1_0 (Nat.le_of_ble_eq_true rfl) ⟨Nat.le_of_ble_eq_true rfl, Nat.le_of_ble_eq_true rfl⟩ (Nat.le_refl _) (Nat.le_refl _) (fun x22 σ23 c1 z1 C Z _ h hC hZ => ?_)
  refine wm_aload_n X 1 dX3_passes_4 rfl ?_
  obtain ⟨q24, eq24, h⟩ := Option.bind_eq_some_iff.mp h
  obtain ⟨eq24, s25⟩ := rv_some eq24
  refine wm_cV_i (As := [va_rf x1]) (st := []) X hS cd_20 s25 rfl h (fun _ _ hF => ctJ6_equals l hF) mdJ6_equals mvJ6_equals q1309 dX3_passes_5 rfl (by rw [eq24]; first | done | rfl) c1_0 (Nat.le_of_ble_eq_true rfl) ⟨Nat.le_of_ble_eq_true rfl, Nat.le_of_ble_eq_true rfl⟩ ⟨le_p hC, le_p hZ⟩ (fun x26 σ27 _ h => ?_)
  refine wm_if_eq X 13 h dX3_passes_8 (by decide) (fun c30 h => ?_) (fun c30 h => ?_)
  · refine wm_aload_n X 0 dX3_passes_13 rfl ?_
    refine wm_aload_n X 0 dX3_passes_14 rfl ?_
    refine wm_gI X hS cd_3 4 h dX3_passes_15 (Nat.le_of_ble_eq_true rfl) rfl q292 (fun x28 h => ?_)
    refine wm_pI X hS cd_3 3 h dX3_passes_18 (Nat.le_of_ble_eq_true rfl) rfl q290 rfl rfl (fun σ29 _ h => ?_)
    refine wm_iconst (v := 0) X dX3_passes_21 (by decide) ?_
    exact wm_xzret X hr (rZd_e h) dX3_passes_22 (le_p hC) (le_p hZ)
  · refine wm_iconst (v := 1) X dX3_passes_11 (by decide) ?_
    exact wm_xzret X hr (rZd_e h) dX3_passes_12 (le_p hC) (le_p hZ)
theorem mdX3_goesDeeper : MD yX3_goesDeeper 0 := by unfold MD; decide +kernel
theorem mvX3_goesDeeper : MV yX3_goesDeeper cX3_goesDeeper 1 (none) := ⟨q1339, q1340, q131, q1341⟩
set_option maxHeartbeats 4000000 in
theorem ctX3_goesDeeper (l : Launch) (hl : l.stackTraces = false) {h0 : Nat} {σ : Mm} {xo : Mm ⊕ (Nat × Mm)} {mc ms : Nat} (h : FX3_goesDeeper h0 σ = some (xo, mc, ms)) : CTXv l yX3_goesDeeper (ws_ yX3_goesDeeper cX3_goesDeeper 1 (none)) 5 113 mc ms [va_rf (some h0)] σ xo := by
  refine ctx_start (n := 0) mdX3_goesDeeper (Nat.le_of_ble_eq_true rfl) (c1_r c1_0) (fun p e s m args below meth c D dA sz0 ad0 X hS hr hnm hno => ?_)
  have X : CX p s m args meth c cX3_goesDeeper 1 RX3 := X
  have hC : 0 + mc ≤ mc := Nat.le_of_eq (Nat.zero_add mc)
  have hZ : 0 + ms ≤ ms := Nat.le_of_eq (Nat.zero_add ms)
  generalize mN σ = N0
  unfold FX3_goesDeeper at h
  refine wm_aload_n X 0 dX3_goesDeeper_0 rfl ?_
  refine wm_gI X hS cd_3 6 h dX3_goesDeeper_1 (Nat.le_of_ble_eq_true rfl) rfl q296 (fun x21 h => ?_)
  refine wm_bipush (v := 6) X dX3_goesDeeper_4 (by decide) ?_
  refine wm_icmp_ne X 14 h dX3_goesDeeper_6 (by decide) (fun c27 h => ?_) (fun c27 h => ?_)
  · refine wm_aload_n X 0 dX3_goesDeeper_14 rfl ?_
    refine wm_dup X dX3_goesDeeper_15 (catR _) ?_
    refine wm_gI X hS cd_3 6 h dX3_goesDeeper_16 (Nat.le_of_ble_eq_true rfl) rfl q296 (fun x22 h => ?_)
    refine wm_iconst (v := 1) X dX3_goesDeeper_19 (by decide) ?_
    refine wm_iadd X dX3_goesDeeper_20 ?_
    refine wm_pI X hS cd_3 6 h dX3_goesDeeper_21 (Nat.le_of_ble_eq_true rfl) rfl q296 rfl rfl (fun σ23 _ h => ?_)
    exact wm_xvret X hr (rt_e h) dX3_goesDeeper_24 (le_p hC) (le_p hZ)
  · refine wm_aload_n X 0 dX3_goesDeeper_9 rfl ?_
    obtain ⟨s24, h⟩ := ck_e h
    obtain ⟨C, Z, h, hC, hZ⟩ := pay_d h hC hZ
    refine wm_cV_r (As := []) (st := []) X hS cd_3 s24 rfl h (fun _ _ hF => ctX3_wrong l hF) mdX3_wrong mvX3_wrong q1211 dX3_goesDeeper_10 rfl rfl c1_0 (Nat.le_of_ble_eq_true rfl) ⟨Nat.le_of_ble_eq_true rfl, Nat.le_of_ble_eq_true rfl⟩ ⟨le_p hC, le_p hZ⟩ (fun x25 σ26 _ h => ?_)
    exact wm_athrowW X hS hno (thrd_e h) dX3_goesDeeper_13 (le_p hC) (le_p hZ)
theorem mdX12_init : MD yX12_init 1 := by unfold MD; decide +kernel
theorem miX12_init : MI yX12_init cX12_init 2 := ⟨q1317, q159, q1318, rfl⟩
set_option maxHeartbeats 4000000 in
theorem ctX12_init (l : Launch) {h0 : Nat} {x1 : Int32} {σ σf : Mm} (h : FX12_init h0 x1 σ = some σf) : CTv l yX12_init (ws_ yX12_init cX12_init 2 (none)) 4 85 1 3 [va_rf (some h0), .int x1] σ σf := by
  refine ct_start (n := 1) mdX12_init (Nat.le_of_ble_eq_true rfl) (c1_r (c1_i c1_0)) (fun p e s m args below meth c D dA sz0 ad0 X hS hr hnm => ?_)
  have X : CX p s m args meth c cX12_init 2 RX12 := X
  generalize mN σ = N0
  unfold FX12_init at h
  refine wm_aload_n X 0 dX12_init_0 rfl ?_
  refine wm_objInit X dX12_init_1 q1319 q179 q180 (Nat.le_of_ble_eq_true rfl) c1_0 (Nat.le_of_ble_eq_true rfl) (Nat.le_of_ble_eq_true rfl) ?_
  refine wm_aload_n X 0 dX12_init_4 rfl ?_
  refine wm_new X hS cd_17 h dX12_init_5 q1320 q353 q135 (Nat.le_of_ble_eq_true rfl) (Nat.le_of_ble_eq_true rfl) (fun x21 σ22 _ h => ?_)
  refine wm_dup X dX12_init_8 (catR _) ?_
  obtain ⟨q23, eq23, h⟩ := Option.bind_eq_some_iff.mp h
  obtain ⟨eq23, s24⟩ := rv_some eq23
  refine wm_cI_v (As := []) (st := [va_rf x21, va_rf (some h0)]) X hS h (fun _ hF => ctJ3_init l hF) mdJ3_init miJ3_init q1321 dX12_init_9 rfl (by rw [eq23]; first | done | rfl) (c1_r (c1_r c1_0)) (Nat.le_of_ble_eq_true rfl) ⟨Nat.le_of_ble_eq_true rfl, Nat.le_of_ble_eq_true rfl⟩ ⟨Nat.le_of_ble_eq_true rfl, Nat.le_of_ble_eq_true rfl⟩ (fun σ25 _ h => ?_)
  refine wm_pRF X hS cd_12 1 h dX12_init_12 (Nat.le_of_ble_eq_true rfl) rfl q1323 (fun r => by cases r <;> exact ⟨rfl, rfl⟩) rfl hnm rfl (fun σ26 _ h => ?_)
  refine wm_aload_n X 0 dX12_init_15 rfl ?_
  refine wm_iload_n X 1 dX12_init_16 rfl ?_
  refine wm_pZF X hS cd_12 0 h dX12_init_17 (Nat.le_of_ble_eq_true rfl) rfl q1322 rfl rfl hnm rfl (fun σ27 _ h => ?_)
  exact wm_vret X hr h dX12_init_20 (Nat.le_of_ble_eq_true rfl) (Nat.le_of_ble_eq_true rfl)
theorem mdJ0_copyOf_3 : MD yJ0_copyOf_3 3 := by unfold MD; decide +kernel
theorem msJ0_copyOf_3 : MS yJ0_copyOf_3 cJ0_copyOf_3 4 ((some (FieldType.array (FieldType.object "java/lang/Object")))) := ⟨q1471, q130, q1472⟩
set_option maxHeartbeats 4000000 in
theorem ctJ0_copyOf_3 (l : Launch) (hl : l.stackTraces = false) {x0 : Option Nat} {x1 : Int32} {x2 : Option Nat} {σ : Mm} {xo : (Option Nat × Mm) ⊕ (Nat × Mm)} {mc ms : Nat} (h : FJ0_copyOf_3 x0 x1 x2 σ = some (xo, mc, ms)) : CTXr l yJ0_copyOf_3 (ws_ yJ0_copyOf_3 cJ0_copyOf_3 4 ((some (FieldType.array (FieldType.object "java/lang/Object"))))) 1 60 mc ms [va_rf x0, .int x1, va_rf x2] σ xo := by
  refine ctx_start (n := 3) mdJ0_copyOf_3 (Nat.le_of_ble_eq_true rfl) (c1_r (c1_i (c1_r c1_0))) (fun p e s m args below meth c D dA sz0 ad0 X hS hr hnm hno => ?_)
  have X : CX p s m args meth c cJ0_copyOf_3 4 RJ0 := X
  have hC : 0 + mc ≤ mc := Nat.le_of_eq (Nat.zero_add mc)
  have hZ : 0 + ms ≤ ms := Nat.le_of_eq (Nat.zero_add ms)
  generalize mN σ = N0
  unfold FJ0_copyOf_3 at h
  refine wm_aload_n X 2 dJ0_copyOf_3_0 rfl ?_
  refine wm_ldcM X hS dJ0_copyOf_3_1 q1473 ?_
  refine wm_acmpC X 13 h dJ0_copyOf_3_3 (by decide) (fun h => ?_)
  · refine wm_iload_n X 1 dJ0_copyOf_3_6 rfl ?_
    obtain ⟨C, Z, h, hC, hZ⟩ := pay_d h hC hZ
    refine wm_anew X hS h dJ0_copyOf_3_7 q1475 (le_p hC) (le_p hZ) (fun x21 σ22 _ h => ?_)
    refine wm_goto X 24 dJ0_copyOf_3_10 (by decide) ?_
    refine wm_astore_n (ℓ' := [(3, va_rf x21), (0, va_rf x0), (1, .int x1), (2, va_rf x2)]) X dJ0_copyOf_3_24 (by decide) rfl ?_
    refine wm_aload_n X 1 dJ0_copyOf_3_25 rfl ?_
    refine wm_iconst (v := 0) X dJ0_copyOf_3_26 (by decide) ?_
    refine wm_aload_n X 0 dJ0_copyOf_3_27 rfl ?_
    refine wm_iconst (v := 0) X dJ0_copyOf_3_28 (by decide) ?_
    refine wm_aload_n X 1 dJ0_copyOf_3_29 rfl ?_
    refine wm_alenO X hS h dJ0_copyOf_3_30 (fun x23 h => ?_)
    refine wm_iload_n X 2 dJ0_copyOf_3_31 rfl ?_
    refine wm_mmin X dJ0_copyOf_3_32 q812 q622 q146 q623 (Nat.le_of_ble_eq_true rfl) (c1_i (c1_r (c1_i (c1_r c1_0)))) (Nat.le_of_ble_eq_true rfl) (Nat.le_of_ble_eq_true rfl) (le_p hC) (le_p hZ) ?_
    refine wm_copyR X hS h dJ0_copyOf_3_35 q813 q672 q671 q140 (Nat.le_of_ble_eq_true rfl) c1_0 (Nat.le_of_ble_eq_true rfl) (Nat.le_of_ble_eq_true rfl) (fun σ24 _ h => ?_)
    refine wm_aload_n X 0 dJ0_copyOf_3_38 rfl ?_
    exact wm_xaret X hr (Or.inr ⟨_, rfl⟩) (rt_e h) dJ0_copyOf_3_39 (le_p hC) (le_p hZ)
theorem mdJ0_copyOf_2 : MD yJ0_copyOf_2 2 := by unfold MD; decide +kernel
theorem msJ0_copyOf_2 : MS yJ0_copyOf_2 cJ0_copyOf_2 2 ((some (FieldType.array (FieldType.object "java/lang/Object")))) := ⟨q1435, q130, q1436⟩
set_option maxHeartbeats 4000000 in
theorem ctJ0_copyOf_2 (l : Launch) (hl : l.stackTraces = false) {x0 : Option Nat} {x1 : Int32} {σ : Mm} {xo : (Option Nat × Mm) ⊕ (Nat × Mm)} {mc ms : Nat} (h : FJ0_copyOf_2 x0 x1 σ = some (xo, mc, ms)) : CTXr l yJ0_copyOf_2 (ws_ yJ0_copyOf_2 cJ0_copyOf_2 2 ((some (FieldType.array (FieldType.object "java/lang/Object"))))) 2 83 mc ms [va_rf x0, .int x1] σ xo := by
  refine ctx_start (n := 2) mdJ0_copyOf_2 (Nat.le_of_ble_eq_true rfl) (c1_r (c1_i c1_0)) (fun p e s m args below meth c D dA sz0 ad0 X hS hr hnm hno => ?_)
  have X : CX p s m args meth c cJ0_copyOf_2 2 RJ0 := X
  have hC : 0 + mc ≤ mc := Nat.le_of_eq (Nat.zero_add mc)
  have hZ : 0 + ms ≤ ms := Nat.le_of_eq (Nat.zero_add ms)
  generalize mN σ = N0
  unfold FJ0_copyOf_2 at h
  refine wm_aload_n X 0 dJ0_copyOf_2_0 rfl ?_
  refine wm_iload_n X 1 dJ0_copyOf_2_1 rfl ?_
  refine wm_aload_n X 0 dJ0_copyOf_2_2 rfl ?_
  obtain ⟨q21, eq21, h⟩ := Option.bind_eq_some_iff.mp h
  obtain ⟨eq21, s22⟩ := rv_some eq21
  refine wm_eq (st' := [va_rf (some q21), .int x1, va_rf x0]) (by rw [eq21]) ?_
  refine wm_getC X hS s22 dJ0_copyOf_2_3 q1437 (Nat.le_of_ble_eq_true rfl) (c1_i (c1_r c1_0)) (Nat.le_of_ble_eq_true rfl) (Nat.le_of_ble_eq_true rfl) ?_
  refine wm_dS_r (As := [va_rf x0, .int x1, va_rf (some (BIG + 302))]) (st := []) X hS hno h hC hZ (fun _ _ _ hF => ctJ0_copyOf_3 l hl hF) mdJ0_copyOf_3 msJ0_copyOf_3 q1470 dJ0_copyOf_2_6 rfl rfl c1_0 (Nat.le_of_ble_eq_true rfl) ⟨Nat.le_of_ble_eq_true rfl, Nat.le_of_ble_eq_true rfl⟩ (Nat.le_refl _) (Nat.le_refl _) (fun x23 σ24 c1 z1 C Z _ h hC hZ => ?_)
  exact wm_xaret X hr (Or.inr ⟨_, rfl⟩) (rt_e h) dJ0_copyOf_2_9 (le_p hC) (le_p hZ)
theorem mdJ3_grow_2 : MD yJ3_grow_2 1 := by unfold MD; decide +kernel
theorem mvJ3_grow_2 : MV yJ3_grow_2 cJ3_grow_2 4 ((some (FieldType.array (FieldType.object "java/lang/Object")))) := ⟨q1431, qs36, q135, q1432⟩
set_option maxHeartbeats 4000000 in
theorem ctJ3_grow_2 (l : Launch) (hl : l.stackTraces = false) {h0 : Nat} {x1 : Int32} {σ : Mm} {xo : (Option Nat × Mm) ⊕ (Nat × Mm)} {mc ms : Nat} (h : FJ3_grow_2 h0 x1 σ = some (xo, mc, ms)) : CTXr l yJ3_grow_2 (ws_ yJ3_grow_2 cJ3_grow_2 4 ((some (FieldType.array (FieldType.object "java/lang/Object"))))) 3 104 mc ms [va_rf (some h0), .int x1] σ xo := by
  refine ctx_start (n := 1) mdJ3_grow_2 (Nat.le_of_ble_eq_true rfl) (c1_r (c1_i c1_0)) (fun p e s m args below meth c D dA sz0 ad0 X hS hr hnm hno => ?_)
  have X : CX p s m args meth c cJ3_grow_2 4 RJ3 := X
  have hC : 0 + mc ≤ mc := Nat.le_of_eq (Nat.zero_add mc)
  have hZ : 0 + ms ≤ ms := Nat.le_of_eq (Nat.zero_add ms)
  generalize mN σ = N0
  unfold FJ3_grow_2 at h
  refine wm_aload_n X 0 dJ3_grow_2_0 rfl ?_
  refine wm_gR X hS cd_17 1 h dJ3_grow_2_1 (Nat.le_of_ble_eq_true rfl) rfl q366 (fun x21 h => ?_)
  refine wm_alenO X hS h dJ3_grow_2_4 (fun x22 h => ?_)
  refine wm_istore_n (ℓ' := [(2, .int x22), (0, va_rf (some h0)), (1, .int x1)]) X dJ3_grow_2_5 (by decide) rfl ?_
  refine wm_iload_n X 0 dJ3_grow_2_6 rfl ?_
  obtain ⟨J20, eJ20, h⟩ := jn_e h
  have hJ20 : ∀  (σ : Mm) (C Z kc kz : Nat), J20  σ = some (xo, C, Z) → kc + C ≤ mc → kz + Z ≤ ms → WMxr p l e s m args below meth c 3 104 mc ms 4 D dA sz0 ad0 N0 xo kc kz σ [(0, va_rf (some h0)), (1, .int x1), (2, .int x22)] [] 20 := by
    intro  σ C Z kc kz h hC hZ
    rw [eJ20] at h
    refine wm_iload_n X 2 dJ3_grow_2_20 rfl ?_
    refine wm_iload_n X 1 dJ3_grow_2_21 rfl ?_
    refine wm_iload_n X 2 dJ3_grow_2_22 rfl ?_
    refine wm_isub X dJ3_grow_2_23 ?_
    refine wm_iload_n X 2 dJ3_grow_2_24 rfl ?_
    refine wm_iconst (v := 1) X dJ3_grow_2_25 (by decide) ?_
    refine wm_ishr X dJ3_grow_2_26 ?_
    refine wm_cS_i (As := [.int x22, .int (x1 - x22), .int (x22 >>> (1 &&& 31))]) (st := []) X hS h (fun _ _ hF => ctJ8_newLength l hF) mdJ8_newLength msJ8_newLength q1433 dJ3_grow_2_27 rfl rfl c1_0 (Nat.le_of_ble_eq_true rfl) ⟨Nat.le_of_ble_eq_true rfl, Nat.le_of_ble_eq_true rfl⟩ ⟨le_p hC, le_p hZ⟩ (fun x23 σ24 _ h => ?_)
    refine wm_istore_n (ℓ' := [(3, .int x23), (0, va_rf (some h0)), (1, .int x1), (2, .int x22)]) X dJ3_grow_2_30 (by decide) rfl ?_
    refine wm_aload_n X 1 dJ3_grow_2_31 rfl ?_
    refine wm_aload_n X 1 dJ3_grow_2_32 rfl ?_
    refine wm_gR X hS cd_17 1 h dJ3_grow_2_33 (Nat.le_of_ble_eq_true rfl) rfl q366 (fun x25 h => ?_)
    refine wm_iload_n X 0 dJ3_grow_2_36 rfl ?_
    refine wm_dS_r (As := [va_rf x25, .int x23]) (st := [va_rf (some h0)]) X hS hno h hC hZ (fun _ _ _ hF => ctJ0_copyOf_2 l hl hF) mdJ0_copyOf_2 msJ0_copyOf_2 q1434 dJ3_grow_2_37 rfl rfl (c1_r c1_0) (Nat.le_of_ble_eq_true rfl) ⟨Nat.le_of_ble_eq_true rfl, Nat.le_of_ble_eq_true rfl⟩ (Nat.le_refl _) (Nat.le_refl _) (fun x26 σ27 c1 z1 C Z _ h hC hZ => ?_)
    refine wm_dup_x1 X dJ3_grow_2_40 (catR _) (catR _) ?_
    refine wm_pR X hS cd_17 1 h dJ3_grow_2_41 (Nat.le_of_ble_eq_true rfl) rfl q366 (fun r => by cases r <;> exact ⟨rfl, rfl⟩) rfl (fun σ28 _ h => ?_)
    exact wm_xaret X hr (Or.inr ⟨_, rfl⟩) (rt_e h) dJ3_grow_2_44 (le_p hC) (le_p hZ)
  clear eJ20
  refine wm_if_gt X 20 h dJ3_grow_2_7 (by decide) (fun c34 h => ?_) (fun c34 h => ?_)
  · refine wm_sub (ℓ' := [(0, va_rf (some h0)), (1, .int x1), (2, .int x22)]) [1, 2, 0] rfl ?_
    exact hJ20 _ _ _ _ _ h hC hZ
  · refine wm_aload_n X 1 dJ3_grow_2_10 rfl ?_
    refine wm_gR X hS cd_17 1 h dJ3_grow_2_11 (Nat.le_of_ble_eq_true rfl) rfl q366 (fun x29 h => ?_)
    refine wm_gst X hS 9 (BIG + 122) (by decide) (by decide) rfl (Nat.le_add_right _ _) dJ3_grow_2_14 q364 ?_
    refine wm_acmpS X hS 45 h dJ3_grow_2_17 (by decide) (fun h => ?_) (fun h => ?_)
    · refine wm_aload_n X 1 dJ3_grow_2_45 rfl ?_
      refine wm_bipush (v := 10) X dJ3_grow_2_46 (by decide) ?_
      refine wm_iload_n X 2 dJ3_grow_2_48 rfl ?_
      refine wm_mmax X dJ3_grow_2_49 q1476 q795 q146 q796 (Nat.le_of_ble_eq_true rfl) (c1_r c1_0) (Nat.le_of_ble_eq_true rfl) (Nat.le_of_ble_eq_true rfl) (le_p hC) (le_p hZ) ?_
      obtain ⟨C, Z, h, hC, hZ⟩ := pay_d h hC hZ
      refine wm_anew X hS h dJ3_grow_2_52 q1477 (le_p hC) (le_p hZ) (fun x30 σ31 _ h => ?_)
      refine wm_dup_x1 X dJ3_grow_2_55 (catR _) (catR _) ?_
      refine wm_pR X hS cd_17 1 h dJ3_grow_2_56 (Nat.le_of_ble_eq_true rfl) rfl q366 (fun r => by cases r <;> exact ⟨rfl, rfl⟩) rfl (fun σ32 _ h => ?_)
      exact wm_xaret X hr (Or.inr ⟨_, rfl⟩) (rt_e h) dJ3_grow_2_59 (le_p hC) (le_p hZ)
    · refine wm_sub (ℓ' := [(0, va_rf (some h0)), (1, .int x1), (2, .int x22)]) [1, 2, 0] rfl ?_
      exact hJ20 _ _ _ _ _ h hC hZ
theorem mdJ3_grow : MD yJ3_grow 0 := by unfold MD; decide +kernel
theorem mvJ3_grow : MV yJ3_grow cJ3_grow 1 ((some (FieldType.array (FieldType.object "java/lang/Object")))) := ⟨q1427, qs35, q135, q1428⟩
set_option maxHeartbeats 4000000 in
theorem ctJ3_grow (l : Launch) (hl : l.stackTraces = false) {h0 : Nat} {σ : Mm} {xo : (Option Nat × Mm) ⊕ (Nat × Mm)} {mc ms : Nat} (h : FJ3_grow h0 σ = some (xo, mc, ms)) : CTXr l yJ3_grow (ws_ yJ3_grow cJ3_grow 1 ((some (FieldType.array (FieldType.object "java/lang/Object"))))) 4 127 mc ms [va_rf (some h0)] σ xo := by
  refine ctx_start (n := 0) mdJ3_grow (Nat.le_of_ble_eq_true rfl) (c1_r c1_0) (fun p e s m args below meth c D dA sz0 ad0 X hS hr hnm hno => ?_)
  have X : CX p s m args meth c cJ3_grow 1 RJ3 := X
  have hC : 0 + mc ≤ mc := Nat.le_of_eq (Nat.zero_add mc)
  have hZ : 0 + ms ≤ ms := Nat.le_of_eq (Nat.zero_add ms)
  generalize mN σ = N0
  unfold FJ3_grow at h
  refine wm_aload_n X 0 dJ3_grow_0 rfl ?_
  refine wm_aload_n X 0 dJ3_grow_1 rfl ?_
  refine wm_gI X hS cd_17 2 h dJ3_grow_2 (Nat.le_of_ble_eq_true rfl) rfl q367 (fun x21 h => ?_)
  refine wm_iconst (v := 1) X dJ3_grow_5 (by decide) ?_
  refine wm_iadd X dJ3_grow_6 ?_
  obtain ⟨s22, h⟩ := ck_e h
  refine wm_dV_r (As := [.int (x21 + 1)]) (st := []) X hS hno cd_17 s22 rfl h hC hZ (fun _ _ _ hF => ctJ3_grow_2 l hl hF) mdJ3_grow_2 mvJ3_grow_2 q1429 dJ3_grow_7 rfl rfl c1_0 (Nat.le_of_ble_eq_true rfl) ⟨Nat.le_of_ble_eq_true rfl, Nat.le_of_ble_eq_true rfl⟩ (Nat.le_refl _) (Nat.le_refl _) (fun x23 σ24 c1 z1 C Z _ h hC hZ => ?_)
  exact wm_xaret X hr (Or.inr ⟨_, rfl⟩) (rt_e h) dJ3_grow_10 (le_p hC) (le_p hZ)
theorem mdJ3_add_2 : MD yJ3_add_2 3 := by unfold MD; decide +kernel
theorem mvJ3_add_2 : MV yJ3_add_2 cJ3_add_2 4 (none) := ⟨q1423, qs34, q135, q1424⟩
set_option maxHeartbeats 4000000 in
theorem ctJ3_add_2 (l : Launch) (hl : l.stackTraces = false) {h0 : Nat} {x1 : Option Nat} {x2 : Option Nat} {x3 : Int32} {σ : Mm} {xo : Mm ⊕ (Nat × Mm)} {mc ms : Nat} (h : FJ3_add_2 h0 x1 x2 x3 σ = some (xo, mc, ms)) : CTXv l yJ3_add_2 (ws_ yJ3_add_2 cJ3_add_2 4 (none)) 5 147 mc ms [va_rf (some h0), va_rf x1, va_rf x2, .int x3] σ xo := by
  refine ctx_start (n := 3) mdJ3_add_2 (Nat.le_of_ble_eq_true rfl) (c1_r (c1_r (c1_r (c1_i c1_0)))) (fun p e s m args below meth c D dA sz0 ad0 X hS hr hnm hno => ?_)
  have X : CX p s m args meth c cJ3_add_2 4 RJ3 := X
  have hC : 0 + mc ≤ mc := Nat.le_of_eq (Nat.zero_add mc)
  have hZ : 0 + ms ≤ ms := Nat.le_of_eq (Nat.zero_add ms)
  generalize mN σ = N0
  unfold FJ3_add_2 at h
  refine wm_iload_n X 3 dJ3_add_2_0 rfl ?_
  refine wm_aload_n X 2 dJ3_add_2_1 rfl ?_
  refine wm_alenO X hS h dJ3_add_2_2 (fun x21 h => ?_)
  obtain ⟨J11, eJ11, h⟩ := jn_e h
  have hJ11 : ∀ (x22 : Option Nat) (σ : Mm) (C Z kc kz : Nat), J11 x22 σ = some (xo, C, Z) → kc + C ≤ mc → kz + Z ≤ ms → WMxv p l e s m args below meth c 5 147 mc ms 4 D dA sz0 ad0 N0 xo kc kz σ [(0, va_rf (some h0)), (1, va_rf x1), (2, va_rf x22), (3, .int x3)] [] 11 := by
    intro x22 σ C Z kc kz h hC hZ
    rw [eJ11] at h
    refine wm_aload_n X 2 dJ3_add_2_11 rfl ?_
    refine wm_iload_n X 3 dJ3_add_2_12 rfl ?_
    refine wm_aload_n X 1 dJ3_add_2_13 rfl ?_
    refine wm_aastore X hS h dJ3_add_2_14 (fun σ23 _ h => ?_)
    refine wm_aload_n X 0 dJ3_add_2_15 rfl ?_
    refine wm_iload_n X 3 dJ3_add_2_16 rfl ?_
    refine wm_iconst (v := 1) X dJ3_add_2_17 (by decide) ?_
    refine wm_iadd X dJ3_add_2_18 ?_
    refine wm_pI X hS cd_17 2 h dJ3_add_2_19 (Nat.le_of_ble_eq_true rfl) rfl q367 rfl rfl (fun σ24 _ h => ?_)
    exact wm_xvret X hr (rt_e h) dJ3_add_2_22 (le_p hC) (le_p hZ)
  clear eJ11
  refine wm_icmp_ne X 11 h dJ3_add_2_3 (by decide) (fun c28 h => ?_) (fun c28 h => ?_)
  · exact hJ11 _ _ _ _ _ _ h hC hZ
  · refine wm_aload_n X 0 dJ3_add_2_6 rfl ?_
    obtain ⟨s25, h⟩ := ck_e h
    refine wm_dV_r (As := []) (st := []) X hS hno cd_17 s25 rfl h hC hZ (fun _ _ _ hF => ctJ3_grow l hl hF) mdJ3_grow mvJ3_grow q1425 dJ3_add_2_7 rfl rfl c1_0 (Nat.le_of_ble_eq_true rfl) ⟨Nat.le_of_ble_eq_true rfl, Nat.le_of_ble_eq_true rfl⟩ (Nat.le_refl _) (Nat.le_refl _) (fun x26 σ27 c1 z1 C Z _ h hC hZ => ?_)
    refine wm_astore_n (ℓ' := [(2, va_rf x26), (0, va_rf (some h0)), (1, va_rf x1), (3, .int x3)]) X dJ3_add_2_10 (by decide) rfl ?_
    refine wm_sub (ℓ' := [(0, va_rf (some h0)), (1, va_rf x1), (2, va_rf x26), (3, .int x3)]) [1, 2, 0, 3] rfl ?_
    exact hJ11 _ _ _ _ _ _ h hC hZ
theorem mdJ3_add : MD yJ3_add 1 := by unfold MD; decide +kernel
theorem mvJ3_add : MV yJ3_add cJ3_add 2 ((some FieldType.boolean)) := ⟨q1418, q1419, q135, q1420⟩
set_option maxHeartbeats 4000000 in
theorem ctJ3_add (l : Launch) (hl : l.stackTraces = false) {h0 : Nat} {x1 : Option Nat} {σ : Mm} {xo : (Int32 × Mm) ⊕ (Nat × Mm)} {mc ms : Nat} (h : FJ3_add h0 x1 σ = some (xo, mc, ms)) : CTXi l yJ3_add (ws_ yJ3_add cJ3_add 2 ((some FieldType.boolean))) 6 170 mc ms [va_rf (some h0), va_rf x1] σ xo := by
  refine ctx_start (n := 1) mdJ3_add (Nat.le_of_ble_eq_true rfl) (c1_r (c1_r c1_0)) (fun p e s m args below meth c D dA sz0 ad0 X hS hr hnm hno => ?_)
  have X : CX p s m args meth c cJ3_add 2 RJ3 := X
  have hC : 0 + mc ≤ mc := Nat.le_of_eq (Nat.zero_add mc)
  have hZ : 0 + ms ≤ ms := Nat.le_of_eq (Nat.zero_add ms)
  generalize mN σ = N0
  unfold FJ3_add at h
  refine wm_aload_n X 0 dJ3_add_0 rfl ?_
  refine wm_dup X dJ3_add_1 (catR _) ?_
  refine wm_gIA X hS cd_17 0 h dJ3_add_2 (Nat.le_of_ble_eq_true rfl) rfl q369 q370 (fun x21 h => ?_)
  refine wm_iconst (v := 1) X dJ3_add_5 (by decide) ?_
  refine wm_iadd X dJ3_add_6 ?_
  refine wm_pIA X hS cd_17 0 h dJ3_add_7 (Nat.le_of_ble_eq_true rfl) rfl q369 q370 rfl rfl (fun σ22 _ h => ?_)
  refine wm_aload_n X 0 dJ3_add_10 rfl ?_
  refine wm_aload_n X 1 dJ3_add_11 rfl ?_
  refine wm_aload_n X 0 dJ3_add_12 rfl ?_
  refine wm_gR X hS cd_17 1 h dJ3_add_13 (Nat.le_of_ble_eq_true rfl) rfl q366 (fun x23 h => ?_)
  refine wm_aload_n X 0 dJ3_add_16 rfl ?_
  refine wm_gI X hS cd_17 2 h dJ3_add_17 (Nat.le_of_ble_eq_true rfl) rfl q367 (fun x24 h => ?_)
  obtain ⟨s25, h⟩ := ck_e h
  refine wm_dV_v (As := [va_rf x1, va_rf x23, .int x24]) (st := []) X hS hno cd_17 s25 rfl h hC hZ (fun _ _ _ hF => ctJ3_add_2 l hl hF) mdJ3_add_2 mvJ3_add_2 q1421 dJ3_add_20 rfl rfl c1_0 (Nat.le_of_ble_eq_true rfl) ⟨Nat.le_of_ble_eq_true rfl, Nat.le_of_ble_eq_true rfl⟩ (Nat.le_refl _) (Nat.le_refl _) (fun σ26 c1 z1 C Z _ h hC hZ => ?_)
  refine wm_iconst (v := 1) X dJ3_add_23 (by decide) ?_
  exact wm_xzret X hr (rZd_e h) dJ3_add_24 (le_p hC) (le_p hZ)
set_option maxHeartbeats 4000000 in
theorem ctX3_passesk01 (l : Launch) (hl : l.stackTraces = false) {h0 : Nat} {x1 : Option Nat} {σ : Mm} {xo : (Int32 × Mm) ⊕ (Nat × Mm)} {mc ms : Nat} (h : FX3_passesk01 h0 x1 σ = some (xo, mc, ms)) : CTXi l yX3_passes (ws_ yX3_passes cX3_passes 2 ((some FieldType.boolean))) 7 193 mc ms [va_rf (some h0), va_rf x1] σ xo := by
  refine ctx_start (n := 1) mdX3_passes (Nat.le_of_ble_eq_true rfl) (c1_r (c1_r c1_0)) (fun p e s m args below meth c D dA sz0 ad0 X hS hr hnm hno => ?_)
  have X : CX p s m args meth c cX3_passes 2 RX3 := X
  have hC : 0 + mc ≤ mc := Nat.le_of_eq (Nat.zero_add mc)
  have hZ : 0 + ms ≤ ms := Nat.le_of_eq (Nat.zero_add ms)
  generalize mN σ = N0
  unfold FX3_passesk01 at h
  refine wm_aload_n X 0 dX3_passes_0 rfl ?_
  obtain ⟨s21, h⟩ := ck_e h
  refine wm_dV_r (As := []) (st := []) X hS hno cd_3 s21 rfl h hC hZ (fun _ _ _ hF => ctX3_word l hl hF) mdX3_word mvX3_word q1308 dX3_passes_1 rfl rfl c1_0 (Nat.le_of_ble_eq_true rfl) ⟨Nat.le_of_ble_eq_true rfl, Nat.le_of_ble_eq_true rfl⟩ (Nat.le_refl _) (Nat.le_refl _) (fun x22 σ23 c1 z1 C Z _ h hC hZ => ?_)
  refine wm_aload_n X 1 dX3_passes_4 rfl ?_
  obtain ⟨q24, eq24, h⟩ := Option.bind_eq_some_iff.mp h
  obtain ⟨eq24, s25⟩ := rv_some eq24
  refine wm_cV_i (As := [va_rf x1]) (st := []) X hS cd_20 s25 rfl h (fun _ _ hF => ctJ6_equalsk01 l hF) mdJ6_equals mvJ6_equals q1309 dX3_passes_5 rfl (by rw [eq24]; first | done | rfl) c1_0 (Nat.le_of_ble_eq_true rfl) ⟨Nat.le_of_ble_eq_true rfl, Nat.le_of_ble_eq_true rfl⟩ ⟨le_p hC, le_p hZ⟩ (fun x26 σ27 _ h => ?_)
  refine wm_if_eq X 13 h dX3_passes_8 (by decide) (fun c30 h => ?_) (fun c30 h => ?_)
  · refine wm_aload_n X 0 dX3_passes_13 rfl ?_
    refine wm_aload_n X 0 dX3_passes_14 rfl ?_
    refine wm_gI X hS cd_3 4 h dX3_passes_15 (Nat.le_of_ble_eq_true rfl) rfl q292 (fun x28 h => ?_)
    refine wm_pI X hS cd_3 3 h dX3_passes_18 (Nat.le_of_ble_eq_true rfl) rfl q290 rfl rfl (fun σ29 _ h => ?_)
    refine wm_iconst (v := 0) X dX3_passes_21 (by decide) ?_
    exact wm_xzret X hr (rZd_e h) dX3_passes_22 (le_p hC) (le_p hZ)
  · refine wm_iconst (v := 1) X dX3_passes_11 (by decide) ?_
    exact wm_xzret X hr (rZd_e h) dX3_passes_12 (le_p hC) (le_p hZ)
theorem mdX1_atom : MD yX1_atom 0 := by unfold MD; decide +kernel
theorem mvX1_atom : MV yX1_atom cX1_atom 3 ((some (FieldType.object "HungFaces$Cond"))) := ⟨q1336, qs31, q128, q1337⟩
theorem mdX1_allOf : MD yX1_allOf 0 := by unfold MD; decide +kernel
theorem mvX1_allOf : MV yX1_allOf cX1_allOf 2 ((some (FieldType.object "HungFaces$Cond"))) := ⟨q1332, qs30, q128, q1333⟩
set_option maxHeartbeats 4000000 in
theorem wX1_allOf_9 {p : Program} {l : Launch} {e : Env} {s : State} {m : MethodId} {args : Array Value} {below : List Frame} {meth : Method} {c : Code} {D : va_G} {dA : Nat → ClassId} {sz0 : Nat} {ad0 : Nat → Nat} {N0 : Nat} {xo : (Option Nat × Mm) ⊕ (Nat × Mm)} {mc ms : Nat} (X : CX p s m args meth c cX1_allOf 2 RX1) (hS : ST D dA sz0 ad0 s) (hr : meth.sig.returnType = (some (FieldType.object "HungFaces$Cond"))) (hnm : meth.name = yX1_allOf.name) (hl : l.stackTraces = false) (hno : ∀ x ∈ c.exceptionTable.toList, False) {fr0 lo0 : Nat} (Rf : Nat → Mm → DX (Option Nat × Mm)) (hRf : ∀ (h0 : Nat) (σ : Mm) (xo : (Option Nat × Mm) ⊕ (Nat × Mm)) (mc ms : Nat), Rf h0 σ = some (xo, mc, ms) → CTXr l yX1_atom (ws_ yX1_atom cX1_atom 3 ((some (FieldType.object "HungFaces$Cond")))) fr0 lo0 mc ms [va_rf (some h0)] σ xo) (h0 : Nat) (y1 : Option Nat) : ∀ (n : Nat)  (σ : Mm) (kx34 : Mm → DX (Option Nat × Mm)) (C Z kc kz : Nat), RX1_allOf_9 Rf h0 y1 n σ kx34 = some (xo, C, Z) → kc + C ≤ mc → kz + Z ≤ ms → (∀  (σ : Mm) (C Z kc kz : Nat), kx34 σ = some (xo, C, Z) → kc + C ≤ mc → kz + Z ≤ ms → WMxr p l e s m args below meth c (fr0 + 8) (lo0 + 214) mc ms 2 D dA sz0 ad0 N0 xo kc kz σ [(1, va_rf y1)] [] 34) → WMxr p l e s m args below meth c (fr0 + 8) (lo0 + 214) mc ms 2 D dA sz0 ad0 N0 xo kc kz σ [(0, va_rf (some h0)), (1, va_rf y1)] [] 9 := by
  intro n
  induction n with
  | zero =>
    intro σ kx34 C Z kc kz h hC hZ hkx34
    cases h
  | succ n ih =>
    intro σ kx34 C Z kc kz h hC hZ hkx34
    rw [RX1_allOf_9] at h
    refine wm_aload_n X 1 dX1_allOf_9 rfl ?_
    refine wm_gRN X hS cd_12 1 h dX1_allOf_10 (Nat.le_of_ble_eq_true rfl) rfl 43 rfl (fun x26 h => ?_)
    refine wm_aload_n X 0 dX1_allOf_13 rfl ?_
    obtain ⟨s27, h⟩ := ck_e h
    refine wm_dV_r (As := []) (st := [va_rf x26]) X hS hno cd_1 s27 rfl h hC hZ (fun _ _ _ hF => hRf _ _ _ _ _ hF) mdX1_atom mvX1_atom q1334 dX1_allOf_14 rfl rfl (c1_r c1_0) (Nat.le_of_ble_eq_true rfl) ⟨rmf (by omega), rml (by omega)⟩ (Nat.le_refl _) (Nat.le_refl _) (fun x28 σ29 c1 z1 C Z _ h hC hZ => ?_)
    obtain ⟨q30, eq30, h⟩ := Option.bind_eq_some_iff.mp h
    obtain ⟨eq30, s31⟩ := rv_some eq30
    refine wm_dV_i (As := [va_rf x28]) (st := []) X hS hno cd_17 s31 rfl h hC hZ (fun _ _ _ hF => ctJ3_add l hl hF) mdJ3_add mvJ3_add q1417 dX1_allOf_17 rfl (by rw [eq30]; first | done | rfl) c1_0 (Nat.le_of_ble_eq_true rfl) ⟨Nat.le_of_ble_eq_true rfl, Nat.le_of_ble_eq_true rfl⟩ (Nat.le_refl _) (Nat.le_refl _) (fun x32 σ33 c1 z1 C Z _ h hC hZ => ?_)
    refine wm_pop X dX1_allOf_20 rfl ?_
    refine wm_aload_n X 0 dX1_allOf_21 rfl ?_
    refine wm_gR X hS cd_1 4 h dX1_allOf_22 (Nat.le_of_ble_eq_true rfl) rfl q441 (fun x34 h => ?_)
    refine wm_ldcSW X hS 12 12 rfl dX1_allOf_25 ?_
    obtain ⟨q35, eq35, h⟩ := Option.bind_eq_some_iff.mp h
    obtain ⟨eq35, s36⟩ := rv_some eq35
    refine wm_dV_i (As := [va_rf (some (BIG + 2 * 12))]) (st := []) X hS hno cd_3 s36 rfl h hC hZ (fun _ _ _ hF => ctX3_passesk01 l hl hF) mdX3_passes mvX3_passes q1304 dX1_allOf_28 rfl (by rw [eq35]; first | done | rfl) c1_0 (Nat.le_of_ble_eq_true rfl) ⟨Nat.le_of_ble_eq_true rfl, Nat.le_of_ble_eq_true rfl⟩ (Nat.le_refl _) (Nat.le_refl _) (fun x37 σ38 c1 z1 C Z _ h hC hZ => ?_)
    refine wm_if_ne X 9 h dX1_allOf_31 (by decide) (fun c39 h => ?_) (fun c39 h => ?_)
    · exact ih _ _ _ _ _ _ h hC hZ hkx34
    · refine wm_sub (ℓ' := [(1, va_rf y1)]) [1] rfl ?_
      exact hkx34 _ _ _ _ _ h hC hZ
set_option maxHeartbeats 4000000 in
theorem crX1_allOf (l : Launch) (hl : l.stackTraces = false) {fr0 lo0 : Nat} (Rf : Nat → Mm → DX (Option Nat × Mm)) (hRf : ∀ (h0 : Nat) (σ : Mm) (xo : (Option Nat × Mm) ⊕ (Nat × Mm)) (mc ms : Nat), Rf h0 σ = some (xo, mc, ms) → CTXr l yX1_atom (ws_ yX1_atom cX1_atom 3 ((some (FieldType.object "HungFaces$Cond")))) fr0 lo0 mc ms [va_rf (some h0)] σ xo) {h0 : Nat} {σ : Mm} {xo : (Option Nat × Mm) ⊕ (Nat × Mm)} {mc ms : Nat} (h : RX1_allOf Rf h0 σ = some (xo, mc, ms)) : CTXr l yX1_allOf (ws_ yX1_allOf cX1_allOf 2 ((some (FieldType.object "HungFaces$Cond")))) (fr0 + 8) (lo0 + 214) mc ms [va_rf (some h0)] σ xo := by
  refine ctx_start (n := 0) mdX1_allOf (Nat.le_of_ble_eq_true rfl) (c1_r c1_0) (fun p e s m args below meth c D dA sz0 ad0 X hS hr hnm hno => ?_)
  have X : CX p s m args meth c cX1_allOf 2 RX1 := X
  have hC : 0 + mc ≤ mc := Nat.le_of_eq (Nat.zero_add mc)
  have hZ : 0 + ms ≤ ms := Nat.le_of_eq (Nat.zero_add ms)
  generalize mN σ = N0
  unfold RX1_allOf at h
  obtain ⟨C, Z, h, hC, hZ⟩ := pay_d h hC hZ
  refine wm_new X hS cd_12 h dX1_allOf_0 q1314 q1315 q159 (le_p hC) (le_p hZ) (fun x21 σ22 _ h => ?_)
  refine wm_dup X dX1_allOf_3 (catR _) ?_
  refine wm_iconst (v := 1) X dX1_allOf_4 (by decide) ?_
  obtain ⟨q23, eq23, h⟩ := Option.bind_eq_some_iff.mp h
  obtain ⟨eq23, s24⟩ := rv_some eq23
  obtain ⟨C, Z, h, hC, hZ⟩ := pay_d h hC hZ
  refine wm_cI_v (As := [.int 1]) (st := [va_rf x21]) X hS h (fun _ hF => ctX12_init l hF) mdX12_init miX12_init q1316 dX1_allOf_5 rfl (by rw [eq23]; first | done | rfl) (c1_r c1_0) (Nat.le_of_ble_eq_true rfl) ⟨Nat.le_of_ble_eq_true rfl, Nat.le_of_ble_eq_true rfl⟩ ⟨le_p hC, le_p hZ⟩ (fun σ25 _ h => ?_)
  refine wm_astore_n (ℓ' := [(1, va_rf x21), (0, va_rf (some h0))]) X dX1_allOf_8 (by decide) rfl ?_
  refine wm_sub (ℓ' := [(0, va_rf (some h0)), (1, va_rf x21)]) [1, 0] rfl ?_
  refine wX1_allOf_9 X hS hr hnm hl hno Rf hRf _ _ fu _ _ _ _ _ _ h hC hZ (fun σ C Z kc kz h hC hZ => ?_)
  · refine wm_aload_n X 0 dX1_allOf_34 rfl ?_
    exact wm_xaret X hr (Or.inl ⟨_, rfl⟩) (rt_e h) dX1_allOf_35 (le_p hC) (le_p hZ)
theorem mdX1_cond : MD yX1_cond 0 := by unfold MD; decide +kernel
theorem mvX1_cond : MV yX1_cond cX1_cond 2 ((some (FieldType.object "HungFaces$Cond"))) := ⟨q1312, qs29, q128, q1313⟩
set_option maxHeartbeats 4000000 in
theorem wX1_cond_9 {p : Program} {l : Launch} {e : Env} {s : State} {m : MethodId} {args : Array Value} {below : List Frame} {meth : Method} {c : Code} {D : va_G} {dA : Nat → ClassId} {sz0 : Nat} {ad0 : Nat → Nat} {N0 : Nat} {xo : (Option Nat × Mm) ⊕ (Nat × Mm)} {mc ms : Nat} (X : CX p s m args meth c cX1_cond 2 RX1) (hS : ST D dA sz0 ad0 s) (hr : meth.sig.returnType = (some (FieldType.object "HungFaces$Cond"))) (hnm : meth.name = yX1_cond.name) (hl : l.stackTraces = false) (hno : ∀ x ∈ c.exceptionTable.toList, False) {fr0 lo0 : Nat} (Rf : Nat → Mm → DX (Option Nat × Mm)) (hRf : ∀ (h0 : Nat) (σ : Mm) (xo : (Option Nat × Mm) ⊕ (Nat × Mm)) (mc ms : Nat), Rf h0 σ = some (xo, mc, ms) → CTXr l yX1_atom (ws_ yX1_atom cX1_atom 3 ((some (FieldType.object "HungFaces$Cond")))) fr0 lo0 mc ms [va_rf (some h0)] σ xo) (h0 : Nat) (y1 : Option Nat) : ∀ (n : Nat)  (σ : Mm) (kx34 : Mm → DX (Option Nat × Mm)) (C Z kc kz : Nat), RX1_cond_9 Rf h0 y1 n σ kx34 = some (xo, C, Z) → kc + C ≤ mc → kz + Z ≤ ms → (∀  (σ : Mm) (C Z kc kz : Nat), kx34 σ = some (xo, C, Z) → kc + C ≤ mc → kz + Z ≤ ms → WMxr p l e s m args below meth c (fr0 + 9) (lo0 + 235) mc ms 2 D dA sz0 ad0 N0 xo kc kz σ [(1, va_rf y1)] [] 34) → WMxr p l e s m args below meth c (fr0 + 9) (lo0 + 235) mc ms 2 D dA sz0 ad0 N0 xo kc kz σ [(0, va_rf (some h0)), (1, va_rf y1)] [] 9 := by
  intro n
  induction n with
  | zero =>
    intro σ kx34 C Z kc kz h hC hZ hkx34
    cases h
  | succ n ih =>
    intro σ kx34 C Z kc kz h hC hZ hkx34
    rw [RX1_cond_9] at h
    refine wm_aload_n X 1 dX1_cond_9 rfl ?_
    refine wm_gRN X hS cd_12 1 h dX1_cond_10 (Nat.le_of_ble_eq_true rfl) rfl 43 rfl (fun x26 h => ?_)
    refine wm_aload_n X 0 dX1_cond_13 rfl ?_
    obtain ⟨s27, h⟩ := ck_e h
    refine wm_dV_r (As := []) (st := [va_rf x26]) X hS hno cd_1 s27 rfl h hC hZ (fun _ _ _ hF => crX1_allOf l hl Rf hRf hF) mdX1_allOf mvX1_allOf q1330 dX1_cond_14 rfl rfl (c1_r c1_0) (Nat.le_of_ble_eq_true rfl) ⟨rmf (by omega), rml (by omega)⟩ (Nat.le_refl _) (Nat.le_refl _) (fun x28 σ29 c1 z1 C Z _ h hC hZ => ?_)
    obtain ⟨q30, eq30, h⟩ := Option.bind_eq_some_iff.mp h
    obtain ⟨eq30, s31⟩ := rv_some eq30
    refine wm_dV_i (As := [va_rf x28]) (st := []) X hS hno cd_17 s31 rfl h hC hZ (fun _ _ _ hF => ctJ3_add l hl hF) mdJ3_add mvJ3_add q1417 dX1_cond_17 rfl (by rw [eq30]; first | done | rfl) c1_0 (Nat.le_of_ble_eq_true rfl) ⟨Nat.le_of_ble_eq_true rfl, Nat.le_of_ble_eq_true rfl⟩ (Nat.le_refl _) (Nat.le_refl _) (fun x32 σ33 c1 z1 C Z _ h hC hZ => ?_)
    refine wm_pop X dX1_cond_20 rfl ?_
    refine wm_aload_n X 0 dX1_cond_21 rfl ?_
    refine wm_gR X hS cd_1 4 h dX1_cond_22 (Nat.le_of_ble_eq_true rfl) rfl q441 (fun x34 h => ?_)
    refine wm_ldcSW X hS 13 13 rfl dX1_cond_25 ?_
    obtain ⟨q35, eq35, h⟩ := Option.bind_eq_some_iff.mp h
    obtain ⟨eq35, s36⟩ := rv_some eq35
    refine wm_dV_i (As := [va_rf (some (BIG + 2 * 13))]) (st := []) X hS hno cd_3 s36 rfl h hC hZ (fun _ _ _ hF => ctX3_passesk01 l hl hF) mdX3_passes mvX3_passes q1304 dX1_cond_28 rfl (by rw [eq35]; first | done | rfl) c1_0 (Nat.le_of_ble_eq_true rfl) ⟨Nat.le_of_ble_eq_true rfl, Nat.le_of_ble_eq_true rfl⟩ (Nat.le_refl _) (Nat.le_refl _) (fun x37 σ38 c1 z1 C Z _ h hC hZ => ?_)
    refine wm_if_ne X 9 h dX1_cond_31 (by decide) (fun c39 h => ?_) (fun c39 h => ?_)
    · exact ih _ _ _ _ _ _ h hC hZ hkx34
    · refine wm_sub (ℓ' := [(1, va_rf y1)]) [1] rfl ?_
      exact hkx34 _ _ _ _ _ h hC hZ
set_option maxHeartbeats 4000000 in
theorem crX1_cond (l : Launch) (hl : l.stackTraces = false) {fr0 lo0 : Nat} (Rf : Nat → Mm → DX (Option Nat × Mm)) (hRf : ∀ (h0 : Nat) (σ : Mm) (xo : (Option Nat × Mm) ⊕ (Nat × Mm)) (mc ms : Nat), Rf h0 σ = some (xo, mc, ms) → CTXr l yX1_atom (ws_ yX1_atom cX1_atom 3 ((some (FieldType.object "HungFaces$Cond")))) fr0 lo0 mc ms [va_rf (some h0)] σ xo) {h0 : Nat} {σ : Mm} {xo : (Option Nat × Mm) ⊕ (Nat × Mm)} {mc ms : Nat} (h : RX1_cond Rf h0 σ = some (xo, mc, ms)) : CTXr l yX1_cond (ws_ yX1_cond cX1_cond 2 ((some (FieldType.object "HungFaces$Cond")))) (fr0 + 9) (lo0 + 235) mc ms [va_rf (some h0)] σ xo := by
  refine ctx_start (n := 0) mdX1_cond (Nat.le_of_ble_eq_true rfl) (c1_r c1_0) (fun p e s m args below meth c D dA sz0 ad0 X hS hr hnm hno => ?_)
  have X : CX p s m args meth c cX1_cond 2 RX1 := X
  have hC : 0 + mc ≤ mc := Nat.le_of_eq (Nat.zero_add mc)
  have hZ : 0 + ms ≤ ms := Nat.le_of_eq (Nat.zero_add ms)
  generalize mN σ = N0
  unfold RX1_cond at h
  obtain ⟨C, Z, h, hC, hZ⟩ := pay_d h hC hZ
  refine wm_new X hS cd_12 h dX1_cond_0 q1314 q1315 q159 (le_p hC) (le_p hZ) (fun x21 σ22 _ h => ?_)
  refine wm_dup X dX1_cond_3 (catR _) ?_
  refine wm_iconst (v := 0) X dX1_cond_4 (by decide) ?_
  obtain ⟨q23, eq23, h⟩ := Option.bind_eq_some_iff.mp h
  obtain ⟨eq23, s24⟩ := rv_some eq23
  obtain ⟨C, Z, h, hC, hZ⟩ := pay_d h hC hZ
  refine wm_cI_v (As := [.int 0]) (st := [va_rf x21]) X hS h (fun _ hF => ctX12_init l hF) mdX12_init miX12_init q1316 dX1_cond_5 rfl (by rw [eq23]; first | done | rfl) (c1_r c1_0) (Nat.le_of_ble_eq_true rfl) ⟨Nat.le_of_ble_eq_true rfl, Nat.le_of_ble_eq_true rfl⟩ ⟨le_p hC, le_p hZ⟩ (fun σ25 _ h => ?_)
  refine wm_astore_n (ℓ' := [(1, va_rf x21), (0, va_rf (some h0))]) X dX1_cond_8 (by decide) rfl ?_
  refine wm_sub (ℓ' := [(0, va_rf (some h0)), (1, va_rf x21)]) [1, 0] rfl ?_
  refine wX1_cond_9 X hS hr hnm hl hno Rf hRf _ _ fu _ _ _ _ _ _ h hC hZ (fun σ C Z kc kz h hC hZ => ?_)
  · refine wm_aload_n X 0 dX1_cond_34 rfl ?_
    exact wm_xaret X hr (Or.inl ⟨_, rfl⟩) (rt_e h) dX1_cond_35 (le_p hC) (le_p hZ)
theorem mdX3_comesUp : MD yX3_comesUp 0 := by unfold MD; decide +kernel
theorem mvX3_comesUp : MV yX3_comesUp cX3_comesUp 1 (none) := ⟨q1343, q1344, q131, q1345⟩
set_option maxHeartbeats 4000000 in
theorem ctX3_comesUp (l : Launch) {h0 : Nat} {σ σf : Mm} (h : FX3_comesUp h0 σ = some σf) : CTv l yX3_comesUp (ws_ yX3_comesUp cX3_comesUp 1 (none)) 0 0 0 0 [va_rf (some h0)] σ σf := by
  refine ct_start (n := 0) mdX3_comesUp (Nat.le_of_ble_eq_true rfl) (c1_r c1_0) (fun p e s m args below meth c D dA sz0 ad0 X hS hr hnm => ?_)
  have X : CX p s m args meth c cX3_comesUp 1 RX3 := X
  generalize mN σ = N0
  unfold FX3_comesUp at h
  refine wm_aload_n X 0 dX3_comesUp_0 rfl ?_
  refine wm_dup X dX3_comesUp_1 (catR _) ?_
  refine wm_gI X hS cd_3 6 h dX3_comesUp_2 (Nat.le_of_ble_eq_true rfl) rfl q296 (fun x21 h => ?_)
  refine wm_iconst (v := 1) X dX3_comesUp_5 (by decide) ?_
  refine wm_isub X dX3_comesUp_6 ?_
  refine wm_pI X hS cd_3 6 h dX3_comesUp_7 (Nat.le_of_ble_eq_true rfl) rfl q296 rfl rfl (fun σ22 _ h => ?_)
  exact wm_vret X hr h dX3_comesUp_10 (Nat.le_of_ble_eq_true rfl) (Nat.le_of_ble_eq_true rfl)
theorem mdX13_init : MD yX13_init 1 := by unfold MD; decide +kernel
theorem miX13_init : MI yX13_init cX13_init 2 := ⟨q1350, q160, q1351, rfl⟩
set_option maxHeartbeats 4000000 in
theorem ctX13_init (l : Launch) {h0 : Nat} {x1 : Option Nat} {σ σf : Mm} (h : FX13_init h0 x1 σ = some σf) : CTv l yX13_init (ws_ yX13_init cX13_init 2 (none)) 1 25 0 0 [va_rf (some h0), va_rf x1] σ σf := by
  refine ct_start (n := 1) mdX13_init (Nat.le_of_ble_eq_true rfl) (c1_r (c1_r c1_0)) (fun p e s m args below meth c D dA sz0 ad0 X hS hr hnm => ?_)
  have X : CX p s m args meth c cX13_init 2 RX13 := X
  generalize mN σ = N0
  unfold FX13_init at h
  refine wm_aload_n X 0 dX13_init_0 rfl ?_
  refine wm_objInit X dX13_init_1 q1352 q179 q180 (Nat.le_of_ble_eq_true rfl) c1_0 (Nat.le_of_ble_eq_true rfl) (Nat.le_of_ble_eq_true rfl) ?_
  refine wm_aload_n X 0 dX13_init_4 rfl ?_
  refine wm_aload_n X 1 dX13_init_5 rfl ?_
  refine wm_pRF X hS cd_13 0 h dX13_init_6 (Nat.le_of_ble_eq_true rfl) rfl q1353 (fun r => by cases r <;> exact ⟨rfl, rfl⟩) rfl hnm rfl (fun σ21 _ h => ?_)
  exact wm_vret X hr h dX13_init_9 (Nat.le_of_ble_eq_true rfl) (Nat.le_of_ble_eq_true rfl)
theorem mdX14_init : MD yX14_init 1 := by unfold MD; decide +kernel
theorem miX14_init : MI yX14_init cX14_init 2 := ⟨q1361, q161, q1362, rfl⟩
set_option maxHeartbeats 4000000 in
theorem ctX14_init (l : Launch) {h0 : Nat} {x1 : Int32} {σ σf : Mm} (h : FX14_init h0 x1 σ = some σf) : CTv l yX14_init (ws_ yX14_init cX14_init 2 (none)) 1 25 0 0 [va_rf (some h0), .int x1] σ σf := by
  refine ct_start (n := 1) mdX14_init (Nat.le_of_ble_eq_true rfl) (c1_r (c1_i c1_0)) (fun p e s m args below meth c D dA sz0 ad0 X hS hr hnm => ?_)
  have X : CX p s m args meth c cX14_init 2 RX14 := X
  generalize mN σ = N0
  unfold FX14_init at h
  refine wm_aload_n X 0 dX14_init_0 rfl ?_
  refine wm_objInit X dX14_init_1 q1363 q179 q180 (Nat.le_of_ble_eq_true rfl) c1_0 (Nat.le_of_ble_eq_true rfl) (Nat.le_of_ble_eq_true rfl) ?_
  refine wm_aload_n X 0 dX14_init_4 rfl ?_
  refine wm_iload_n X 1 dX14_init_5 rfl ?_
  refine wm_pZF X hS cd_14 0 h dX14_init_6 (Nat.le_of_ble_eq_true rfl) rfl q1364 rfl rfl hnm rfl (fun σ21 _ h => ?_)
  exact wm_vret X hr h dX14_init_9 (Nat.le_of_ble_eq_true rfl) (Nat.le_of_ble_eq_true rfl)
theorem mdX15_init : MD yX15_init 0 := by unfold MD; decide +kernel
theorem miX15_init : MI yX15_init cX15_init 1 := ⟨q1375, q162, q1376, rfl⟩
set_option maxHeartbeats 4000000 in
theorem ctX15_init (l : Launch) {h0 : Nat} {σ σf : Mm} (h : FX15_init h0 σ = some σf) : CTv l yX15_init (ws_ yX15_init cX15_init 1 (none)) 4 85 1 3 [va_rf (some h0)] σ σf := by
  refine ct_start (n := 0) mdX15_init (Nat.le_of_ble_eq_true rfl) (c1_r c1_0) (fun p e s m args below meth c D dA sz0 ad0 X hS hr hnm => ?_)
  have X : CX p s m args meth c cX15_init 1 RX15 := X
  generalize mN σ = N0
  unfold FX15_init at h
  refine wm_aload_n X 0 dX15_init_0 rfl ?_
  refine wm_objInit X dX15_init_1 q1377 q179 q180 (Nat.le_of_ble_eq_true rfl) c1_0 (Nat.le_of_ble_eq_true rfl) (Nat.le_of_ble_eq_true rfl) ?_
  refine wm_aload_n X 0 dX15_init_4 rfl ?_
  refine wm_new X hS cd_17 h dX15_init_5 q1378 q353 q135 (Nat.le_of_ble_eq_true rfl) (Nat.le_of_ble_eq_true rfl) (fun x21 σ22 _ h => ?_)
  refine wm_dup X dX15_init_8 (catR _) ?_
  obtain ⟨q23, eq23, h⟩ := Option.bind_eq_some_iff.mp h
  obtain ⟨eq23, s24⟩ := rv_some eq23
  refine wm_cI_v (As := []) (st := [va_rf x21, va_rf (some h0)]) X hS h (fun _ hF => ctJ3_init l hF) mdJ3_init miJ3_init q1379 dX15_init_9 rfl (by rw [eq23]; first | done | rfl) (c1_r (c1_r c1_0)) (Nat.le_of_ble_eq_true rfl) ⟨Nat.le_of_ble_eq_true rfl, Nat.le_of_ble_eq_true rfl⟩ ⟨Nat.le_of_ble_eq_true rfl, Nat.le_of_ble_eq_true rfl⟩ (fun σ25 _ h => ?_)
  refine wm_pRF X hS cd_15 0 h dX15_init_12 (Nat.le_of_ble_eq_true rfl) rfl q1380 (fun r => by cases r <;> exact ⟨rfl, rfl⟩) rfl hnm rfl (fun σ26 _ h => ?_)
  exact wm_vret X hr h dX15_init_15 (Nat.le_of_ble_eq_true rfl) (Nat.le_of_ble_eq_true rfl)
theorem mdX16_init : MD yX16_init 2 := by unfold MD; decide +kernel
theorem miX16_init : MI yX16_init cX16_init 3 := ⟨q1392, q163, q1393, rfl⟩
set_option maxHeartbeats 4000000 in
theorem ctX16_init (l : Launch) {h0 : Nat} {x1 : Int32} {x2 : Option Nat} {σ σf : Mm} (h : FX16_init h0 x1 x2 σ = some σf) : CTv l yX16_init (ws_ yX16_init cX16_init 3 (none)) 1 25 0 0 [va_rf (some h0), .int x1, va_rf x2] σ σf := by
  refine ct_start (n := 2) mdX16_init (Nat.le_of_ble_eq_true rfl) (c1_r (c1_i (c1_r c1_0))) (fun p e s m args below meth c D dA sz0 ad0 X hS hr hnm => ?_)
  have X : CX p s m args meth c cX16_init 3 RX16 := X
  generalize mN σ = N0
  unfold FX16_init at h
  refine wm_aload_n X 0 dX16_init_0 rfl ?_
  refine wm_objInit X dX16_init_1 q1394 q179 q180 (Nat.le_of_ble_eq_true rfl) c1_0 (Nat.le_of_ble_eq_true rfl) (Nat.le_of_ble_eq_true rfl) ?_
  refine wm_aload_n X 0 dX16_init_4 rfl ?_
  refine wm_iload_n X 1 dX16_init_5 rfl ?_
  refine wm_pIF X hS cd_16 0 h dX16_init_6 (Nat.le_of_ble_eq_true rfl) rfl q1395 rfl rfl hnm rfl (fun σ21 _ h => ?_)
  refine wm_aload_n X 0 dX16_init_9 rfl ?_
  refine wm_aload_n X 2 dX16_init_10 rfl ?_
  refine wm_pRF X hS cd_16 1 h dX16_init_11 (Nat.le_of_ble_eq_true rfl) rfl q1396 (fun r => by cases r <;> exact ⟨rfl, rfl⟩) rfl hnm rfl (fun σ22 _ h => ?_)
  exact wm_vret X hr h dX16_init_14 (Nat.le_of_ble_eq_true rfl) (Nat.le_of_ble_eq_true rfl)
theorem mdX17_values : MD yX17_values 0 := by unfold MD; decide +kernel
theorem msX17_values : MS yX17_values cX17_values 0 ((some (FieldType.array (FieldType.object "HungFaces$Fact")))) := ⟨q1406, q165, q1407⟩
set_option maxHeartbeats 4000000 in
theorem ctX17_values (l : Launch) (hl : l.stackTraces = false)  {σ : Mm} {xo : (Option Nat × Mm) ⊕ (Nat × Mm)} {mc ms : Nat} (h : FX17_values  σ = some (xo, mc, ms)) : CTXr l yX17_values (ws_ yX17_values cX17_values 0 ((some (FieldType.array (FieldType.object "HungFaces$Fact"))))) 1 60 mc ms [] σ xo := by
  refine ctx_start (n := 0) mdX17_values (Nat.le_of_ble_eq_true rfl) c1_0 (fun p e s m args below meth c D dA sz0 ad0 X hS hr hnm hno => ?_)
  have X : CX p s m args meth c cX17_values 0 RX17 := X
  have hC : 0 + mc ≤ mc := Nat.le_of_eq (Nat.zero_add mc)
  have hZ : 0 + ms ≤ ms := Nat.le_of_eq (Nat.zero_add ms)
  generalize mN σ = N0
  unfold FX17_values at h
  refine wm_gst X hS 8 (BIG + 120) (by decide) (by decide) rfl (Nat.le_add_right _ _) dX17_values_0 q1408 ?_
  obtain ⟨C, Z, h, hC, hZ⟩ := pay_d h hC hZ
  refine wm_cloneF X hS h dX17_values_3 q1410 (Nat.le_of_ble_eq_true rfl) c1_0 (Nat.le_of_ble_eq_true rfl) (Nat.le_of_ble_eq_true rfl) (le_p hC) (le_p hZ) (fun x21 σ22 _ h => ?_)
  refine wm_castF X hS h dX17_values_6 q1415 (fun q23 e24 s25 h => ?_)
  exact wm_xaret X hr (Or.inr ⟨_, rfl⟩) (rt_e h) dX17_values_9 (le_p hC) (le_p hZ)
set_option maxHeartbeats 4000000 in
theorem wJ10_equalsk10_9 {p : Program} {l : Launch} {e : Env} {s : State} {m : MethodId} {args : Array Value} {below : List Frame} {meth : Method} {c : Code} {D : va_G} {dA : Nat → ClassId} {sz0 : Nat} {ad0 : Nat → Nat} {N0 : Nat} {r : Int32} {σf : Mm} (X : CX p s m args meth c cJ10_equals 3 RJ10) (hS : ST D dA sz0 ad0 s) (hr : meth.sig.returnType = (some FieldType.boolean)) (hnm : meth.name = yJ10_equals.name) (y0 : Option Nat) (y1 : Option Nat) : ∀ (n : Nat) (v2 : Int32) (σ : Mm) (kx32 : Mm → Option (Int32 × Mm)) (kx24 : Mm → Option (Int32 × Mm)), FJ10_equalsk10_9 y0 y1 n v2 σ kx32 kx24 = some (r, σf) → (∀  (σ : Mm), kx32 σ = some (r, σf) → WMi p l e s m args below meth c 0 0 0 0 3 D dA sz0 ad0 N0 r σf 0 0 σ [] [] 32) → (∀  (σ : Mm), kx24 σ = some (r, σf) → WMi p l e s m args below meth c 0 0 0 0 3 D dA sz0 ad0 N0 r σf 0 0 σ [] [] 24) → WMi p l e s m args below meth c 0 0 0 0 3 D dA sz0 ad0 N0 r σf 0 0 σ [(0, va_rf y0), (1, va_rf y1), (2, .int v2)] [] 9 := by
  intro n
  induction n with
  | zero =>
    intro v2 σ kx32 kx24 h hkx32 hkx24
    cases h
  | succ n ih =>
    intro v2 σ kx32 kx24 h hkx32 hkx24
    rw [FJ10_equalsk10_9] at h
    refine wm_iload_n X 2 dJ10_equals_9 rfl ?_
    refine wm_aload_n X 0 dJ10_equals_10 rfl ?_
    refine wm_alenK X hS 601 (by decide) h dJ10_equals_11 (fun x23 h => ?_)
    refine wm_icmp_ge X 32 h dJ10_equals_12 (by decide) (fun c27 h => ?_) (fun c27 h => ?_)
    · refine wm_sub (ℓ' := []) [] rfl ?_
      exact hkx32 _ h
    · refine wm_aload_n X 0 dJ10_equals_15 rfl ?_
      refine wm_iload_n X 2 dJ10_equals_16 rfl ?_
      refine wm_baloadK X hS h dJ10_equals_17 (fun x24 h => ?_)
      refine wm_aload_n X 1 dJ10_equals_18 rfl ?_
      refine wm_iload_n X 2 dJ10_equals_19 rfl ?_
      refine wm_baload X hS h dJ10_equals_20 (fun x25 h => ?_)
      refine wm_icmp_eq X 26 h dJ10_equals_21 (by decide) (fun c26 h => ?_) (fun c26 h => ?_)
      · refine wm_iinc (v := (v2 + 1)) (ℓ' := [(2, .int (v2 + 1)), (0, va_rf y0), (1, va_rf y1)]) X 2 dJ10_equals_26 rfl rfl (by decide) rfl ?_
        refine wm_goto X 9 dJ10_equals_29 (by decide) ?_
        refine wm_sub (ℓ' := [(0, va_rf y0), (1, va_rf y1), (2, .int (v2 + 1))]) [1, 2, 0] rfl ?_
        exact ih _ _ _ _ h hkx32 hkx24
      · refine wm_sub (ℓ' := []) [] rfl ?_
        exact hkx24 _ h
set_option maxHeartbeats 4000000 in
theorem ctJ10_equalsk10 (l : Launch) {x0 : Option Nat} {x1 : Option Nat} {σ σf : Mm} {r : Int32} (h : FJ10_equalsk10 x0 x1 σ = some (r, σf)) : CTi l yJ10_equals (ws_ yJ10_equals cJ10_equals 3 ((some FieldType.boolean))) 0 0 0 0 [va_rf x0, va_rf x1] σ r σf := by
  refine ct_start (n := 2) mdJ10_equals (Nat.le_of_ble_eq_true rfl) (c1_r (c1_r c1_0)) (fun p e s m args below meth c D dA sz0 ad0 X hS hr hnm => ?_)
  have X : CX p s m args meth c cJ10_equals 3 RJ10 := X
  generalize mN σ = N0
  unfold FJ10_equalsk10 at h
  refine wm_aload_n X 0 dJ10_equals_0 rfl ?_
  refine wm_alenK X hS 601 (by decide) h dJ10_equals_1 (fun x21 h => ?_)
  refine wm_aload_n X 1 dJ10_equals_2 rfl ?_
  refine wm_alen X hS 101 (by decide) h dJ10_equals_3 (fun x22 h => ?_)
  refine wm_icmp_ne X 34 h dJ10_equals_4 (by decide) (fun c28 h => ?_) (fun c28 h => ?_)
  · refine wm_iconst (v := 0) X dJ10_equals_34 (by decide) ?_
    exact wm_zret X hr h dJ10_equals_35 (Nat.le_of_ble_eq_true rfl) (Nat.le_of_ble_eq_true rfl)
  · refine wm_iconst (v := 0) X dJ10_equals_7 (by decide) ?_
    refine wm_istore_n (ℓ' := [(2, .int 0), (0, va_rf x0), (1, va_rf x1)]) X dJ10_equals_8 (by decide) rfl ?_
    refine wm_sub (ℓ' := [(0, va_rf x0), (1, va_rf x1), (2, .int 0)]) [1, 2, 0] rfl ?_
    refine wJ10_equalsk10_9 X hS hr hnm _ _ fu _ _ _ _ h (fun σ h => ?_) (fun σ h => ?_)
    · refine wm_iconst (v := 1) X dJ10_equals_32 (by decide) ?_
      exact wm_zret X hr h dJ10_equals_33 (Nat.le_of_ble_eq_true rfl) (Nat.le_of_ble_eq_true rfl)
    · refine wm_iconst (v := 0) X dJ10_equals_24 (by decide) ?_
      exact wm_zret X hr h dJ10_equals_25 (Nat.le_of_ble_eq_true rfl) (Nat.le_of_ble_eq_true rfl)
set_option maxHeartbeats 4000000 in
theorem ctJ6_equalsk10 (l : Launch) {h0 : Nat} {x1 : Option Nat} {σ σf : Mm} {r : Int32} (h : FJ6_equalsk10 h0 x1 σ = some (r, σf)) : CTi l yJ6_equals (ws_ yJ6_equals cJ6_equals 3 ((some FieldType.boolean))) 1 22 0 0 [va_rf (some h0), va_rf x1] σ r σf := by
  refine ct_start (n := 1) mdJ6_equals (Nat.le_of_ble_eq_true rfl) (c1_r (c1_r c1_0)) (fun p e s m args below meth c D dA sz0 ad0 X hS hr hnm => ?_)
  have X : CX p s m args meth c cJ6_equals 3 RJ6 := X
  generalize mN σ = N0
  unfold FJ6_equalsk10 at h
  refine wm_aload_n X 0 dJ6_equals_0 rfl ?_
  refine wm_aload_n X 1 dJ6_equals_1 rfl ?_
  refine wm_acmpD X hS 7 h dJ6_equals_2 (by decide) (fun h => ?_)
  · refine wm_aload_n X 1 dJ6_equals_7 rfl ?_
    refine wm_inst X hS cd_20 h dJ6_equals_8 q1167 (fun q21 e22 s23 h => ?_)
    refine wm_if_eq X 54 h dJ6_equals_11 (by decide) (fun c36 h => ?_) (fun c36 h => ?_)
    · refine wm_iconst (v := 0) X dJ6_equals_54 (by decide) ?_
      exact wm_zret X hr h dJ6_equals_55 (Nat.le_of_ble_eq_true rfl) (Nat.le_of_ble_eq_true rfl)
    · refine wm_aload_n X 1 dJ6_equals_14 rfl ?_
      refine wm_cast X hS cd_20 h dJ6_equals_15 q1167 (fun q24 e25 s26 h => ?_)
      refine wm_astore_n (ℓ' := [(2, va_rf (some q24)), (0, va_rf (some h0)), (1, va_rf x1)]) X dJ6_equals_18 (by decide) rfl ?_
      refine wm_gstI X hS dJ6_equals_19 q1005 ?_
      obtain ⟨J36, eJ36, h⟩ := jn_e h
      have hJ36 : ∀  (σ : Mm), J36  σ = some (r, σf) → WMi p l e s m args below meth c 1 22 0 0 3 D dA sz0 ad0 N0 r σf 0 0 σ [(0, va_rf (some h0)), (2, va_rf (some q24))] [] 36 := by
        intro  σ h
        rw [eJ36] at h
        refine wm_aload_n X 0 dJ6_equals_36 rfl ?_
        refine wm_gRk X hS 20 0 rfl h (by decide) (by decide) rfl dJ6_equals_37 q1060 (fun x27 h => ?_)
        refine wm_aload_n X 1 dJ6_equals_40 rfl ?_
        refine wm_gR X hS cd_20 0 h dJ6_equals_41 (Nat.le_of_ble_eq_true rfl) rfl q1060 (fun x28 h => ?_)
        refine wm_cS_i (As := [va_rf x27, va_rf x28]) (st := []) X hS h (fun _ _ hF => ctJ10_equalsk10 l hF) mdJ10_equals msJ10_equals q1168 dJ6_equals_44 rfl rfl c1_0 (Nat.le_of_ble_eq_true rfl) ⟨Nat.le_of_ble_eq_true rfl, Nat.le_of_ble_eq_true rfl⟩ ⟨Nat.le_of_ble_eq_true rfl, Nat.le_of_ble_eq_true rfl⟩ (fun x29 σ30 _ h => ?_)
        refine wm_if_eq X 54 h dJ6_equals_47 (by decide) (fun c31 h => ?_) (fun c31 h => ?_)
        · refine wm_iconst (v := 0) X dJ6_equals_54 (by decide) ?_
          exact wm_zret X hr h dJ6_equals_55 (Nat.le_of_ble_eq_true rfl) (Nat.le_of_ble_eq_true rfl)
        · refine wm_iconst (v := 1) X dJ6_equals_50 (by decide) ?_
          refine wm_goto X 55 dJ6_equals_51 (by decide) ?_
          exact wm_zret X hr h dJ6_equals_55 (Nat.le_of_ble_eq_true rfl) (Nat.le_of_ble_eq_true rfl)
      clear eJ36
      refine wm_if_eq X 36 h dJ6_equals_22 (by decide) (fun c35 h => ?_) (fun c35 h => ?_)
      · refine wm_sub (ℓ' := [(0, va_rf (some h0)), (2, va_rf (some q24))]) [1, 0] rfl ?_
        exact hJ36 _ h
      · refine wm_aload_n X 1 dJ6_equals_25 rfl ?_
        refine wm_gIk X hS 20 1 rfl h (by decide) (by decide) rfl dJ6_equals_26 q1061 (fun x32 h => ?_)
        refine wm_aload_n X 0 dJ6_equals_29 rfl ?_
        refine wm_gI X hS cd_20 1 h dJ6_equals_30 (Nat.le_of_ble_eq_true rfl) rfl q1061 (fun x33 h => ?_)
        refine wm_icmp_ne X 54 h dJ6_equals_33 (by decide) (fun c34 h => ?_) (fun c34 h => ?_)
        · refine wm_iconst (v := 0) X dJ6_equals_54 (by decide) ?_
          exact wm_zret X hr h dJ6_equals_55 (Nat.le_of_ble_eq_true rfl) (Nat.le_of_ble_eq_true rfl)
        · refine wm_sub (ℓ' := [(0, va_rf (some h0)), (2, va_rf (some q24))]) [1, 0] rfl ?_
          exact hJ36 _ h
theorem mdX17_of : MD yX17_of 1 := by unfold MD; decide +kernel
theorem msX17_of : MS yX17_of cX17_of 5 ((some (FieldType.object "HungFaces$Fact"))) := ⟨q1403, q165, q1404⟩
set_option maxHeartbeats 4000000 in
theorem wX17_of_9 {p : Program} {l : Launch} {e : Env} {s : State} {m : MethodId} {args : Array Value} {below : List Frame} {meth : Method} {c : Code} {D : va_G} {dA : Nat → ClassId} {sz0 : Nat} {ad0 : Nat → Nat} {N0 : Nat} {xo : (Option Nat × Mm) ⊕ (Nat × Mm)} {mc ms : Nat} (X : CX p s m args meth c cX17_of 5 RX17) (hS : ST D dA sz0 ad0 s) (hr : meth.sig.returnType = (some (FieldType.object "HungFaces$Fact"))) (hnm : meth.name = yX17_of.name) (hl : l.stackTraces = false) (hno : ∀ x ∈ c.exceptionTable.toList, False) (y0 : Option Nat) (y1 : Option Nat) (y2 : Int32) : ∀ (n : Nat) (v3 : Int32) (σ : Mm) (kx40 : Mm → DX (Option Nat × Mm)) (kx31 : Option Nat → Mm → DX (Option Nat × Mm)) (C Z kc kz : Nat), FX17_of_9 y0 y1 y2 n v3 σ kx40 kx31 = some (xo, C, Z) → kc + C ≤ mc → kz + Z ≤ ms → (∀  (σ : Mm) (C Z kc kz : Nat), kx40 σ = some (xo, C, Z) → kc + C ≤ mc → kz + Z ≤ ms → WMxr p l e s m args below meth c 2 79 mc ms 5 D dA sz0 ad0 N0 xo kc kz σ [] [] 40) → (∀ (w4 : Option Nat) (σ : Mm) (C Z kc kz : Nat), kx31 w4 σ = some (xo, C, Z) → kc + C ≤ mc → kz + Z ≤ ms → WMxr p l e s m args below meth c 2 79 mc ms 5 D dA sz0 ad0 N0 xo kc kz σ [(4, va_rf w4)] [] 31) → WMxr p l e s m args below meth c 2 79 mc ms 5 D dA sz0 ad0 N0 xo kc kz σ [(0, va_rf y0), (1, va_rf y1), (2, .int y2), (3, .int v3)] [] 9 := by
  intro n
  induction n with
  | zero =>
    intro v3 σ kx40 kx31 C Z kc kz h hC hZ hkx40 hkx31
    cases h
  | succ n ih =>
    intro v3 σ kx40 kx31 C Z kc kz h hC hZ hkx40 hkx31
    rw [FX17_of_9] at h
    refine wm_iload_n X 3 dX17_of_9 rfl ?_
    refine wm_iload_n X 2 dX17_of_10 rfl ?_
    refine wm_icmp_ge X 40 h dX17_of_11 (by decide) (fun c31 h => ?_) (fun c31 h => ?_)
    · refine wm_sub (ℓ' := []) [] rfl ?_
      exact hkx40 _ _ _ _ _ h hC hZ
    · refine wm_aload_n X 1 dX17_of_14 rfl ?_
      refine wm_iload_n X 3 dX17_of_15 rfl ?_
      refine wm_aaloadF X hS h dX17_of_16 (fun x24 h => ?_)
      refine wm_astore (ℓ' := [(4, va_rf x24), (0, va_rf y0), (1, va_rf y1), (2, .int y2), (3, .int v3)]) X dX17_of_17 (by decide) rfl ?_
      refine wm_aload X 0 dX17_of_19 rfl ?_
      refine wm_gRk X hS 22 1 rfl h (by decide) (by decide) rfl dX17_of_21 q2700 (fun x25 h => ?_)
      refine wm_aload_n X 1 dX17_of_24 rfl ?_
      obtain ⟨q26, eq26, h⟩ := Option.bind_eq_some_iff.mp h
      obtain ⟨eq26, s27⟩ := rv_some eq26
      refine wm_cK_i (As := [va_rf y0]) (st := []) X hS s27 rfl mvJ6_equals q1416 h (fun _ _ hF => ctJ6_equalsk10 l hF) mdJ6_equals dX17_of_25 rfl (by rw [eq26]; first | done | rfl) c1_0 (Nat.le_of_ble_eq_true rfl) ⟨Nat.le_of_ble_eq_true rfl, Nat.le_of_ble_eq_true rfl⟩ ⟨le_p hC, le_p hZ⟩ (fun x28 σ29 _ h => ?_)
      refine wm_if_eq X 34 h dX17_of_28 (by decide) (fun c30 h => ?_) (fun c30 h => ?_)
      · refine wm_iinc (v := (v3 + 1)) (ℓ' := [(3, .int (v3 + 1)), (4, va_rf x24), (0, va_rf y0), (1, va_rf y1), (2, .int y2)]) X 4 dX17_of_34 rfl rfl (by decide) rfl ?_
        refine wm_goto X 9 dX17_of_37 (by decide) ?_
        refine wm_sub (ℓ' := [(0, va_rf y0), (1, va_rf y1), (2, .int y2), (3, .int (v3 + 1))]) [2, 3, 4, 0] rfl ?_
        exact ih _ _ _ _ _ _ _ _ h hC hZ hkx40 hkx31
      · refine wm_sub (ℓ' := [(4, va_rf x24)]) [0] rfl ?_
        exact hkx31 _ _ _ _ _ _ h hC hZ
set_option maxHeartbeats 4000000 in
theorem ctX17_of (l : Launch) (hl : l.stackTraces = false) {x0 : Option Nat} {σ : Mm} {xo : (Option Nat × Mm) ⊕ (Nat × Mm)} {mc ms : Nat} (h : FX17_of x0 σ = some (xo, mc, ms)) : CTXr l yX17_of (ws_ yX17_of cX17_of 5 ((some (FieldType.object "HungFaces$Fact")))) 2 79 mc ms [va_rf x0] σ xo := by
  refine ctx_start (n := 1) mdX17_of (Nat.le_of_ble_eq_true rfl) (c1_r c1_0) (fun p e s m args below meth c D dA sz0 ad0 X hS hr hnm hno => ?_)
  have X : CX p s m args meth c cX17_of 5 RX17 := X
  have hC : 0 + mc ≤ mc := Nat.le_of_eq (Nat.zero_add mc)
  have hZ : 0 + ms ≤ ms := Nat.le_of_eq (Nat.zero_add ms)
  generalize mN σ = N0
  unfold FX17_of at h
  refine wm_dS_r (As := []) (st := []) X hS hno h hC hZ (fun _ _ _ hF => ctX17_values l hl hF) mdX17_values msX17_values q1405 dX17_of_0 rfl rfl c1_0 (Nat.le_of_ble_eq_true rfl) ⟨Nat.le_of_ble_eq_true rfl, Nat.le_of_ble_eq_true rfl⟩ (Nat.le_refl _) (Nat.le_refl _) (fun x21 σ22 c1 z1 C Z _ h hC hZ => ?_)
  refine wm_astore_n (ℓ' := [(1, va_rf x21), (0, va_rf x0)]) X dX17_of_3 (by decide) rfl ?_
  refine wm_aload_n X 0 dX17_of_4 rfl ?_
  refine wm_alenF X hS h dX17_of_5 (fun x23 h => ?_)
  refine wm_istore_n (ℓ' := [(2, .int x23), (1, va_rf x21), (0, va_rf x0)]) X dX17_of_6 (by decide) rfl ?_
  refine wm_iconst (v := 0) X dX17_of_7 (by decide) ?_
  refine wm_istore_n (ℓ' := [(3, .int 0), (2, .int x23), (1, va_rf x21), (0, va_rf x0)]) X dX17_of_8 (by decide) rfl ?_
  refine wm_sub (ℓ' := [(0, va_rf x0), (1, va_rf x21), (2, .int x23), (3, .int 0)]) [3, 2, 1, 0] rfl ?_
  refine wX17_of_9 X hS hr hnm hl hno _ _ _ fu _ _ _ _ _ _ _ _ h hC hZ (fun σ C Z kc kz h hC hZ => ?_) (fun x32 σ C Z kc kz h hC hZ => ?_)
  · refine wm_null X dX17_of_40 ?_
    exact wm_xaret X hr (Or.inl ⟨_, rfl⟩) (rt_e h) dX17_of_41 (le_p hC) (le_p hZ)
  · refine wm_aload X 0 dX17_of_31 rfl ?_
    exact wm_xaret X hr (Or.inl ⟨_, rfl⟩) (rt_e h) dX17_of_33 (le_p hC) (le_p hZ)
theorem mdX1_onePart : MD yX1_onePart 0 := by unfold MD; decide +kernel
theorem mvX1_onePart : MV yX1_onePart cX1_onePart 2 ((some (FieldType.object "HungFaces$Part"))) := ⟨q1387, qs33, q128, q1388⟩
set_option maxHeartbeats 4000000 in
theorem ctX1_onePart (l : Launch) (hl : l.stackTraces = false) {h0 : Nat} {σ : Mm} {xo : (Option Nat × Mm) ⊕ (Nat × Mm)} {mc ms : Nat} (h : FX1_onePart h0 σ = some (xo, mc, ms)) : CTXr l yX1_onePart (ws_ yX1_onePart cX1_onePart 2 ((some (FieldType.object "HungFaces$Part")))) 7 193 mc ms [va_rf (some h0)] σ xo := by
  refine ctx_start (n := 0) mdX1_onePart (Nat.le_of_ble_eq_true rfl) (c1_r c1_0) (fun p e s m args below meth c D dA sz0 ad0 X hS hr hnm hno => ?_)
  have X : CX p s m args meth c cX1_onePart 2 RX1 := X
  have hC : 0 + mc ≤ mc := Nat.le_of_eq (Nat.zero_add mc)
  have hZ : 0 + ms ≤ ms := Nat.le_of_eq (Nat.zero_add ms)
  generalize mN σ = N0
  unfold FX1_onePart at h
  refine wm_aload_n X 0 dX1_onePart_0 rfl ?_
  refine wm_gR X hS cd_1 4 h dX1_onePart_1 (Nat.le_of_ble_eq_true rfl) rfl q441 (fun x21 h => ?_)
  obtain ⟨q22, eq22, h⟩ := Option.bind_eq_some_iff.mp h
  obtain ⟨eq22, s23⟩ := rv_some eq22
  refine wm_cV_i (As := []) (st := []) X hS cd_3 s23 rfl h (fun _ _ hF => ctX3_isFigure l hF) mdX3_isFigure mvX3_isFigure q1213 dX1_onePart_4 rfl (by rw [eq22]; first | done | rfl) c1_0 (Nat.le_of_ble_eq_true rfl) ⟨Nat.le_of_ble_eq_true rfl, Nat.le_of_ble_eq_true rfl⟩ ⟨le_p hC, le_p hZ⟩ (fun x24 σ25 _ h => ?_)
  refine wm_if_eq X 30 h dX1_onePart_7 (by decide) (fun c55 h => ?_) (fun c55 h => ?_)
  · refine wm_aload_n X 0 dX1_onePart_30 rfl ?_
    refine wm_gR X hS cd_1 4 h dX1_onePart_31 (Nat.le_of_ble_eq_true rfl) rfl q441 (fun x26 h => ?_)
    obtain ⟨q27, eq27, h⟩ := Option.bind_eq_some_iff.mp h
    obtain ⟨eq27, s28⟩ := rv_some eq27
    refine wm_dV_r (As := []) (st := []) X hS hno cd_3 s28 rfl h hC hZ (fun _ _ _ hF => ctX3_word l hl hF) mdX3_word mvX3_word q740 dX1_onePart_34 rfl (by rw [eq27]; first | done | rfl) c1_0 (Nat.le_of_ble_eq_true rfl) ⟨Nat.le_of_ble_eq_true rfl, Nat.le_of_ble_eq_true rfl⟩ (Nat.le_refl _) (Nat.le_refl _) (fun x29 σ30 c1 z1 C Z _ h hC hZ => ?_)
    refine wm_dS_r (As := [va_rf x29]) (st := []) X hS hno h hC hZ (fun _ _ _ hF => ctX17_of l hl hF) mdX17_of msX17_of q1402 dX1_onePart_37 rfl rfl c1_0 (Nat.le_of_ble_eq_true rfl) ⟨Nat.le_of_ble_eq_true rfl, Nat.le_of_ble_eq_true rfl⟩ (Nat.le_refl _) (Nat.le_refl _) (fun x31 σ32 c1 z1 C Z _ h hC hZ => ?_)
    refine wm_astore_n (ℓ' := [(1, va_rf x31), (0, va_rf (some h0))]) X dX1_onePart_40 (by decide) rfl ?_
    refine wm_aload_n X 0 dX1_onePart_41 rfl ?_
    refine wm_ifnonnull X 53 h dX1_onePart_42 (by decide) (fun e34 h => ?_) (fun q33 e34 h => ?_)
    · refine wm_aload_n X 1 dX1_onePart_45 rfl ?_
      refine wm_gR X hS cd_1 4 h dX1_onePart_46 (Nat.le_of_ble_eq_true rfl) rfl q441 (fun x35 h => ?_)
      obtain ⟨q36, eq36, h⟩ := Option.bind_eq_some_iff.mp h
      obtain ⟨eq36, s37⟩ := rv_some eq36
      obtain ⟨C, Z, h, hC, hZ⟩ := pay_d h hC hZ
      refine wm_cV_r (As := []) (st := []) X hS cd_3 s37 rfl h (fun _ _ hF => ctX3_wrong l hF) mdX3_wrong mvX3_wrong q1073 dX1_onePart_49 rfl (by rw [eq36]; first | done | rfl) c1_0 (Nat.le_of_ble_eq_true rfl) ⟨Nat.le_of_ble_eq_true rfl, Nat.le_of_ble_eq_true rfl⟩ ⟨le_p hC, le_p hZ⟩ (fun x38 σ39 _ h => ?_)
      exact wm_athrowW X hS hno (thrd_e h) dX1_onePart_52 (le_p hC) (le_p hZ)
    · obtain ⟨C, Z, h, hC, hZ⟩ := pay_d h hC hZ
      refine wm_new X hS cd_16 h dX1_onePart_53 q1389 q1390 q163 (le_p hC) (le_p hZ) (fun x40 σ41 _ h => ?_)
      refine wm_dup X dX1_onePart_56 (catR _) ?_
      refine wm_iconst (v := 0) X dX1_onePart_57 (by decide) ?_
      refine wm_aload_n X 0 dX1_onePart_58 rfl ?_
      obtain ⟨q42, eq42, h⟩ := Option.bind_eq_some_iff.mp h
      obtain ⟨eq42, s43⟩ := rv_some eq42
      refine wm_cI_v (As := [.int 0, va_rf x31]) (st := [va_rf x40]) X hS h (fun _ hF => ctX16_init l hF) mdX16_init miX16_init q1391 dX1_onePart_59 rfl (by rw [eq42]; first | done | rfl) (c1_r c1_0) (Nat.le_of_ble_eq_true rfl) ⟨Nat.le_of_ble_eq_true rfl, Nat.le_of_ble_eq_true rfl⟩ ⟨le_p hC, le_p hZ⟩ (fun σ44 _ h => ?_)
      exact wm_xaret X hr (Or.inl ⟨_, rfl⟩) (rt_e h) dX1_onePart_62 (le_p hC) (le_p hZ)
  · obtain ⟨C, Z, h, hC, hZ⟩ := pay_d h hC hZ
    refine wm_new X hS cd_16 h dX1_onePart_10 q1389 q1390 q163 (le_p hC) (le_p hZ) (fun x45 σ46 _ h => ?_)
    refine wm_dup X dX1_onePart_13 (catR _) ?_
    refine wm_aload_n X 0 dX1_onePart_14 rfl ?_
    refine wm_gR X hS cd_1 4 h dX1_onePart_15 (Nat.le_of_ble_eq_true rfl) rfl q441 (fun x47 h => ?_)
    refine wm_iconst (v := 0) X dX1_onePart_18 (by decide) ?_
    refine wm_sipush (v := 999) X dX1_onePart_19 (by decide) ?_
    obtain ⟨q48, eq48, h⟩ := Option.bind_eq_some_iff.mp h
    obtain ⟨eq48, s49⟩ := rv_some eq48
    refine wm_dV_i (As := [.int 0, .int 999]) (st := [va_rf x45, va_rf x45]) X hS hno cd_3 s49 rfl h hC hZ (fun _ _ _ hF => ctX3_number l hl hF) mdX3_number mvX3_number q1203 dX1_onePart_22 rfl (by rw [eq48]; first | done | rfl) (c1_r (c1_r c1_0)) (Nat.le_of_ble_eq_true rfl) ⟨Nat.le_of_ble_eq_true rfl, Nat.le_of_ble_eq_true rfl⟩ (Nat.le_refl _) (Nat.le_refl _) (fun x50 σ51 c1 z1 C Z _ h hC hZ => ?_)
    refine wm_null X dX1_onePart_25 ?_
    obtain ⟨q52, eq52, h⟩ := Option.bind_eq_some_iff.mp h
    obtain ⟨eq52, s53⟩ := rv_some eq52
    refine wm_cI_v (As := [.int x50, va_rf none]) (st := [va_rf x45]) X hS h (fun _ hF => ctX16_init l hF) mdX16_init miX16_init q1391 dX1_onePart_26 rfl (by rw [eq52]; first | done | rfl) (c1_r c1_0) (Nat.le_of_ble_eq_true rfl) ⟨Nat.le_of_ble_eq_true rfl, Nat.le_of_ble_eq_true rfl⟩ ⟨le_p hC, le_p hZ⟩ (fun σ54 _ h => ?_)
    exact wm_xaret X hr (Or.inl ⟨_, rfl⟩) (rt_e h) dX1_onePart_29 (le_p hC) (le_p hZ)
theorem mdX1_sum : MD yX1_sum 0 := by unfold MD; decide +kernel
theorem mvX1_sum : MV yX1_sum cX1_sum 2 ((some (FieldType.object "HungFaces$Sum"))) := ⟨q1370, qs32, q128, q1371⟩
set_option maxHeartbeats 4000000 in
theorem wX1_sum_8 {p : Program} {l : Launch} {e : Env} {s : State} {m : MethodId} {args : Array Value} {below : List Frame} {meth : Method} {c : Code} {D : va_G} {dA : Nat → ClassId} {sz0 : Nat} {ad0 : Nat → Nat} {N0 : Nat} {xo : (Option Nat × Mm) ⊕ (Nat × Mm)} {mc ms : Nat} (X : CX p s m args meth c cX1_sum 2 RX1) (hS : ST D dA sz0 ad0 s) (hr : meth.sig.returnType = (some (FieldType.object "HungFaces$Sum"))) (hnm : meth.name = yX1_sum.name) (hl : l.stackTraces = false) (hno : ∀ x ∈ c.exceptionTable.toList, False) (h0 : Nat) (y1 : Option Nat) : ∀ (n : Nat)  (σ : Mm) (kx32 : Mm → DX (Option Nat × Mm)) (C Z kc kz : Nat), FX1_sum_8 h0 y1 n σ kx32 = some (xo, C, Z) → kc + C ≤ mc → kz + Z ≤ ms → (∀  (σ : Mm) (C Z kc kz : Nat), kx32 σ = some (xo, C, Z) → kc + C ≤ mc → kz + Z ≤ ms → WMxr p l e s m args below meth c 8 214 mc ms 2 D dA sz0 ad0 N0 xo kc kz σ [(1, va_rf y1)] [] 32) → WMxr p l e s m args below meth c 8 214 mc ms 2 D dA sz0 ad0 N0 xo kc kz σ [(0, va_rf (some h0)), (1, va_rf y1)] [] 8 := by
  intro n
  induction n with
  | zero =>
    intro σ kx32 C Z kc kz h hC hZ hkx32
    cases h
  | succ n ih =>
    intro σ kx32 C Z kc kz h hC hZ hkx32
    rw [FX1_sum_8] at h
    refine wm_aload_n X 1 dX1_sum_8 rfl ?_
    refine wm_gRN X hS cd_15 0 h dX1_sum_9 (Nat.le_of_ble_eq_true rfl) rfl 45 rfl (fun x26 h => ?_)
    refine wm_aload_n X 0 dX1_sum_12 rfl ?_
    obtain ⟨s27, h⟩ := ck_e h
    refine wm_dV_r (As := []) (st := [va_rf x26]) X hS hno cd_1 s27 rfl h hC hZ (fun _ _ _ hF => ctX1_onePart l hl hF) mdX1_onePart mvX1_onePart q1385 dX1_sum_13 rfl rfl (c1_r c1_0) (Nat.le_of_ble_eq_true rfl) ⟨Nat.le_of_ble_eq_true rfl, Nat.le_of_ble_eq_true rfl⟩ (Nat.le_refl _) (Nat.le_refl _) (fun x28 σ29 c1 z1 C Z _ h hC hZ => ?_)
    obtain ⟨q30, eq30, h⟩ := Option.bind_eq_some_iff.mp h
    obtain ⟨eq30, s31⟩ := rv_some eq30
    refine wm_dV_i (As := [va_rf x28]) (st := []) X hS hno cd_17 s31 rfl h hC hZ (fun _ _ _ hF => ctJ3_add l hl hF) mdJ3_add mvJ3_add q1417 dX1_sum_16 rfl (by rw [eq30]; first | done | rfl) c1_0 (Nat.le_of_ble_eq_true rfl) ⟨Nat.le_of_ble_eq_true rfl, Nat.le_of_ble_eq_true rfl⟩ (Nat.le_refl _) (Nat.le_refl _) (fun x32 σ33 c1 z1 C Z _ h hC hZ => ?_)
    refine wm_pop X dX1_sum_19 rfl ?_
    refine wm_aload_n X 0 dX1_sum_20 rfl ?_
    refine wm_gR X hS cd_1 4 h dX1_sum_21 (Nat.le_of_ble_eq_true rfl) rfl q441 (fun x34 h => ?_)
    refine wm_bipush (v := 43) X dX1_sum_24 (by decide) ?_
    obtain ⟨q35, eq35, h⟩ := Option.bind_eq_some_iff.mp h
    obtain ⟨eq35, s36⟩ := rv_some eq35
    refine wm_cV_i (As := [.int 43]) (st := []) X hS cd_3 s36 rfl h (fun _ _ hF => ctX3_sign l hF) mdX3_sign mvX3_sign q1237 dX1_sum_26 rfl (by rw [eq35]; first | done | rfl) c1_0 (Nat.le_of_ble_eq_true rfl) ⟨Nat.le_of_ble_eq_true rfl, Nat.le_of_ble_eq_true rfl⟩ ⟨le_p hC, le_p hZ⟩ (fun x37 σ38 _ h => ?_)
    refine wm_if_ne X 8 h dX1_sum_29 (by decide) (fun c39 h => ?_) (fun c39 h => ?_)
    · exact ih _ _ _ _ _ _ h hC hZ hkx32
    · refine wm_sub (ℓ' := [(1, va_rf y1)]) [1] rfl ?_
      exact hkx32 _ _ _ _ _ h hC hZ
set_option maxHeartbeats 4000000 in
theorem ctX1_sum (l : Launch) (hl : l.stackTraces = false) {h0 : Nat} {σ : Mm} {xo : (Option Nat × Mm) ⊕ (Nat × Mm)} {mc ms : Nat} (h : FX1_sum h0 σ = some (xo, mc, ms)) : CTXr l yX1_sum (ws_ yX1_sum cX1_sum 2 ((some (FieldType.object "HungFaces$Sum")))) 8 214 mc ms [va_rf (some h0)] σ xo := by
  refine ctx_start (n := 0) mdX1_sum (Nat.le_of_ble_eq_true rfl) (c1_r c1_0) (fun p e s m args below meth c D dA sz0 ad0 X hS hr hnm hno => ?_)
  have X : CX p s m args meth c cX1_sum 2 RX1 := X
  have hC : 0 + mc ≤ mc := Nat.le_of_eq (Nat.zero_add mc)
  have hZ : 0 + ms ≤ ms := Nat.le_of_eq (Nat.zero_add ms)
  generalize mN σ = N0
  unfold FX1_sum at h
  obtain ⟨C, Z, h, hC, hZ⟩ := pay_d h hC hZ
  refine wm_new X hS cd_15 h dX1_sum_0 q1372 q1373 q162 (le_p hC) (le_p hZ) (fun x21 σ22 _ h => ?_)
  refine wm_dup X dX1_sum_3 (catR _) ?_
  obtain ⟨q23, eq23, h⟩ := Option.bind_eq_some_iff.mp h
  obtain ⟨eq23, s24⟩ := rv_some eq23
  obtain ⟨C, Z, h, hC, hZ⟩ := pay_d h hC hZ
  refine wm_cIN_v (As := []) (st := [va_rf x21]) X hS h (fun _ hF => ctX15_init l hF) mdX15_init miX15_init 44 rfl dX1_sum_4 rfl (by rw [eq23]; first | done | rfl) (c1_r c1_0) (Nat.le_of_ble_eq_true rfl) ⟨Nat.le_of_ble_eq_true rfl, Nat.le_of_ble_eq_true rfl⟩ ⟨le_p hC, le_p hZ⟩ (fun σ25 _ h => ?_)
  refine wm_astore_n (ℓ' := [(1, va_rf x21), (0, va_rf (some h0))]) X dX1_sum_7 (by decide) rfl ?_
  refine wm_sub (ℓ' := [(0, va_rf (some h0)), (1, va_rf x21)]) [1, 0] rfl ?_
  refine wX1_sum_8 X hS hr hnm hl hno _ _ fu _ _ _ _ _ _ h hC hZ (fun σ C Z kc kz h hC hZ => ?_)
  · refine wm_aload_n X 0 dX1_sum_32 rfl ?_
    exact wm_xaret X hr (Or.inl ⟨_, rfl⟩) (rt_e h) dX1_sum_33 (le_p hC) (le_p hZ)
theorem mdX18_init : MD yX18_init 2 := by unfold MD; decide +kernel
theorem miX18_init : MI yX18_init cX18_init 3 := ⟨q1481, q166, q1482, rfl⟩
set_option maxHeartbeats 4000000 in
theorem ctX18_init (l : Launch) {h0 : Nat} {x1 : Option Nat} {x2 : Option Nat} {σ σf : Mm} (h : FX18_init h0 x1 x2 σ = some σf) : CTv l yX18_init (ws_ yX18_init cX18_init 3 (none)) 1 25 0 0 [va_rf (some h0), va_rf x1, va_rf x2] σ σf := by
  refine ct_start (n := 2) mdX18_init (Nat.le_of_ble_eq_true rfl) (c1_r (c1_r (c1_r c1_0))) (fun p e s m args below meth c D dA sz0 ad0 X hS hr hnm => ?_)
  have X : CX p s m args meth c cX18_init 3 RX18 := X
  generalize mN σ = N0
  unfold FX18_init at h
  refine wm_aload_n X 0 dX18_init_0 rfl ?_
  refine wm_objInit X dX18_init_1 q1483 q179 q180 (Nat.le_of_ble_eq_true rfl) c1_0 (Nat.le_of_ble_eq_true rfl) (Nat.le_of_ble_eq_true rfl) ?_
  refine wm_aload_n X 0 dX18_init_4 rfl ?_
  refine wm_aload_n X 1 dX18_init_5 rfl ?_
  refine wm_pRF X hS cd_18 0 h dX18_init_6 (Nat.le_of_ble_eq_true rfl) rfl q1484 (fun r => by cases r <;> exact ⟨rfl, rfl⟩) rfl hnm rfl (fun σ21 _ h => ?_)
  refine wm_aload_n X 0 dX18_init_9 rfl ?_
  refine wm_aload_n X 2 dX18_init_10 rfl ?_
  refine wm_pRF X hS cd_18 1 h dX18_init_11 (Nat.le_of_ble_eq_true rfl) rfl q1485 (fun r => by cases r <;> exact ⟨rfl, rfl⟩) rfl hnm rfl (fun σ22 _ h => ?_)
  exact wm_vret X hr h dX18_init_14 (Nat.le_of_ble_eq_true rfl) (Nat.le_of_ble_eq_true rfl)
set_option maxHeartbeats 4000000 in
theorem crX1_atom (l : Launch) (hl : l.stackTraces = false) {fr0 lo0 : Nat} (Rf : Nat → Mm → DX (Option Nat × Mm)) (hRf : ∀ (h0 : Nat) (σ : Mm) (xo : (Option Nat × Mm) ⊕ (Nat × Mm)) (mc ms : Nat), Rf h0 σ = some (xo, mc, ms) → CTXr l yX1_atom (ws_ yX1_atom cX1_atom 3 ((some (FieldType.object "HungFaces$Cond")))) fr0 lo0 mc ms [va_rf (some h0)] σ xo) {h0 : Nat} {σ : Mm} {xo : (Option Nat × Mm) ⊕ (Nat × Mm)} {mc ms : Nat} (h : RX1_atom Rf h0 σ = some (xo, mc, ms)) : CTXr l yX1_atom (ws_ yX1_atom cX1_atom 3 ((some (FieldType.object "HungFaces$Cond")))) (fr0 + 12) (lo0 + 300) mc ms [va_rf (some h0)] σ xo := by
  refine ctx_start (n := 0) mdX1_atom (Nat.le_of_ble_eq_true rfl) (c1_r c1_0) (fun p e s m args below meth c D dA sz0 ad0 X hS hr hnm hno => ?_)
  have X : CX p s m args meth c cX1_atom 3 RX1 := X
  have hC : 0 + mc ≤ mc := Nat.le_of_eq (Nat.zero_add mc)
  have hZ : 0 + ms ≤ ms := Nat.le_of_eq (Nat.zero_add ms)
  generalize mN σ = N0
  unfold RX1_atom at h
  refine wm_aload_n X 0 dX1_atom_0 rfl ?_
  refine wm_gR X hS cd_1 4 h dX1_atom_1 (Nat.le_of_ble_eq_true rfl) rfl q441 (fun x21 h => ?_)
  refine wm_astore_n (ℓ' := [(1, va_rf x21), (0, va_rf (some h0))]) X dX1_atom_4 (by decide) rfl ?_
  refine wm_aload_n X 0 dX1_atom_5 rfl ?_
  refine wm_bipush (v := 40) X dX1_atom_6 (by decide) ?_
  obtain ⟨q22, eq22, h⟩ := Option.bind_eq_some_iff.mp h
  obtain ⟨eq22, s23⟩ := rv_some eq22
  refine wm_cV_i (As := [.int 40]) (st := []) X hS cd_3 s23 rfl h (fun _ _ hF => ctX3_sign l hF) mdX3_sign mvX3_sign q1237 dX1_atom_8 rfl (by rw [eq22]; first | done | rfl) c1_0 (Nat.le_of_ble_eq_true rfl) ⟨Nat.le_of_ble_eq_true rfl, Nat.le_of_ble_eq_true rfl⟩ ⟨le_p hC, le_p hZ⟩ (fun x24 σ25 _ h => ?_)
  refine wm_if_eq X 43 h dX1_atom_11 (by decide) (fun c116 h => ?_) (fun c116 h => ?_)
  · refine wm_aload_n X 0 dX1_atom_43 rfl ?_
    refine wm_ldcSW X hS 10 10 rfl dX1_atom_44 ?_
    obtain ⟨q26, eq26, h⟩ := Option.bind_eq_some_iff.mp h
    obtain ⟨eq26, s27⟩ := rv_some eq26
    refine wm_dV_i (As := [va_rf (some (BIG + 2 * 10))]) (st := []) X hS hno cd_3 s27 rfl h hC hZ (fun _ _ _ hF => ctX3_passesk01 l hl hF) mdX3_passes mvX3_passes q1304 dX1_atom_47 rfl (by rw [eq26]; first | done | rfl) c1_0 (Nat.le_of_ble_eq_true rfl) ⟨Nat.le_of_ble_eq_true rfl, Nat.le_of_ble_eq_true rfl⟩ (Nat.le_refl _) (Nat.le_refl _) (fun x28 σ29 c1 z1 C Z _ h hC hZ => ?_)
    refine wm_if_eq X 75 h dX1_atom_50 (by decide) (fun c97 h => ?_) (fun c97 h => ?_)
    · refine wm_aload_n X 0 dX1_atom_75 rfl ?_
      refine wm_ldcSW X hS 11 11 rfl dX1_atom_76 ?_
      obtain ⟨q30, eq30, h⟩ := Option.bind_eq_some_iff.mp h
      obtain ⟨eq30, s31⟩ := rv_some eq30
      refine wm_dV_i (As := [va_rf (some (BIG + 2 * 11))]) (st := []) X hS hno cd_3 s31 rfl h hC hZ (fun _ _ _ hF => ctX3_passesk01 l hl hF) mdX3_passes mvX3_passes q1304 dX1_atom_79 rfl (by rw [eq30]; first | done | rfl) c1_0 (Nat.le_of_ble_eq_true rfl) ⟨Nat.le_of_ble_eq_true rfl, Nat.le_of_ble_eq_true rfl⟩ (Nat.le_refl _) (Nat.le_refl _) (fun x32 σ33 c1 z1 C Z _ h hC hZ => ?_)
      refine wm_if_eq X 94 h dX1_atom_82 (by decide) (fun c82 h => ?_) (fun c82 h => ?_)
      · refine wm_aload_n X 0 dX1_atom_94 rfl ?_
        refine wm_ldcS X hS 2 2 rfl dX1_atom_95 ?_
        obtain ⟨q34, eq34, h⟩ := Option.bind_eq_some_iff.mp h
        obtain ⟨eq34, s35⟩ := rv_some eq34
        refine wm_dV_i (As := [va_rf (some (BIG + 2 * 2))]) (st := []) X hS hno cd_3 s35 rfl h hC hZ (fun _ _ _ hF => ctX3_passesk01 l hl hF) mdX3_passes mvX3_passes q1304 dX1_atom_97 rfl (by rw [eq34]; first | done | rfl) c1_0 (Nat.le_of_ble_eq_true rfl) ⟨Nat.le_of_ble_eq_true rfl, Nat.le_of_ble_eq_true rfl⟩ (Nat.le_refl _) (Nat.le_refl _) (fun x36 σ37 c1 z1 C Z _ h hC hZ => ?_)
        refine wm_if_eq X 112 h dX1_atom_100 (by decide) (fun c76 h => ?_) (fun c76 h => ?_)
        · refine wm_aload_n X 1 dX1_atom_112 rfl ?_
          obtain ⟨s38, h⟩ := ck_e h
          refine wm_dV_r (As := []) (st := []) X hS hno cd_1 s38 rfl h hC hZ (fun _ _ _ hF => ctX1_sum l hl hF) mdX1_sum mvX1_sum q1368 dX1_atom_113 rfl rfl c1_0 (Nat.le_of_ble_eq_true rfl) ⟨Nat.le_of_ble_eq_true rfl, Nat.le_of_ble_eq_true rfl⟩ (Nat.le_refl _) (Nat.le_refl _) (fun x39 σ40 c1 z1 C Z _ h hC hZ => ?_)
          refine wm_astore_n (ℓ' := [(2, va_rf x39), (1, va_rf x21), (0, va_rf (some h0))]) X dX1_atom_116 (by decide) rfl ?_
          refine wm_aload_n X 1 dX1_atom_117 rfl ?_
          refine wm_bipush (v := 60) X dX1_atom_118 (by decide) ?_
          obtain ⟨q41, eq41, h⟩ := Option.bind_eq_some_iff.mp h
          obtain ⟨eq41, s42⟩ := rv_some eq41
          refine wm_cV_i (As := [.int 60]) (st := []) X hS cd_3 s42 rfl h (fun _ _ hF => ctX3_sign l hF) mdX3_sign mvX3_sign q1237 dX1_atom_120 rfl (by rw [eq41]; first | done | rfl) c1_0 (Nat.le_of_ble_eq_true rfl) ⟨Nat.le_of_ble_eq_true rfl, Nat.le_of_ble_eq_true rfl⟩ ⟨le_p hC, le_p hZ⟩ (fun x43 σ44 _ h => ?_)
          refine wm_if_eq X 139 h dX1_atom_123 (by decide) (fun c70 h => ?_) (fun c70 h => ?_)
          · refine wm_aload_n X 1 dX1_atom_139 rfl ?_
            refine wm_bipush (v := 62) X dX1_atom_140 (by decide) ?_
            obtain ⟨q45, eq45, h⟩ := Option.bind_eq_some_iff.mp h
            obtain ⟨eq45, s46⟩ := rv_some eq45
            refine wm_cV_i (As := [.int 62]) (st := []) X hS cd_3 s46 rfl h (fun _ _ hF => ctX3_sign l hF) mdX3_sign mvX3_sign q1237 dX1_atom_142 rfl (by rw [eq45]; first | done | rfl) c1_0 (Nat.le_of_ble_eq_true rfl) ⟨Nat.le_of_ble_eq_true rfl, Nat.le_of_ble_eq_true rfl⟩ ⟨le_p hC, le_p hZ⟩ (fun x47 σ48 _ h => ?_)
            refine wm_if_ne X 153 h dX1_atom_145 (by decide) (fun c61 h => ?_) (fun c61 h => ?_)
            · obtain ⟨C, Z, h, hC, hZ⟩ := pay_d h hC hZ
              refine wm_new X hS cd_18 h dX1_atom_153 q1478 q1479 q166 (le_p hC) (le_p hZ) (fun x49 σ50 _ h => ?_)
              refine wm_dup X dX1_atom_156 (catR _) ?_
              refine wm_aload_n X 2 dX1_atom_157 rfl ?_
              obtain ⟨s51, h⟩ := ck_e h
              refine wm_dV_r (As := []) (st := [va_rf x49, va_rf x49]) X hS hno cd_1 s51 rfl h hC hZ (fun _ _ _ hF => ctX1_sum l hl hF) mdX1_sum mvX1_sum q1368 dX1_atom_158 rfl rfl (c1_r (c1_r c1_0)) (Nat.le_of_ble_eq_true rfl) ⟨Nat.le_of_ble_eq_true rfl, Nat.le_of_ble_eq_true rfl⟩ (Nat.le_refl _) (Nat.le_refl _) (fun x52 σ53 c1 z1 C Z _ h hC hZ => ?_)
              refine wm_aload_n X 0 dX1_atom_161 rfl ?_
              obtain ⟨q54, eq54, h⟩ := Option.bind_eq_some_iff.mp h
              obtain ⟨eq54, s55⟩ := rv_some eq54
              refine wm_cI_v (As := [va_rf x52, va_rf x39]) (st := [va_rf x49]) X hS h (fun _ hF => ctX18_init l hF) mdX18_init miX18_init q1480 dX1_atom_162 rfl (by rw [eq54]; first | done | rfl) (c1_r c1_0) (Nat.le_of_ble_eq_true rfl) ⟨Nat.le_of_ble_eq_true rfl, Nat.le_of_ble_eq_true rfl⟩ ⟨le_p hC, le_p hZ⟩ (fun σ56 _ h => ?_)
              exact wm_xaret X hr (Or.inl ⟨_, rfl⟩) (rt_e h) dX1_atom_165 (le_p hC) (le_p hZ)
            · refine wm_aload_n X 1 dX1_atom_148 rfl ?_
              obtain ⟨q57, eq57, h⟩ := Option.bind_eq_some_iff.mp h
              obtain ⟨eq57, s58⟩ := rv_some eq57
              obtain ⟨C, Z, h, hC, hZ⟩ := pay_d h hC hZ
              refine wm_cV_r (As := []) (st := []) X hS cd_3 s58 rfl h (fun _ _ hF => ctX3_wrong l hF) mdX3_wrong mvX3_wrong q1073 dX1_atom_149 rfl (by rw [eq57]; first | done | rfl) c1_0 (Nat.le_of_ble_eq_true rfl) ⟨Nat.le_of_ble_eq_true rfl, Nat.le_of_ble_eq_true rfl⟩ ⟨le_p hC, le_p hZ⟩ (fun x59 σ60 _ h => ?_)
              exact wm_athrowW X hS hno (thrd_e h) dX1_atom_152 (le_p hC) (le_p hZ)
          · obtain ⟨C, Z, h, hC, hZ⟩ := pay_d h hC hZ
            refine wm_new X hS cd_18 h dX1_atom_126 q1478 q1479 q166 (le_p hC) (le_p hZ) (fun x62 σ63 _ h => ?_)
            refine wm_dup X dX1_atom_129 (catR _) ?_
            refine wm_aload_n X 0 dX1_atom_130 rfl ?_
            refine wm_aload_n X 2 dX1_atom_131 rfl ?_
            obtain ⟨s64, h⟩ := ck_e h
            refine wm_dV_r (As := []) (st := [va_rf x39, va_rf x62, va_rf x62]) X hS hno cd_1 s64 rfl h hC hZ (fun _ _ _ hF => ctX1_sum l hl hF) mdX1_sum mvX1_sum q1368 dX1_atom_132 rfl rfl (c1_r (c1_r (c1_r c1_0))) (Nat.le_of_ble_eq_true rfl) ⟨Nat.le_of_ble_eq_true rfl, Nat.le_of_ble_eq_true rfl⟩ (Nat.le_refl _) (Nat.le_refl _) (fun x65 σ66 c1 z1 C Z _ h hC hZ => ?_)
            obtain ⟨q67, eq67, h⟩ := Option.bind_eq_some_iff.mp h
            obtain ⟨eq67, s68⟩ := rv_some eq67
            refine wm_cI_v (As := [va_rf x39, va_rf x65]) (st := [va_rf x62]) X hS h (fun _ hF => ctX18_init l hF) mdX18_init miX18_init q1480 dX1_atom_135 rfl (by rw [eq67]; first | done | rfl) (c1_r c1_0) (Nat.le_of_ble_eq_true rfl) ⟨Nat.le_of_ble_eq_true rfl, Nat.le_of_ble_eq_true rfl⟩ ⟨le_p hC, le_p hZ⟩ (fun σ69 _ h => ?_)
            exact wm_xaret X hr (Or.inl ⟨_, rfl⟩) (rt_e h) dX1_atom_138 (le_p hC) (le_p hZ)
        · obtain ⟨C, Z, h, hC, hZ⟩ := pay_d h hC hZ
          refine wm_new X hS cd_14 h dX1_atom_103 q1358 q1359 q161 (le_p hC) (le_p hZ) (fun x71 σ72 _ h => ?_)
          refine wm_dup X dX1_atom_106 (catR _) ?_
          refine wm_iconst (v := 0) X dX1_atom_107 (by decide) ?_
          obtain ⟨q73, eq73, h⟩ := Option.bind_eq_some_iff.mp h
          obtain ⟨eq73, s74⟩ := rv_some eq73
          refine wm_cI_v (As := [.int 0]) (st := [va_rf x71]) X hS h (fun _ hF => ctX14_init l hF) mdX14_init miX14_init q1360 dX1_atom_108 rfl (by rw [eq73]; first | done | rfl) (c1_r c1_0) (Nat.le_of_ble_eq_true rfl) ⟨Nat.le_of_ble_eq_true rfl, Nat.le_of_ble_eq_true rfl⟩ ⟨le_p hC, le_p hZ⟩ (fun σ75 _ h => ?_)
          exact wm_xaret X hr (Or.inl ⟨_, rfl⟩) (rt_e h) dX1_atom_111 (le_p hC) (le_p hZ)
      · obtain ⟨C, Z, h, hC, hZ⟩ := pay_d h hC hZ
        refine wm_new X hS cd_14 h dX1_atom_85 q1358 q1359 q161 (le_p hC) (le_p hZ) (fun x77 σ78 _ h => ?_)
        refine wm_dup X dX1_atom_88 (catR _) ?_
        refine wm_iconst (v := 1) X dX1_atom_89 (by decide) ?_
        obtain ⟨q79, eq79, h⟩ := Option.bind_eq_some_iff.mp h
        obtain ⟨eq79, s80⟩ := rv_some eq79
        refine wm_cI_v (As := [.int 1]) (st := [va_rf x77]) X hS h (fun _ hF => ctX14_init l hF) mdX14_init miX14_init q1360 dX1_atom_90 rfl (by rw [eq79]; first | done | rfl) (c1_r c1_0) (Nat.le_of_ble_eq_true rfl) ⟨Nat.le_of_ble_eq_true rfl, Nat.le_of_ble_eq_true rfl⟩ ⟨le_p hC, le_p hZ⟩ (fun σ81 _ h => ?_)
        exact wm_xaret X hr (Or.inl ⟨_, rfl⟩) (rt_e h) dX1_atom_93 (le_p hC) (le_p hZ)
    · refine wm_aload_n X 0 dX1_atom_53 rfl ?_
      obtain ⟨q83, eq83, h⟩ := Option.bind_eq_some_iff.mp h
      obtain ⟨eq83, s84⟩ := rv_some eq83
      refine wm_dV_v (As := []) (st := []) X hS hno cd_3 s84 rfl h hC hZ (fun _ _ _ hF => ctX3_goesDeeper l hl hF) mdX3_goesDeeper mvX3_goesDeeper q1338 dX1_atom_54 rfl (by rw [eq83]; first | done | rfl) c1_0 (Nat.le_of_ble_eq_true rfl) ⟨Nat.le_of_ble_eq_true rfl, Nat.le_of_ble_eq_true rfl⟩ (Nat.le_refl _) (Nat.le_refl _) (fun σ85 c1 z1 C Z _ h hC hZ => ?_)
      refine wm_aload_n X 1 dX1_atom_57 rfl ?_
      obtain ⟨s86, h⟩ := ck_e h
      refine wm_dV_r (As := []) (st := []) X hS hno cd_1 s86 rfl h hC hZ (fun _ _ _ hF => hRf _ _ _ _ _ hF) mdX1_atom mvX1_atom q1334 dX1_atom_58 rfl rfl c1_0 (Nat.le_of_ble_eq_true rfl) ⟨rmf (by omega), rml (by omega)⟩ (Nat.le_refl _) (Nat.le_refl _) (fun x87 σ88 c1 z1 C Z _ h hC hZ => ?_)
      refine wm_astore_n (ℓ' := [(2, va_rf x87), (1, va_rf x21), (0, va_rf (some h0))]) X dX1_atom_61 (by decide) rfl ?_
      refine wm_aload_n X 1 dX1_atom_62 rfl ?_
      obtain ⟨q89, eq89, h⟩ := Option.bind_eq_some_iff.mp h
      obtain ⟨eq89, s90⟩ := rv_some eq89
      refine wm_cV_v (As := []) (st := []) X hS cd_3 s90 rfl h (fun _ hF => ctX3_comesUp l hF) mdX3_comesUp mvX3_comesUp q1342 dX1_atom_63 rfl (by rw [eq89]; first | done | rfl) c1_0 (Nat.le_of_ble_eq_true rfl) ⟨Nat.le_of_ble_eq_true rfl, Nat.le_of_ble_eq_true rfl⟩ ⟨le_p hC, le_p hZ⟩ (fun σ91 _ h => ?_)
      obtain ⟨C, Z, h, hC, hZ⟩ := pay_d h hC hZ
      refine wm_new X hS cd_13 h dX1_atom_66 q1347 q1348 q160 (le_p hC) (le_p hZ) (fun x92 σ93 _ h => ?_)
      refine wm_dup X dX1_atom_69 (catR _) ?_
      refine wm_aload_n X 0 dX1_atom_70 rfl ?_
      obtain ⟨q94, eq94, h⟩ := Option.bind_eq_some_iff.mp h
      obtain ⟨eq94, s95⟩ := rv_some eq94
      refine wm_cI_v (As := [va_rf x87]) (st := [va_rf x92]) X hS h (fun _ hF => ctX13_init l hF) mdX13_init miX13_init q1349 dX1_atom_71 rfl (by rw [eq94]; first | done | rfl) (c1_r c1_0) (Nat.le_of_ble_eq_true rfl) ⟨Nat.le_of_ble_eq_true rfl, Nat.le_of_ble_eq_true rfl⟩ ⟨le_p hC, le_p hZ⟩ (fun σ96 _ h => ?_)
      exact wm_xaret X hr (Or.inl ⟨_, rfl⟩) (rt_e h) dX1_atom_74 (le_p hC) (le_p hZ)
  · refine wm_aload_n X 0 dX1_atom_14 rfl ?_
    obtain ⟨q98, eq98, h⟩ := Option.bind_eq_some_iff.mp h
    obtain ⟨eq98, s99⟩ := rv_some eq98
    refine wm_dV_v (As := []) (st := []) X hS hno cd_3 s99 rfl h hC hZ (fun _ _ _ hF => ctX3_goesDeeper l hl hF) mdX3_goesDeeper mvX3_goesDeeper q1338 dX1_atom_15 rfl (by rw [eq98]; first | done | rfl) c1_0 (Nat.le_of_ble_eq_true rfl) ⟨Nat.le_of_ble_eq_true rfl, Nat.le_of_ble_eq_true rfl⟩ (Nat.le_refl _) (Nat.le_refl _) (fun σ100 c1 z1 C Z _ h hC hZ => ?_)
    refine wm_aload_n X 1 dX1_atom_18 rfl ?_
    obtain ⟨s101, h⟩ := ck_e h
    refine wm_dV_r (As := []) (st := []) X hS hno cd_1 s101 rfl h hC hZ (fun _ _ _ hF => crX1_cond l hl Rf hRf hF) mdX1_cond mvX1_cond q1310 dX1_atom_19 rfl rfl c1_0 (Nat.le_of_ble_eq_true rfl) ⟨rmf (by omega), rml (by omega)⟩ (Nat.le_refl _) (Nat.le_refl _) (fun x102 σ103 c1 z1 C Z _ h hC hZ => ?_)
    refine wm_astore_n (ℓ' := [(2, va_rf x102), (1, va_rf x21), (0, va_rf (some h0))]) X dX1_atom_22 (by decide) rfl ?_
    refine wm_aload_n X 1 dX1_atom_23 rfl ?_
    obtain ⟨q104, eq104, h⟩ := Option.bind_eq_some_iff.mp h
    obtain ⟨eq104, s105⟩ := rv_some eq104
    refine wm_cV_v (As := []) (st := []) X hS cd_3 s105 rfl h (fun _ hF => ctX3_comesUp l hF) mdX3_comesUp mvX3_comesUp q1342 dX1_atom_24 rfl (by rw [eq104]; first | done | rfl) c1_0 (Nat.le_of_ble_eq_true rfl) ⟨Nat.le_of_ble_eq_true rfl, Nat.le_of_ble_eq_true rfl⟩ ⟨le_p hC, le_p hZ⟩ (fun σ106 _ h => ?_)
    refine wm_aload_n X 1 dX1_atom_27 rfl ?_
    refine wm_bipush (v := 41) X dX1_atom_28 (by decide) ?_
    obtain ⟨q107, eq107, h⟩ := Option.bind_eq_some_iff.mp h
    obtain ⟨eq107, s108⟩ := rv_some eq107
    refine wm_cV_i (As := [.int 41]) (st := []) X hS cd_3 s108 rfl h (fun _ _ hF => ctX3_sign l hF) mdX3_sign mvX3_sign q1237 dX1_atom_30 rfl (by rw [eq107]; first | done | rfl) c1_0 (Nat.le_of_ble_eq_true rfl) ⟨Nat.le_of_ble_eq_true rfl, Nat.le_of_ble_eq_true rfl⟩ ⟨le_p hC, le_p hZ⟩ (fun x109 σ110 _ h => ?_)
    refine wm_if_ne X 41 h dX1_atom_33 (by decide) (fun c115 h => ?_) (fun c115 h => ?_)
    · refine wm_aload_n X 0 dX1_atom_41 rfl ?_
      exact wm_xaret X hr (Or.inl ⟨_, rfl⟩) (rt_e h) dX1_atom_42 (le_p hC) (le_p hZ)
    · refine wm_aload_n X 1 dX1_atom_36 rfl ?_
      obtain ⟨q111, eq111, h⟩ := Option.bind_eq_some_iff.mp h
      obtain ⟨eq111, s112⟩ := rv_some eq111
      obtain ⟨C, Z, h, hC, hZ⟩ := pay_d h hC hZ
      refine wm_cV_r (As := []) (st := []) X hS cd_3 s112 rfl h (fun _ _ hF => ctX3_wrong l hF) mdX3_wrong mvX3_wrong q1073 dX1_atom_37 rfl (by rw [eq111]; first | done | rfl) c1_0 (Nat.le_of_ble_eq_true rfl) ⟨Nat.le_of_ble_eq_true rfl, Nat.le_of_ble_eq_true rfl⟩ ⟨le_p hC, le_p hZ⟩ (fun x113 σ114 _ h => ?_)
      exact wm_athrowW X hS hno (thrd_e h) dX1_atom_40 (le_p hC) (le_p hZ)
theorem cdX1_atom (l : Launch) (hl : l.stackTraces = false) (d : Nat) : ∀ (h0 : Nat) (σ : Mm) (xo : (Option Nat × Mm) ⊕ (Nat × Mm)) (mc ms : Nat), FX1_atom d h0 σ = some (xo, mc, ms) → CTXr l yX1_atom (ws_ yX1_atom cX1_atom 3 ((some (FieldType.object "HungFaces$Cond")))) (d * 12) (d * 300) mc ms [va_rf (some h0)] σ xo := by
  induction d with
  | zero => intro h0 σ xo mc ms h; cases h
  | succ d ih =>
    intro h0 σ xo mc ms h
    rw [Nat.succ_mul, Nat.succ_mul]
    exact crX1_atom l hl (FX1_atom d) ih h
theorem ctX1_cond (l : Launch) (hl : l.stackTraces = false) {h0 : Nat} {σ : Mm} {xo : (Option Nat × Mm) ⊕ (Nat × Mm)} {mc ms : Nat} (h : FX1_cond h0 σ = some (xo, mc, ms)) : CTXr l yX1_cond (ws_ yX1_cond cX1_cond 2 ((some (FieldType.object "HungFaces$Cond")))) 105 2635 mc ms [va_rf (some h0)] σ xo := crX1_cond l hl (FX1_atom 8) (cdX1_atom l hl 8) h
theorem ctX1_allOf (l : Launch) (hl : l.stackTraces = false) {h0 : Nat} {σ : Mm} {xo : (Option Nat × Mm) ⊕ (Nat × Mm)} {mc ms : Nat} (h : FX1_allOf h0 σ = some (xo, mc, ms)) : CTXr l yX1_allOf (ws_ yX1_allOf cX1_allOf 2 ((some (FieldType.object "HungFaces$Cond")))) 104 2614 mc ms [va_rf (some h0)] σ xo := crX1_allOf l hl (FX1_atom 8) (cdX1_atom l hl 8) h
theorem mdX11_init : MD yX11_init 2 := by unfold MD; decide +kernel
theorem miX11_init : MI yX11_init cX11_init 3 := ⟨q1494, q158, q1495, rfl⟩
set_option maxHeartbeats 4000000 in
theorem ctX11_init (l : Launch) {h0 : Nat} {x1 : Int32} {x2 : Option Nat} {σ σf : Mm} (h : FX11_init h0 x1 x2 σ = some σf) : CTv l yX11_init (ws_ yX11_init cX11_init 3 (none)) 1 25 0 0 [va_rf (some h0), .int x1, va_rf x2] σ σf := by
  refine ct_start (n := 2) mdX11_init (Nat.le_of_ble_eq_true rfl) (c1_r (c1_i (c1_r c1_0))) (fun p e s m args below meth c D dA sz0 ad0 X hS hr hnm => ?_)
  have X : CX p s m args meth c cX11_init 3 RX11 := X
  generalize mN σ = N0
  unfold FX11_init at h
  refine wm_aload_n X 0 dX11_init_0 rfl ?_
  refine wm_objInit X dX11_init_1 q1496 q179 q180 (Nat.le_of_ble_eq_true rfl) c1_0 (Nat.le_of_ble_eq_true rfl) (Nat.le_of_ble_eq_true rfl) ?_
  refine wm_aload_n X 0 dX11_init_4 rfl ?_
  refine wm_iload_n X 1 dX11_init_5 rfl ?_
  refine wm_pZF X hS cd_11 0 h dX11_init_6 (Nat.le_of_ble_eq_true rfl) rfl q1497 rfl rfl hnm rfl (fun σ21 _ h => ?_)
  refine wm_aload_n X 0 dX11_init_9 rfl ?_
  refine wm_aload_n X 2 dX11_init_10 rfl ?_
  refine wm_pRF X hS cd_11 1 h dX11_init_11 (Nat.le_of_ble_eq_true rfl) rfl q1499 (fun r => by cases r <;> exact ⟨rfl, rfl⟩) rfl hnm rfl (fun σ22 _ h => ?_)
  exact wm_vret X hr h dX11_init_14 (Nat.le_of_ble_eq_true rfl) (Nat.le_of_ble_eq_true rfl)
theorem mdX1_lawLine : MD yX1_lawLine 0 := by unfold MD; decide +kernel
theorem mvX1_lawLine : MV yX1_lawLine cX1_lawLine 3 ((some (FieldType.object "HungFaces$Line"))) := ⟨q1297, qs28, q128, q1298⟩
set_option maxHeartbeats 4000000 in
theorem ctX1_lawLine (l : Launch) (hl : l.stackTraces = false) {h0 : Nat} {σ : Mm} {xo : (Option Nat × Mm) ⊕ (Nat × Mm)} {mc ms : Nat} (h : FX1_lawLine h0 σ = some (xo, mc, ms)) : CTXr l yX1_lawLine (ws_ yX1_lawLine cX1_lawLine 3 ((some (FieldType.object "HungFaces$Line")))) 106 2656 mc ms [va_rf (some h0)] σ xo := by
  refine ctx_start (n := 0) mdX1_lawLine (Nat.le_of_ble_eq_true rfl) (c1_r c1_0) (fun p e s m args below meth c D dA sz0 ad0 X hS hr hnm hno => ?_)
  have X : CX p s m args meth c cX1_lawLine 3 RX1 := X
  have hC : 0 + mc ≤ mc := Nat.le_of_eq (Nat.zero_add mc)
  have hZ : 0 + ms ≤ ms := Nat.le_of_eq (Nat.zero_add ms)
  generalize mN σ = N0
  unfold FX1_lawLine at h
  refine wm_aload_n X 0 dX1_lawLine_0 rfl ?_
  refine wm_gR X hS cd_1 4 h dX1_lawLine_1 (Nat.le_of_ble_eq_true rfl) rfl q441 (fun x21 h => ?_)
  obtain ⟨q22, eq22, h⟩ := Option.bind_eq_some_iff.mp h
  obtain ⟨eq22, s23⟩ := rv_some eq22
  refine wm_dV_r (As := []) (st := []) X hS hno cd_3 s23 rfl h hC hZ (fun _ _ _ hF => ctX3_word l hl hF) mdX3_word mvX3_word q740 dX1_lawLine_4 rfl (by rw [eq22]; first | done | rfl) c1_0 (Nat.le_of_ble_eq_true rfl) ⟨Nat.le_of_ble_eq_true rfl, Nat.le_of_ble_eq_true rfl⟩ (Nat.le_refl _) (Nat.le_refl _) (fun x24 σ25 c1 z1 C Z _ h hC hZ => ?_)
  refine wm_astore_n (ℓ' := [(1, va_rf x24), (0, va_rf (some h0))]) X dX1_lawLine_7 (by decide) rfl ?_
  refine wm_aload_n X 0 dX1_lawLine_8 rfl ?_
  refine wm_ldcSW X hS 7 7 rfl dX1_lawLine_9 ?_
  obtain ⟨q26, eq26, h⟩ := Option.bind_eq_some_iff.mp h
  obtain ⟨eq26, s27⟩ := rv_some eq26
  refine wm_cV_i (As := [va_rf (some (BIG + 2 * 7))]) (st := []) X hS cd_20 s27 rfl h (fun _ _ hF => ctJ6_equalsk01 l hF) mdJ6_equals mvJ6_equals q1163 dX1_lawLine_12 rfl (by rw [eq26]; first | done | rfl) c1_0 (Nat.le_of_ble_eq_true rfl) ⟨Nat.le_of_ble_eq_true rfl, Nat.le_of_ble_eq_true rfl⟩ ⟨le_p hC, le_p hZ⟩ (fun x28 σ29 _ h => ?_)
  refine wm_istore_n (ℓ' := [(2, .int x28), (1, va_rf x24), (0, va_rf (some h0))]) X dX1_lawLine_15 (by decide) rfl ?_
  refine wm_iload_n X 0 dX1_lawLine_16 rfl ?_
  obtain ⟨J38, eJ38, h⟩ := jn_e h
  have hJ38 : ∀  (σ : Mm) (C Z kc kz : Nat), J38  σ = some (xo, C, Z) → kc + C ≤ mc → kz + Z ≤ ms → WMxr p l e s m args below meth c 106 2656 mc ms 3 D dA sz0 ad0 N0 xo kc kz σ [(0, va_rf (some h0)), (2, .int x28)] [] 38 := by
    intro  σ C Z kc kz h hC hZ
    rw [eJ38] at h
    obtain ⟨C, Z, h, hC, hZ⟩ := pay_d h hC hZ
    refine wm_new X hS cd_11 h dX1_lawLine_38 q1301 q1302 q158 (le_p hC) (le_p hZ) (fun x30 σ31 _ h => ?_)
    refine wm_dup X dX1_lawLine_41 (catR _) ?_
    refine wm_iload_n X 1 dX1_lawLine_42 rfl ?_
    refine wm_aload_n X 0 dX1_lawLine_43 rfl ?_
    refine wm_gR X hS cd_1 4 h dX1_lawLine_44 (Nat.le_of_ble_eq_true rfl) rfl q441 (fun x32 h => ?_)
    refine wm_ldcSW X hS 9 9 rfl dX1_lawLine_47 ?_
    obtain ⟨q33, eq33, h⟩ := Option.bind_eq_some_iff.mp h
    obtain ⟨eq33, s34⟩ := rv_some eq33
    refine wm_dV_i (As := [va_rf (some (BIG + 2 * 9))]) (st := [.int x28, va_rf x30, va_rf x30]) X hS hno cd_3 s34 rfl h hC hZ (fun _ _ _ hF => ctX3_passesk01 l hl hF) mdX3_passes mvX3_passes q1304 dX1_lawLine_50 rfl (by rw [eq33]; first | done | rfl) (c1_i (c1_r (c1_r c1_0))) (Nat.le_of_ble_eq_true rfl) ⟨Nat.le_of_ble_eq_true rfl, Nat.le_of_ble_eq_true rfl⟩ (Nat.le_refl _) (Nat.le_refl _) (fun x35 σ36 c1 z1 C Z _ h hC hZ => ?_)
    obtain ⟨J64, eJ64, h⟩ := jn_e h
    have hJ64 : ∀ (z37 : Option Nat) (σ : Mm) (C Z kc kz : Nat), J64 z37 σ = some (xo, C, Z) → kc + C ≤ mc → kz + Z ≤ ms → WMxr p l e s m args below meth c 106 2656 mc ms 3 D dA sz0 ad0 N0 xo kc kz σ [] [va_rf z37, .int x28, va_rf x30, va_rf x30] 64 := by
      intro z37 σ C Z kc kz h hC hZ
      rw [eJ64] at h
      obtain ⟨q38, eq38, h⟩ := Option.bind_eq_some_iff.mp h
      obtain ⟨eq38, s39⟩ := rv_some eq38
      refine wm_cI_v (As := [.int x28, va_rf z37]) (st := [va_rf x30]) X hS h (fun _ hF => ctX11_init l hF) mdX11_init miX11_init q1493 dX1_lawLine_64 rfl (by rw [eq38]; first | done | rfl) (c1_r c1_0) (Nat.le_of_ble_eq_true rfl) ⟨Nat.le_of_ble_eq_true rfl, Nat.le_of_ble_eq_true rfl⟩ ⟨le_p hC, le_p hZ⟩ (fun σ40 _ h => ?_)
      exact wm_xaret X hr (Or.inl ⟨_, rfl⟩) (rt_e h) dX1_lawLine_67 (le_p hC) (le_p hZ)
    clear eJ64
    refine wm_if_eq X 63 h dX1_lawLine_53 (by decide) (fun c44 h => ?_) (fun c44 h => ?_)
    · refine wm_null X dX1_lawLine_63 ?_
      refine wm_sub (ℓ' := []) [] rfl ?_
      exact hJ64 _ _ _ _ _ _ h hC hZ
    · refine wm_aload_n X 0 dX1_lawLine_56 rfl ?_
      obtain ⟨s41, h⟩ := ck_e h
      refine wm_dV_r (As := []) (st := [.int x28, va_rf x30, va_rf x30]) X hS hno cd_1 s41 rfl h hC hZ (fun _ _ _ hF => ctX1_cond l hl hF) mdX1_cond mvX1_cond q1310 dX1_lawLine_57 rfl rfl (c1_i (c1_r (c1_r c1_0))) (Nat.le_of_ble_eq_true rfl) ⟨Nat.le_of_ble_eq_true rfl, Nat.le_of_ble_eq_true rfl⟩ (Nat.le_refl _) (Nat.le_refl _) (fun x42 σ43 c1 z1 C Z _ h hC hZ => ?_)
      refine wm_goto X 64 dX1_lawLine_60 (by decide) ?_
      refine wm_sub (ℓ' := []) [] rfl ?_
      exact hJ64 _ _ _ _ _ _ h hC hZ
  clear eJ38
  refine wm_if_ne X 38 h dX1_lawLine_17 (by decide) (fun c55 h => ?_) (fun c55 h => ?_)
  · refine wm_sub (ℓ' := [(0, va_rf (some h0)), (2, .int x28)]) [2, 0] rfl ?_
    exact hJ38 _ _ _ _ _ h hC hZ
  · refine wm_aload_n X 1 dX1_lawLine_20 rfl ?_
    refine wm_ldcSW X hS 8 8 rfl dX1_lawLine_21 ?_
    obtain ⟨q45, eq45, h⟩ := Option.bind_eq_some_iff.mp h
    obtain ⟨eq45, s46⟩ := rv_some eq45
    refine wm_cV_i (As := [va_rf (some (BIG + 2 * 8))]) (st := []) X hS cd_20 s46 rfl h (fun _ _ hF => ctJ6_equalsk01 l hF) mdJ6_equals mvJ6_equals q1163 dX1_lawLine_24 rfl (by rw [eq45]; first | done | rfl) c1_0 (Nat.le_of_ble_eq_true rfl) ⟨Nat.le_of_ble_eq_true rfl, Nat.le_of_ble_eq_true rfl⟩ ⟨le_p hC, le_p hZ⟩ (fun x47 σ48 _ h => ?_)
    refine wm_if_ne X 38 h dX1_lawLine_27 (by decide) (fun c54 h => ?_) (fun c54 h => ?_)
    · refine wm_sub (ℓ' := [(0, va_rf (some h0)), (2, .int x28)]) [2, 0] rfl ?_
      exact hJ38 _ _ _ _ _ h hC hZ
    · refine wm_aload_n X 2 dX1_lawLine_30 rfl ?_
      refine wm_gR X hS cd_1 4 h dX1_lawLine_31 (Nat.le_of_ble_eq_true rfl) rfl q441 (fun x49 h => ?_)
      obtain ⟨q50, eq50, h⟩ := Option.bind_eq_some_iff.mp h
      obtain ⟨eq50, s51⟩ := rv_some eq50
      obtain ⟨C, Z, h, hC, hZ⟩ := pay_d h hC hZ
      refine wm_cV_r (As := []) (st := []) X hS cd_3 s51 rfl h (fun _ _ hF => ctX3_wrong l hF) mdX3_wrong mvX3_wrong q1073 dX1_lawLine_34 rfl (by rw [eq50]; first | done | rfl) c1_0 (Nat.le_of_ble_eq_true rfl) ⟨Nat.le_of_ble_eq_true rfl, Nat.le_of_ble_eq_true rfl⟩ ⟨le_p hC, le_p hZ⟩ (fun x52 σ53 _ h => ?_)
      exact wm_athrowW X hS hno (thrd_e h) dX1_lawLine_37 (le_p hC) (le_p hZ)
theorem mdX1_lawText : MD yX1_lawText 0 := by unfold MD; decide +kernel
theorem mvX1_lawText : MV yX1_lawText cX1_lawText 2 ((some (FieldType.object "HungFaces$Law"))) := ⟨q1280, qs27, q128, q1281⟩
set_option maxHeartbeats 4000000 in
theorem wX1_lawText_20 {p : Program} {l : Launch} {e : Env} {s : State} {m : MethodId} {args : Array Value} {below : List Frame} {meth : Method} {c : Code} {D : va_G} {dA : Nat → ClassId} {sz0 : Nat} {ad0 : Nat → Nat} {N0 : Nat} {xo : (Option Nat × Mm) ⊕ (Nat × Mm)} {mc ms : Nat} (X : CX p s m args meth c cX1_lawText 2 RX1) (hS : ST D dA sz0 ad0 s) (hr : meth.sig.returnType = (some (FieldType.object "HungFaces$Law"))) (hnm : meth.name = yX1_lawText.name) (hl : l.stackTraces = false) (hno : ∀ x ∈ c.exceptionTable.toList, False) (h0 : Nat) (y1 : Option Nat) : ∀ (n : Nat)  (σ : Mm) (kx52 : Mm → DX (Option Nat × Mm)) (C Z kc kz : Nat), FX1_lawText_20 h0 y1 n σ kx52 = some (xo, C, Z) → kc + C ≤ mc → kz + Z ≤ ms → (∀  (σ : Mm) (C Z kc kz : Nat), kx52 σ = some (xo, C, Z) → kc + C ≤ mc → kz + Z ≤ ms → WMxr p l e s m args below meth c 107 2678 mc ms 2 D dA sz0 ad0 N0 xo kc kz σ [(1, va_rf y1)] [] 52) → WMxr p l e s m args below meth c 107 2678 mc ms 2 D dA sz0 ad0 N0 xo kc kz σ [(0, va_rf (some h0)), (1, va_rf y1)] [] 20 := by
  intro n
  induction n with
  | zero =>
    intro σ kx52 C Z kc kz h hC hZ hkx52
    cases h
  | succ n ih =>
    intro σ kx52 C Z kc kz h hC hZ hkx52
    rw [FX1_lawText_20] at h
    refine wm_aload_n X 0 dX1_lawText_20 rfl ?_
    refine wm_aload_n X 1 dX1_lawText_21 rfl ?_
    refine wm_gRN X hS cd_10 0 h dX1_lawText_22 (Nat.le_of_ble_eq_true rfl) rfl 42 rfl (fun x31 h => ?_)
    obtain ⟨q32, eq32, h⟩ := Option.bind_eq_some_iff.mp h
    obtain ⟨eq32, s33⟩ := rv_some eq32
    refine wm_cV_i (As := []) (st := [va_rf (some h0)]) X hS cd_17 s33 rfl h (fun _ _ hF => ctJ3_size l hF) mdJ3_size mvJ3_size q652 dX1_lawText_25 rfl (by rw [eq32]; first | done | rfl) (c1_r c1_0) (Nat.le_of_ble_eq_true rfl) ⟨Nat.le_of_ble_eq_true rfl, Nat.le_of_ble_eq_true rfl⟩ ⟨le_p hC, le_p hZ⟩ (fun x34 σ35 _ h => ?_)
    refine wm_bipush (v := 12) X dX1_lawText_28 (by decide) ?_
    obtain ⟨s36, h⟩ := ck_e h
    refine wm_dV_v (As := [.int x34, .int 12]) (st := []) X hS hno cd_1 s36 rfl h hC hZ (fun _ _ _ hF => ctX1_noMore l hl hF) mdX1_noMore mvX1_noMore q736 dX1_lawText_30 rfl rfl c1_0 (Nat.le_of_ble_eq_true rfl) ⟨Nat.le_of_ble_eq_true rfl, Nat.le_of_ble_eq_true rfl⟩ (Nat.le_refl _) (Nat.le_refl _) (fun σ37 c1 z1 C Z _ h hC hZ => ?_)
    refine wm_aload_n X 1 dX1_lawText_33 rfl ?_
    refine wm_gRN X hS cd_10 0 h dX1_lawText_34 (Nat.le_of_ble_eq_true rfl) rfl 42 rfl (fun x38 h => ?_)
    refine wm_aload_n X 0 dX1_lawText_37 rfl ?_
    obtain ⟨s39, h⟩ := ck_e h
    refine wm_dV_r (As := []) (st := [va_rf x38]) X hS hno cd_1 s39 rfl h hC hZ (fun _ _ _ hF => ctX1_lawLine l hl hF) mdX1_lawLine mvX1_lawLine q1295 dX1_lawText_38 rfl rfl (c1_r c1_0) (Nat.le_of_ble_eq_true rfl) ⟨Nat.le_of_ble_eq_true rfl, Nat.le_of_ble_eq_true rfl⟩ (Nat.le_refl _) (Nat.le_refl _) (fun x40 σ41 c1 z1 C Z _ h hC hZ => ?_)
    obtain ⟨q42, eq42, h⟩ := Option.bind_eq_some_iff.mp h
    obtain ⟨eq42, s43⟩ := rv_some eq42
    refine wm_dV_i (As := [va_rf x40]) (st := []) X hS hno cd_17 s43 rfl h hC hZ (fun _ _ _ hF => ctJ3_add l hl hF) mdJ3_add mvJ3_add q1417 dX1_lawText_41 rfl (by rw [eq42]; first | done | rfl) c1_0 (Nat.le_of_ble_eq_true rfl) ⟨Nat.le_of_ble_eq_true rfl, Nat.le_of_ble_eq_true rfl⟩ (Nat.le_refl _) (Nat.le_refl _) (fun x44 σ45 c1 z1 C Z _ h hC hZ => ?_)
    refine wm_pop X dX1_lawText_44 rfl ?_
    refine wm_aload_n X 0 dX1_lawText_45 rfl ?_
    obtain ⟨s46, h⟩ := ck_e h
    refine wm_dV_i (As := []) (st := []) X hS hno cd_1 s46 rfl h hC hZ (fun _ _ _ hF => ctX1_goesOn l hl hF) mdX1_goesOn mvX1_goesOn q1233 dX1_lawText_46 rfl rfl c1_0 (Nat.le_of_ble_eq_true rfl) ⟨Nat.le_of_ble_eq_true rfl, Nat.le_of_ble_eq_true rfl⟩ (Nat.le_refl _) (Nat.le_refl _) (fun x47 σ48 c1 z1 C Z _ h hC hZ => ?_)
    refine wm_if_ne X 20 h dX1_lawText_49 (by decide) (fun c49 h => ?_) (fun c49 h => ?_)
    · exact ih _ _ _ _ _ _ h hC hZ hkx52
    · refine wm_sub (ℓ' := [(1, va_rf y1)]) [1] rfl ?_
      exact hkx52 _ _ _ _ _ h hC hZ
set_option maxHeartbeats 4000000 in
theorem ctX1_lawText (l : Launch) (hl : l.stackTraces = false) {h0 : Nat} {σ : Mm} {xo : (Option Nat × Mm) ⊕ (Nat × Mm)} {mc ms : Nat} (h : FX1_lawText h0 σ = some (xo, mc, ms)) : CTXr l yX1_lawText (ws_ yX1_lawText cX1_lawText 2 ((some (FieldType.object "HungFaces$Law")))) 107 2678 mc ms [va_rf (some h0)] σ xo := by
  refine ctx_start (n := 0) mdX1_lawText (Nat.le_of_ble_eq_true rfl) (c1_r c1_0) (fun p e s m args below meth c D dA sz0 ad0 X hS hr hnm hno => ?_)
  have X : CX p s m args meth c cX1_lawText 2 RX1 := X
  have hC : 0 + mc ≤ mc := Nat.le_of_eq (Nat.zero_add mc)
  have hZ : 0 + ms ≤ ms := Nat.le_of_eq (Nat.zero_add ms)
  generalize mN σ = N0
  unfold FX1_lawText at h
  obtain ⟨C, Z, h, hC, hZ⟩ := pay_d h hC hZ
  refine wm_new X hS cd_10 h dX1_lawText_0 q1282 q1283 q157 (le_p hC) (le_p hZ) (fun x21 σ22 _ h => ?_)
  refine wm_dup X dX1_lawText_3 (catR _) ?_
  obtain ⟨q23, eq23, h⟩ := Option.bind_eq_some_iff.mp h
  obtain ⟨eq23, s24⟩ := rv_some eq23
  obtain ⟨C, Z, h, hC, hZ⟩ := pay_d h hC hZ
  refine wm_cIN_v (As := []) (st := [va_rf x21]) X hS h (fun _ hF => ctX10_init l hF) mdX10_init miX10_init 41 rfl dX1_lawText_4 rfl (by rw [eq23]; first | done | rfl) (c1_r c1_0) (Nat.le_of_ble_eq_true rfl) ⟨Nat.le_of_ble_eq_true rfl, Nat.le_of_ble_eq_true rfl⟩ ⟨le_p hC, le_p hZ⟩ (fun σ25 _ h => ?_)
  refine wm_astore_n (ℓ' := [(1, va_rf x21), (0, va_rf (some h0))]) X dX1_lawText_7 (by decide) rfl ?_
  refine wm_aload_n X 1 dX1_lawText_8 rfl ?_
  refine wm_gR X hS cd_1 4 h dX1_lawText_9 (Nat.le_of_ble_eq_true rfl) rfl q441 (fun x26 h => ?_)
  obtain ⟨q27, eq27, h⟩ := Option.bind_eq_some_iff.mp h
  obtain ⟨eq27, s28⟩ := rv_some eq27
  refine wm_cV_i (As := []) (st := []) X hS cd_3 s28 rfl h (fun _ _ hF => ctX3_isOver l hF) mdX3_isOver mvX3_isOver q724 dX1_lawText_12 rfl (by rw [eq27]; first | done | rfl) c1_0 (Nat.le_of_ble_eq_true rfl) ⟨Nat.le_of_ble_eq_true rfl, Nat.le_of_ble_eq_true rfl⟩ ⟨le_p hC, le_p hZ⟩ (fun x29 σ30 _ h => ?_)
  refine wm_if_eq X 20 h dX1_lawText_15 (by decide) (fun c50 h => ?_) (fun c50 h => ?_)
  · refine wm_sub (ℓ' := [(0, va_rf (some h0)), (1, va_rf x21)]) [1, 0] rfl ?_
    refine wX1_lawText_20 X hS hr hnm hl hno _ _ fu _ _ _ _ _ _ h hC hZ (fun σ C Z kc kz h hC hZ => ?_)
    · refine wm_aload_n X 0 dX1_lawText_52 rfl ?_
      exact wm_xaret X hr (Or.inl ⟨_, rfl⟩) (rt_e h) dX1_lawText_53 (le_p hC) (le_p hZ)
  · refine wm_aload_n X 0 dX1_lawText_18 rfl ?_
    exact wm_xaret X hr (Or.inl ⟨_, rfl⟩) (rt_e h) dX1_lawText_19 (le_p hC) (le_p hZ)
theorem mdX1_law : MD yX1_law 0 := by unfold MD; decide +kernel
theorem mvX1_law : MVW yX1_law cX1_law 2 ((some FieldType.int)) [(7, 26, 29, 243)] := ⟨q1275, q1276, q128, q1277⟩
set_option maxHeartbeats 4000000 in
theorem ctX1_law (l : Launch) (hl : l.stackTraces = false) {h0 : Nat} {σ : Mm} {xo : (Int32 × Mm) ⊕ (Nat × Mm)} {mc ms : Nat} (h : FX1_law h0 σ = some (xo, mc, ms)) : CTXi l yX1_law (wsW_ yX1_law cX1_law 2 ((some FieldType.int)) [(7, 26, 29, 243)]) 108 2699 mc ms [va_rf (some h0)] σ xo := by
  refine ctxW_start (n := 0) mdX1_law (Nat.le_of_ble_eq_true rfl) (c1_r c1_0) (fun p e s m args below meth c D dA sz0 ad0 X hS hr hnm hno => ?_)
  have X : CX p s m args meth c cX1_law 2 RX1 := X
  have hC : 0 + mc ≤ mc := Nat.le_of_eq (Nat.zero_add mc)
  have hZ : 0 + ms ≤ ms := Nat.le_of_eq (Nat.zero_add ms)
  generalize mN σ = N0
  unfold FX1_law at h
  refine wm_aload_n X 0 dX1_law_0 rfl ?_
  refine wm_gR X hS cd_1 4 h dX1_law_1 (Nat.le_of_ble_eq_true rfl) rfl q441 (fun x21 h => ?_)
  obtain ⟨q22, eq22, h⟩ := Option.bind_eq_some_iff.mp h
  obtain ⟨eq22, s23⟩ := rv_some eq22
  refine wm_cV_v (As := []) (st := []) X hS cd_3 s23 rfl h (fun _ hF => ctX3_begins l hF) mdX3_begins mvX3_begins q716 dX1_law_4 rfl (by rw [eq22]; first | done | rfl) c1_0 (Nat.le_of_ble_eq_true rfl) ⟨Nat.le_of_ble_eq_true rfl, Nat.le_of_ble_eq_true rfl⟩ ⟨le_p hC, le_p hZ⟩ (fun σ24 _ h => ?_)
  refine wm_aload_n X 0 dX1_law_7 rfl ?_
  refine wm_gR X hS cd_1 0 h dX1_law_8 (Nat.le_of_ble_eq_true rfl) rfl q434 (fun x25 h => ?_)
  refine wm_aload_n X 0 dX1_law_11 rfl ?_
  obtain ⟨J34, eJ34, h⟩ := jn_e h
  have hJ34 : ∀  (σ : Mm) (C Z kc kz : Nat), J34  σ = some (xo, C, Z) → kc + C ≤ mc → kz + Z ≤ ms → WMxi p l e s m args below meth c 108 2699 mc ms 2 D dA sz0 ad0 N0 xo kc kz σ [(0, va_rf (some h0))] [] 34 := by
    intro  σ C Z kc kz h hC hZ
    rw [eJ34] at h
    refine wm_aload_n X 0 dX1_law_34 rfl ?_
    refine wm_gR X hS cd_1 6 h dX1_law_35 (Nat.le_of_ble_eq_true rfl) rfl q444 (fun x28 h => ?_)
    obtain ⟨q29, eq29, h⟩ := Option.bind_eq_some_iff.mp h
    obtain ⟨eq29, s30⟩ := rv_some eq29
    refine wm_cV_v (As := []) (st := []) X hS cd_17 s30 rfl h (fun _ hF => ctJ3_clear l hF) mdJ3_clear mvJ3_clear q689 dX1_law_38 rfl (by rw [eq29]; first | done | rfl) c1_0 (Nat.le_of_ble_eq_true rfl) ⟨Nat.le_of_ble_eq_true rfl, Nat.le_of_ble_eq_true rfl⟩ ⟨le_p hC, le_p hZ⟩ (fun σ31 _ h => ?_)
    refine wm_aload_n X 0 dX1_law_41 rfl ?_
    refine wm_gR X hS cd_1 0 h dX1_law_42 (Nat.le_of_ble_eq_true rfl) rfl q434 (fun x32 h => ?_)
    refine wm_gRN X hS cd_2 19 h dX1_law_45 (Nat.le_of_ble_eq_true rfl) rfl 19 rfl (fun x33 h => ?_)
    refine wm_gRN X hS cd_10 0 h dX1_law_48 (Nat.le_of_ble_eq_true rfl) rfl 42 rfl (fun x34 h => ?_)
    obtain ⟨q35, eq35, h⟩ := Option.bind_eq_some_iff.mp h
    obtain ⟨eq35, s36⟩ := rv_some eq35
    refine wm_cV_i (As := []) (st := []) X hS cd_17 s36 rfl h (fun _ _ hF => ctJ3_size l hF) mdJ3_size mvJ3_size q652 dX1_law_51 rfl (by rw [eq35]; first | done | rfl) c1_0 (Nat.le_of_ble_eq_true rfl) ⟨Nat.le_of_ble_eq_true rfl, Nat.le_of_ble_eq_true rfl⟩ ⟨le_p hC, le_p hZ⟩ (fun x37 σ38 _ h => ?_)
    exact wm_xiret X hr (rt_e h) dX1_law_54 (le_p hC) (le_p hZ)
  clear eJ34
  obtain ⟨s26, h⟩ := ck_e h
  refine wm_tV_r (As := []) (st := [va_rf x25]) X hS cd_1 s26 rfl h hC hZ (fun _ _ _ hF => ctX1_lawText l hl hF) mdX1_lawText mvX1_lawText q1278 dX1_law_12 rfl rfl (c1_r c1_0) (Nat.le_of_ble_eq_true rfl) ⟨Nat.le_of_ble_eq_true rfl, Nat.le_of_ble_eq_true rfl⟩ (Nat.le_refl _) (Nat.le_refl _) (fun x39 σ27 c1 z1 C Z _ h hC hZ => ?_) (fun k43 σ44 c1 z1 C Z _ h hC hZ => ?_)
  · refine wm_pRN X hS cd_2 19 h dX1_law_15 (Nat.le_of_ble_eq_true rfl) rfl 19 rfl (fun r => by cases r <;> exact ⟨rfl, rfl⟩) rfl (fun σ40 _ h => ?_)
    refine wm_aload_n X 0 dX1_law_18 rfl ?_
    refine wm_gR X hS cd_1 4 h dX1_law_19 (Nat.le_of_ble_eq_true rfl) rfl q441 (fun x41 h => ?_)
    refine wm_iconst (v := (-1)) X dX1_law_22 (by decide) ?_
    refine wm_pIN X hS cd_3 5 h dX1_law_23 (Nat.le_of_ble_eq_true rfl) rfl 25 rfl rfl rfl (fun σ42 _ h => ?_)
    refine wm_goto X 34 dX1_law_26 (by decide) ?_
    exact hJ34 _ _ _ _ _ h hC hZ
  · refine ifx_e h (fun c47 h => ?_) (fun c47 h => ?_)
    · subst c47
      refine wx_catch (k := 1) (i := 1) (len := 1) (name := "HungFaces$Wrong") X hS [] ⟨7, 26, 29, 243⟩ [] hno (fun z hz => by cases hz) (by decide) (by decide) q715 82 rfl (Or.inl ⟨1, rfl, dX1_law_29, rfl⟩) (by decide) (List.forall_mem_cons.mpr ⟨by dsimp only; decide, (fun z hz => by cases hz)⟩) ?_
      refine wm_aload_n X 0 dX1_law_30 rfl ?_
      obtain ⟨s45, h⟩ := ck_e h
      refine wm_dV_vC (As := []) (st := []) X hS (by rw [hno]; decide) cd_1 s45 rfl h hC hZ (fun _ _ _ hF => ctX1_fails l hl hF) mdX1_fails mvX1_fails q1241 dX1_law_31 rfl rfl c1_0 (Nat.le_of_ble_eq_true rfl) ⟨Nat.le_of_ble_eq_true rfl, Nat.le_of_ble_eq_true rfl⟩ (Nat.le_refl _) (Nat.le_refl _) (fun σ46 c1 z1 C Z _ h hC hZ => ?_)
      exact hJ34 _ _ _ _ _ h hC hZ
    · cases h
theorem mdX1_there : MD yX1_there 2 := by unfold MD; decide +kernel
theorem msX1_there : MS yX1_there cX1_there 2 (none) := ⟨q1538, q128, q1539⟩
set_option maxHeartbeats 4000000 in
theorem ctX1_there (l : Launch) (hl : l.stackTraces = false) {x0 : Int32} {x1 : Int32} {σ : Mm} {xo : Mm ⊕ (Nat × Mm)} {mc ms : Nat} (h : FX1_there x0 x1 σ = some (xo, mc, ms)) : CTXv l yX1_there (ws_ yX1_there cX1_there 2 (none)) 6 110 mc ms [.int x0, .int x1] σ xo := by
  refine ctx_start (n := 2) mdX1_there (Nat.le_of_ble_eq_true rfl) (c1_i (c1_i c1_0)) (fun p e s m args below meth c D dA sz0 ad0 X hS hr hnm hno => ?_)
  have X : CX p s m args meth c cX1_there 2 RX1 := X
  have hC : 0 + mc ≤ mc := Nat.le_of_eq (Nat.zero_add mc)
  have hZ : 0 + ms ≤ ms := Nat.le_of_eq (Nat.zero_add ms)
  generalize mN σ = N0
  unfold FX1_there at h
  refine wm_iload_n X 0 dX1_there_0 rfl ?_
  refine wm_iconst (v := 0) X dX1_there_1 (by decide) ?_
  refine wm_iload_n X 1 dX1_there_2 rfl ?_
  refine wm_iconst (v := 1) X dX1_there_3 (by decide) ?_
  refine wm_isub X dX1_there_4 ?_
  refine wm_cS_i (As := [.int x0, .int 0, .int (x1 - 1)]) (st := []) X hS h (fun _ _ hF => ctX1_in l hF) mdX1_in msX1_in q625 dX1_there_5 rfl rfl c1_0 (Nat.le_of_ble_eq_true rfl) ⟨Nat.le_of_ble_eq_true rfl, Nat.le_of_ble_eq_true rfl⟩ ⟨le_p hC, le_p hZ⟩ (fun x21 σ22 _ h => ?_)
  refine wm_if_ne X 19 h dX1_there_8 (by decide) (fun c23 h => ?_) (fun c23 h => ?_)
  · exact wm_xvret X hr (rt_e h) dX1_there_19 (le_p hC) (le_p hZ)
  · obtain ⟨h9, rfl, rfl⟩ := thw_e h
    exact wm_throw0 (k := 2) X hS hl hno h9 rfl at2 q1540 q167 (by decide +kernel) (by decide +kernel) dX1_there_11 dX1_there_14 dX1_there_15 dX1_there_18 c1_0 (Nat.le_of_ble_eq_true rfl) (Nat.le_of_ble_eq_true rfl) (Nat.le_of_ble_eq_true rfl) hC hZ hC hZ
theorem mdX1_personAt : MD yX1_personAt 1 := by unfold MD; decide +kernel
theorem mvX1_personAt : MV yX1_personAt cX1_personAt 2 (none) := ⟨q1535, qs37, q128, q1536⟩
set_option maxHeartbeats 4000000 in
theorem ctX1_personAt (l : Launch) (hl : l.stackTraces = false) {h0 : Nat} {x1 : Int32} {σ : Mm} {xo : Mm ⊕ (Nat × Mm)} {mc ms : Nat} (h : FX1_personAt h0 x1 σ = some (xo, mc, ms)) : CTXv l yX1_personAt (ws_ yX1_personAt cX1_personAt 2 (none)) 7 131 mc ms [va_rf (some h0), .int x1] σ xo := by
  refine ctx_start (n := 1) mdX1_personAt (Nat.le_of_ble_eq_true rfl) (c1_r (c1_i c1_0)) (fun p e s m args below meth c D dA sz0 ad0 X hS hr hnm hno => ?_)
  have X : CX p s m args meth c cX1_personAt 2 RX1 := X
  have hC : 0 + mc ≤ mc := Nat.le_of_eq (Nat.zero_add mc)
  have hZ : 0 + ms ≤ ms := Nat.le_of_eq (Nat.zero_add ms)
  generalize mN σ = N0
  unfold FX1_personAt at h
  refine wm_iload_n X 1 dX1_personAt_0 rfl ?_
  refine wm_aload_n X 0 dX1_personAt_1 rfl ?_
  refine wm_gR X hS cd_1 0 h dX1_personAt_2 (Nat.le_of_ble_eq_true rfl) rfl q434 (fun x21 h => ?_)
  refine wm_gIN X hS cd_2 1 h dX1_personAt_5 (Nat.le_of_ble_eq_true rfl) rfl 1 rfl (fun x22 h => ?_)
  refine wm_dS_v (As := [.int x1, .int x22]) (st := []) X hS hno h hC hZ (fun _ _ _ hF => ctX1_there l hl hF) mdX1_there msX1_there q1537 dX1_personAt_8 rfl rfl c1_0 (Nat.le_of_ble_eq_true rfl) ⟨Nat.le_of_ble_eq_true rfl, Nat.le_of_ble_eq_true rfl⟩ (Nat.le_refl _) (Nat.le_refl _) (fun σ23 c1 z1 C Z _ h hC hZ => ?_)
  exact wm_xvret X hr (rt_e h) dX1_personAt_11 (le_p hC) (le_p hZ)
theorem mdX1_question : MD yX1_question 2 := by unfold MD; decide +kernel
theorem msX1_question : MS yX1_question cX1_question 2 (none) := ⟨q1556, q128, q1557⟩
set_option maxHeartbeats 4000000 in
theorem ctX1_question (l : Launch) (hl : l.stackTraces = false) {x0 : Int32} {x1 : Int32} {σ : Mm} {xo : Mm ⊕ (Nat × Mm)} {mc ms : Nat} (h : FX1_question x0 x1 σ = some (xo, mc, ms)) : CTXv l yX1_question (ws_ yX1_question cX1_question 2 (none)) 6 110 mc ms [.int x0, .int x1] σ xo := by
  refine ctx_start (n := 2) mdX1_question (Nat.le_of_ble_eq_true rfl) (c1_i (c1_i c1_0)) (fun p e s m args below meth c D dA sz0 ad0 X hS hr hnm hno => ?_)
  have X : CX p s m args meth c cX1_question 2 RX1 := X
  have hC : 0 + mc ≤ mc := Nat.le_of_eq (Nat.zero_add mc)
  have hZ : 0 + ms ≤ ms := Nat.le_of_eq (Nat.zero_add ms)
  generalize mN σ = N0
  unfold FX1_question at h
  refine wm_iload_n X 0 dX1_question_0 rfl ?_
  refine wm_iconst (v := 0) X dX1_question_1 (by decide) ?_
  refine wm_iload_n X 1 dX1_question_2 rfl ?_
  refine wm_cS_i (As := [.int x0, .int 0, .int x1]) (st := []) X hS h (fun _ _ hF => ctX1_in l hF) mdX1_in msX1_in q625 dX1_question_3 rfl rfl c1_0 (Nat.le_of_ble_eq_true rfl) ⟨Nat.le_of_ble_eq_true rfl, Nat.le_of_ble_eq_true rfl⟩ ⟨le_p hC, le_p hZ⟩ (fun x21 σ22 _ h => ?_)
  refine wm_if_ne X 17 h dX1_question_6 (by decide) (fun c23 h => ?_) (fun c23 h => ?_)
  · exact wm_xvret X hr (rt_e h) dX1_question_17 (le_p hC) (le_p hZ)
  · obtain ⟨h9, rfl, rfl⟩ := thw_e h
    exact wm_throw0 (k := 5) X hS hl hno h9 rfl at5 q1558 q169 (by decide +kernel) (by decide +kernel) dX1_question_9 dX1_question_12 dX1_question_13 dX1_question_16 c1_0 (Nat.le_of_ble_eq_true rfl) (Nat.le_of_ble_eq_true rfl) (Nat.le_of_ble_eq_true rfl) hC hZ hC hZ
theorem mdX1_person : MD yX1_person 2 := by unfold MD; decide +kernel
theorem mvX1_person : MV yX1_person cX1_person 4 ((some FieldType.int)) := ⟨q1530, q1531, q128, q1532⟩
set_option maxHeartbeats 4000000 in
theorem ctX1_person (l : Launch) (hl : l.stackTraces = false) {h0 : Nat} {x1 : Int32} {x2 : Int32} {σ : Mm} {xo : (Int32 × Mm) ⊕ (Nat × Mm)} {mc ms : Nat} (h : FX1_person h0 x1 x2 σ = some (xo, mc, ms)) : CTXi l yX1_person (ws_ yX1_person cX1_person 4 ((some FieldType.int))) 8 152 mc ms [va_rf (some h0), .int x1, .int x2] σ xo := by
  refine ctx_start (n := 2) mdX1_person (Nat.le_of_ble_eq_true rfl) (c1_r (c1_i (c1_i c1_0))) (fun p e s m args below meth c D dA sz0 ad0 X hS hr hnm hno => ?_)
  have X : CX p s m args meth c cX1_person 4 RX1 := X
  have hC : 0 + mc ≤ mc := Nat.le_of_eq (Nat.zero_add mc)
  have hZ : 0 + ms ≤ ms := Nat.le_of_eq (Nat.zero_add ms)
  generalize mN σ = N0
  unfold FX1_person at h
  refine wm_aload_n X 0 dX1_person_0 rfl ?_
  refine wm_iload_n X 1 dX1_person_1 rfl ?_
  obtain ⟨s21, h⟩ := ck_e h
  refine wm_dV_v (As := [.int x1]) (st := []) X hS hno cd_1 s21 rfl h hC hZ (fun _ _ _ hF => ctX1_personAt l hl hF) mdX1_personAt mvX1_personAt q1533 dX1_person_2 rfl rfl c1_0 (Nat.le_of_ble_eq_true rfl) ⟨Nat.le_of_ble_eq_true rfl, Nat.le_of_ble_eq_true rfl⟩ (Nat.le_refl _) (Nat.le_refl _) (fun σ22 c1 z1 C Z _ h hC hZ => ?_)
  refine wm_iload_n X 2 dX1_person_5 rfl ?_
  refine wm_iconst (v := 5) X dX1_person_6 (by decide) ?_
  refine wm_dS_v (As := [.int x2, .int 5]) (st := []) X hS hno h hC hZ (fun _ _ _ hF => ctX1_question l hl hF) mdX1_question msX1_question q1555 dX1_person_7 rfl rfl c1_0 (Nat.le_of_ble_eq_true rfl) ⟨Nat.le_of_ble_eq_true rfl, Nat.le_of_ble_eq_true rfl⟩ (Nat.le_refl _) (Nat.le_refl _) (fun σ23 c1 z1 C Z _ h hC hZ => ?_)
  refine wm_aload_n X 0 dX1_person_10 rfl ?_
  refine wm_gR X hS cd_1 0 h dX1_person_11 (Nat.le_of_ble_eq_true rfl) rfl q434 (fun x24 h => ?_)
  refine wm_astore_n (ℓ' := [(3, va_rf x24), (0, va_rf (some h0)), (1, .int x1), (2, .int x2)]) X dX1_person_14 (by decide) rfl ?_
  refine wm_iload_n X 3 dX1_person_15 rfl ?_
  refine ifx_e h (fun c25 h => ?_) (fun c25 h => ?_)
  · refine wm_tabIn (tgt := 52) X (0 : Int32) c25 dX1_person_16 (by decide) (by decide) rfl (by decide) ?_
    refine wm_aload_n X 0 dX1_person_52 rfl ?_
    refine wm_gRN X hS cd_2 9 h dX1_person_53 (Nat.le_of_ble_eq_true rfl) rfl 9 rfl (fun x26 h => ?_)
    refine wm_iload_n X 2 dX1_person_56 rfl ?_
    refine wm_iaload X hS h dX1_person_57 (fun x27 h => ?_)
    exact wm_xiret X hr (rt_e h) dX1_person_58 (le_p hC) (le_p hZ)
  · refine ifx_e h (fun c28 h => ?_) (fun c28 h => ?_)
    · refine wm_tabIn (tgt := 59) X (1 : Int32) c28 dX1_person_16 (by decide) (by decide) rfl (by decide) ?_
      refine wm_aload_n X 0 dX1_person_59 rfl ?_
      refine wm_gRN X hS cd_2 10 h dX1_person_60 (Nat.le_of_ble_eq_true rfl) rfl 10 rfl (fun x29 h => ?_)
      refine wm_iload_n X 2 dX1_person_63 rfl ?_
      refine wm_iaload X hS h dX1_person_64 (fun x30 h => ?_)
      exact wm_xiret X hr (rt_e h) dX1_person_65 (le_p hC) (le_p hZ)
    · refine ifx_e h (fun c31 h => ?_) (fun c31 h => ?_)
      · refine wm_tabIn (tgt := 66) X (2 : Int32) c31 dX1_person_16 (by decide) (by decide) rfl (by decide) ?_
        refine wm_aload_n X 0 dX1_person_66 rfl ?_
        refine wm_gRN X hS cd_2 11 h dX1_person_67 (Nat.le_of_ble_eq_true rfl) rfl 11 rfl (fun x32 h => ?_)
        refine wm_iload_n X 2 dX1_person_70 rfl ?_
        refine wm_iaload X hS h dX1_person_71 (fun x33 h => ?_)
        exact wm_xiret X hr (rt_e h) dX1_person_72 (le_p hC) (le_p hZ)
      · refine ifx_e h (fun c34 h => ?_) (fun c34 h => ?_)
        · refine wm_tabIn (tgt := 73) X (3 : Int32) c34 dX1_person_16 (by decide) (by decide) rfl (by decide) ?_
          refine wm_aload_n X 0 dX1_person_73 rfl ?_
          refine wm_gRN X hS cd_2 12 h dX1_person_74 (Nat.le_of_ble_eq_true rfl) rfl 12 rfl (fun x35 h => ?_)
          refine wm_iload_n X 2 dX1_person_77 rfl ?_
          refine wm_iaload X hS h dX1_person_78 (fun x36 h => ?_)
          exact wm_xiret X hr (rt_e h) dX1_person_79 (le_p hC) (le_p hZ)
        · refine ifx_e h (fun c37 h => ?_) (fun c37 h => ?_)
          · refine wm_tabIn (tgt := 80) X (4 : Int32) c37 dX1_person_16 (by decide) (by decide) rfl (by decide) ?_
            refine wm_aload_n X 0 dX1_person_80 rfl ?_
            refine wm_gRN X hS cd_2 13 h dX1_person_81 (Nat.le_of_ble_eq_true rfl) rfl 13 rfl (fun x38 h => ?_)
            refine wm_iload_n X 2 dX1_person_84 rfl ?_
            refine wm_iaload X hS h dX1_person_85 (fun x39 h => ?_)
            exact wm_xiret X hr (rt_e h) dX1_person_86 (le_p hC) (le_p hZ)
          · refine wm_tabOut (tgt := 87) X dX1_person_16 (by have t0 := lv_neT c25 (by decide : (0 : Int32).toInt = 0); have t1 := lv_neT c28 (by decide : (1 : Int32).toInt = 1); have t2 := lv_neT c31 (by decide : (2 : Int32).toInt = 2); have t3 := lv_neT c34 (by decide : (3 : Int32).toInt = 3); have t4 := lv_neT c37 (by decide : (4 : Int32).toInt = 4); omega) (by decide) ?_
            refine wm_aload_n X 1 dX1_person_87 rfl ?_
            refine wm_iload_n X 2 dX1_person_88 rfl ?_
            obtain ⟨s40, h⟩ := ck_e h
            refine wm_cV_i (As := [.int x1]) (st := []) X hS cd_1 s40 rfl h (fun _ _ hF => ctX1_ringOf l hF) mdX1_ringOf mvX1_ringOf q531 dX1_person_89 rfl rfl c1_0 (Nat.le_of_ble_eq_true rfl) ⟨Nat.le_of_ble_eq_true rfl, Nat.le_of_ble_eq_true rfl⟩ ⟨le_p hC, le_p hZ⟩ (fun x41 σ42 _ h => ?_)
            exact wm_xiret X hr (rt_e h) dX1_person_92 (le_p hC) (le_p hZ)
theorem mdX1_alike : MD yX1_alike 1 := by unfold MD; decide +kernel
theorem mvX1_alike : MV yX1_alike cX1_alike 4 ((some FieldType.int)) := ⟨q1582, qs38, q128, q1583⟩
set_option maxHeartbeats 4000000 in
theorem wX1_alike_4 {p : Program} {l : Launch} {e : Env} {s : State} {m : MethodId} {args : Array Value} {below : List Frame} {meth : Method} {c : Code} {D : va_G} {dA : Nat → ClassId} {sz0 : Nat} {ad0 : Nat → Nat} {N0 : Nat} {r : Int32} {σf : Mm} (X : CX p s m args meth c cX1_alike 4 RX1) (hS : ST D dA sz0 ad0 s) (hr : meth.sig.returnType = (some FieldType.int)) (hnm : meth.name = yX1_alike.name) (h0 : Nat) (y1 : Int32) : ∀ (n : Nat) (v2 : Int32) (v3 : Int32) (σ : Mm) (kx57 : Int32 → Mm → Option (Int32 × Mm)), FX1_alike_4 h0 y1 n v2 v3 σ kx57 = some (r, σf) → (∀ (w2 : Int32) (σ : Mm), kx57 w2 σ = some (r, σf) → WMi p l e s m args below meth c 0 0 0 0 4 D dA sz0 ad0 N0 r σf 0 0 σ [(2, .int w2)] [] 57) → WMi p l e s m args below meth c 0 0 0 0 4 D dA sz0 ad0 N0 r σf 0 0 σ [(0, va_rf (some h0)), (1, .int y1), (2, .int v2), (3, .int v3)] [] 4 := by
  intro n
  induction n with
  | zero =>
    intro v2 v3 σ kx57 h hkx57
    cases h
  | succ n ih =>
    intro v2 v3 σ kx57 h hkx57
    rw [FX1_alike_4] at h
    refine wm_iload_n X 3 dX1_alike_4 rfl ?_
    refine wm_aload_n X 0 dX1_alike_5 rfl ?_
    refine wm_gR X hS cd_1 0 h dX1_alike_6 (Nat.le_of_ble_eq_true rfl) rfl q434 (fun x21 h => ?_)
    refine wm_gIN X hS cd_2 1 h dX1_alike_9 (Nat.le_of_ble_eq_true rfl) rfl 1 rfl (fun x22 h => ?_)
    refine wm_icmp_ge X 57 h dX1_alike_12 (by decide) (fun c32 h => ?_) (fun c32 h => ?_)
    · refine wm_sub (ℓ' := [(2, .int v2)]) [2] rfl ?_
      exact hkx57 _ _ h
    · refine wm_iload_n X 2 dX1_alike_15 rfl ?_
      refine wm_iload_n X 3 dX1_alike_16 rfl ?_
      refine wm_iload_n X 1 dX1_alike_17 rfl ?_
      obtain ⟨J49, eJ49, h⟩ := jn_e h
      have hJ49 : ∀ (z23 : Int32) (σ : Mm), J49 z23 σ = some (r, σf) → WMi p l e s m args below meth c 0 0 0 0 4 D dA sz0 ad0 N0 r σf 0 0 σ [(0, va_rf (some h0)), (1, .int y1), (3, .int v3)] [.int z23, .int v2] 49 := by
        intro z23 σ h
        rw [eJ49] at h
        refine wm_ior X dX1_alike_49 ?_
        refine wm_istore_n (ℓ' := [(2, .int (v2 ||| z23)), (0, va_rf (some h0)), (1, .int y1), (3, .int v3)]) X dX1_alike_50 (by decide) rfl ?_
        refine wm_iinc (v := (v3 + 1)) (ℓ' := [(3, .int (v3 + 1)), (2, .int (v2 ||| z23)), (0, va_rf (some h0)), (1, .int y1)]) X 3 dX1_alike_51 rfl rfl (by decide) rfl ?_
        refine wm_goto X 4 dX1_alike_54 (by decide) ?_
        refine wm_sub (ℓ' := [(0, va_rf (some h0)), (1, .int y1), (2, .int (v2 ||| z23)), (3, .int (v3 + 1))]) [2, 3, 1, 0] rfl ?_
        exact ih _ _ _ _ h hkx57
      clear eJ49
      refine wm_icmp_eq X 48 h dX1_alike_18 (by decide) (fun c31 h => ?_) (fun c31 h => ?_)
      · refine wm_iconst (v := 0) X dX1_alike_48 (by decide) ?_
        refine wm_sub (ℓ' := [(0, va_rf (some h0)), (1, .int y1), (3, .int v3)]) [0, 1, 3] rfl ?_
        exact hJ49 _ _ h
      · refine wm_aload_n X 0 dX1_alike_21 rfl ?_
        refine wm_gR X hS cd_1 0 h dX1_alike_22 (Nat.le_of_ble_eq_true rfl) rfl q434 (fun x24 h => ?_)
        refine wm_gRN X hS cd_2 8 h dX1_alike_25 (Nat.le_of_ble_eq_true rfl) rfl 8 rfl (fun x25 h => ?_)
        refine wm_iload_n X 3 dX1_alike_28 rfl ?_
        refine wm_iaload X hS h dX1_alike_29 (fun x26 h => ?_)
        refine wm_aload_n X 0 dX1_alike_30 rfl ?_
        refine wm_gR X hS cd_1 0 h dX1_alike_31 (Nat.le_of_ble_eq_true rfl) rfl q434 (fun x27 h => ?_)
        refine wm_gRN X hS cd_2 8 h dX1_alike_34 (Nat.le_of_ble_eq_true rfl) rfl 8 rfl (fun x28 h => ?_)
        refine wm_iload_n X 1 dX1_alike_37 rfl ?_
        refine wm_iaload X hS h dX1_alike_38 (fun x29 h => ?_)
        refine wm_icmp_ne X 48 h dX1_alike_39 (by decide) (fun c30 h => ?_) (fun c30 h => ?_)
        · refine wm_iconst (v := 0) X dX1_alike_48 (by decide) ?_
          refine wm_sub (ℓ' := [(0, va_rf (some h0)), (1, .int y1), (3, .int v3)]) [0, 1, 3] rfl ?_
          exact hJ49 _ _ h
        · refine wm_iconst (v := 1) X dX1_alike_42 (by decide) ?_
          refine wm_iload_n X 3 dX1_alike_43 rfl ?_
          refine wm_ishl X dX1_alike_44 ?_
          refine wm_goto X 49 dX1_alike_45 (by decide) ?_
          refine wm_sub (ℓ' := [(0, va_rf (some h0)), (1, .int y1), (3, .int v3)]) [0, 1, 3] rfl ?_
          exact hJ49 _ _ h
set_option maxHeartbeats 4000000 in
theorem ctX1_alike (l : Launch) {h0 : Nat} {x1 : Int32} {σ σf : Mm} {r : Int32} (h : FX1_alike h0 x1 σ = some (r, σf)) : CTi l yX1_alike (ws_ yX1_alike cX1_alike 4 ((some FieldType.int))) 0 0 0 0 [va_rf (some h0), .int x1] σ r σf := by
  refine ct_start (n := 1) mdX1_alike (Nat.le_of_ble_eq_true rfl) (c1_r (c1_i c1_0)) (fun p e s m args below meth c D dA sz0 ad0 X hS hr hnm => ?_)
  have X : CX p s m args meth c cX1_alike 4 RX1 := X
  generalize mN σ = N0
  unfold FX1_alike at h
  refine wm_iconst (v := 0) X dX1_alike_0 (by decide) ?_
  refine wm_istore_n (ℓ' := [(2, .int 0), (0, va_rf (some h0)), (1, .int x1)]) X dX1_alike_1 (by decide) rfl ?_
  refine wm_iconst (v := 0) X dX1_alike_2 (by decide) ?_
  refine wm_istore_n (ℓ' := [(3, .int 0), (2, .int 0), (0, va_rf (some h0)), (1, .int x1)]) X dX1_alike_3 (by decide) rfl ?_
  refine wm_sub (ℓ' := [(0, va_rf (some h0)), (1, .int x1), (2, .int 0), (3, .int 0)]) [2, 3, 1, 0] rfl ?_
  refine wX1_alike_4 X hS hr hnm _ _ fu _ _ _ _ h (fun x33 σ h => ?_)
  · refine wm_iload_n X 0 dX1_alike_57 rfl ?_
    exact wm_iret X hr h dX1_alike_58 (Nat.le_of_ble_eq_true rfl) (Nat.le_of_ble_eq_true rfl)
theorem mdX1_face : MD yX1_face 2 := by unfold MD; decide +kernel
theorem mvX1_face : MV yX1_face cX1_face 4 ((some FieldType.int)) := ⟨q1577, q1578, q128, q1579⟩
set_option maxHeartbeats 4000000 in
theorem ctX1_face (l : Launch) (hl : l.stackTraces = false) {h0 : Nat} {x1 : Int32} {x2 : Int32} {σ : Mm} {xo : (Int32 × Mm) ⊕ (Nat × Mm)} {mc ms : Nat} (h : FX1_face h0 x1 x2 σ = some (xo, mc, ms)) : CTXi l yX1_face (ws_ yX1_face cX1_face 4 ((some FieldType.int))) 8 152 mc ms [va_rf (some h0), .int x1, .int x2] σ xo := by
  refine ctx_start (n := 2) mdX1_face (Nat.le_of_ble_eq_true rfl) (c1_r (c1_i (c1_i c1_0))) (fun p e s m args below meth c D dA sz0 ad0 X hS hr hnm hno => ?_)
  have X : CX p s m args meth c cX1_face 4 RX1 := X
  have hC : 0 + mc ≤ mc := Nat.le_of_eq (Nat.zero_add mc)
  have hZ : 0 + ms ≤ ms := Nat.le_of_eq (Nat.zero_add ms)
  generalize mN σ = N0
  unfold FX1_face at h
  refine wm_aload_n X 0 dX1_face_0 rfl ?_
  refine wm_iload_n X 1 dX1_face_1 rfl ?_
  obtain ⟨s21, h⟩ := ck_e h
  refine wm_dV_v (As := [.int x1]) (st := []) X hS hno cd_1 s21 rfl h hC hZ (fun _ _ _ hF => ctX1_personAt l hl hF) mdX1_personAt mvX1_personAt q1533 dX1_face_2 rfl rfl c1_0 (Nat.le_of_ble_eq_true rfl) ⟨Nat.le_of_ble_eq_true rfl, Nat.le_of_ble_eq_true rfl⟩ (Nat.le_refl _) (Nat.le_refl _) (fun σ22 c1 z1 C Z _ h hC hZ => ?_)
  refine wm_iload_n X 2 dX1_face_5 rfl ?_
  refine wm_iconst (v := 3) X dX1_face_6 (by decide) ?_
  refine wm_dS_v (As := [.int x2, .int 3]) (st := []) X hS hno h hC hZ (fun _ _ _ hF => ctX1_question l hl hF) mdX1_question msX1_question q1555 dX1_face_7 rfl rfl c1_0 (Nat.le_of_ble_eq_true rfl) ⟨Nat.le_of_ble_eq_true rfl, Nat.le_of_ble_eq_true rfl⟩ (Nat.le_refl _) (Nat.le_refl _) (fun σ23 c1 z1 C Z _ h hC hZ => ?_)
  refine wm_aload_n X 0 dX1_face_10 rfl ?_
  refine wm_gR X hS cd_1 0 h dX1_face_11 (Nat.le_of_ble_eq_true rfl) rfl q434 (fun x24 h => ?_)
  refine wm_astore_n (ℓ' := [(3, va_rf x24), (0, va_rf (some h0)), (1, .int x1), (2, .int x2)]) X dX1_face_14 (by decide) rfl ?_
  refine wm_iload_n X 3 dX1_face_15 rfl ?_
  refine ifx_e h (fun c25 h => ?_) (fun c25 h => ?_)
  · refine wm_tabIn (tgt := 44) X (0 : Int32) c25 dX1_face_16 (by decide) (by decide) rfl (by decide) ?_
    refine wm_aload_n X 0 dX1_face_44 rfl ?_
    refine wm_gRN X hS cd_2 8 h dX1_face_45 (Nat.le_of_ble_eq_true rfl) rfl 8 rfl (fun x26 h => ?_)
    refine wm_iload_n X 2 dX1_face_48 rfl ?_
    refine wm_iaload X hS h dX1_face_49 (fun x27 h => ?_)
    exact wm_xiret X hr (rt_e h) dX1_face_50 (le_p hC) (le_p hZ)
  · refine ifx_e h (fun c28 h => ?_) (fun c28 h => ?_)
    · refine wm_tabIn (tgt := 51) X (1 : Int32) c28 dX1_face_16 (by decide) (by decide) rfl (by decide) ?_
      refine wm_aload_n X 0 dX1_face_51 rfl ?_
      refine wm_iload_n X 2 dX1_face_52 rfl ?_
      obtain ⟨q29, eq29, h⟩ := Option.bind_eq_some_iff.mp h
      obtain ⟨eq29, s30⟩ := rv_some eq29
      refine wm_cV_i (As := [.int x1]) (st := []) X hS cd_2 s30 rfl h (fun _ _ hF => ctX2_wearer l hF) mdX2_wearer mvX2_wearer q507 dX1_face_53 rfl (by rw [eq29]; first | done | rfl) c1_0 (Nat.le_of_ble_eq_true rfl) ⟨Nat.le_of_ble_eq_true rfl, Nat.le_of_ble_eq_true rfl⟩ ⟨le_p hC, le_p hZ⟩ (fun x31 σ32 _ h => ?_)
      exact wm_xiret X hr (rt_e h) dX1_face_56 (le_p hC) (le_p hZ)
    · refine ifx_e h (fun c33 h => ?_) (fun c33 h => ?_)
      · refine wm_tabIn (tgt := 57) X (2 : Int32) c33 dX1_face_16 (by decide) (by decide) rfl (by decide) ?_
        refine wm_aload_n X 0 dX1_face_57 rfl ?_
        refine wm_iload_n X 2 dX1_face_58 rfl ?_
        obtain ⟨q34, eq34, h⟩ := Option.bind_eq_some_iff.mp h
        obtain ⟨eq34, s35⟩ := rv_some eq34
        refine wm_cV_i (As := [.int x1]) (st := []) X hS cd_2 s35 rfl h (fun _ _ hF => ctX2_hookOf l hF) mdX2_hookOf mvX2_hookOf q511 dX1_face_59 rfl (by rw [eq34]; first | done | rfl) c1_0 (Nat.le_of_ble_eq_true rfl) ⟨Nat.le_of_ble_eq_true rfl, Nat.le_of_ble_eq_true rfl⟩ ⟨le_p hC, le_p hZ⟩ (fun x36 σ37 _ h => ?_)
        exact wm_xiret X hr (rt_e h) dX1_face_62 (le_p hC) (le_p hZ)
      · refine wm_tabOut (tgt := 63) X dX1_face_16 (by have t0 := lv_neT c25 (by decide : (0 : Int32).toInt = 0); have t1 := lv_neT c28 (by decide : (1 : Int32).toInt = 1); have t2 := lv_neT c33 (by decide : (2 : Int32).toInt = 2); omega) (by decide) ?_
        refine wm_aload_n X 1 dX1_face_63 rfl ?_
        refine wm_iload_n X 2 dX1_face_64 rfl ?_
        obtain ⟨s38, h⟩ := ck_e h
        refine wm_cV_i (As := [.int x1]) (st := []) X hS cd_1 s38 rfl h (fun _ _ hF => ctX1_alike l hF) mdX1_alike mvX1_alike q1580 dX1_face_65 rfl rfl c1_0 (Nat.le_of_ble_eq_true rfl) ⟨Nat.le_of_ble_eq_true rfl, Nat.le_of_ble_eq_true rfl⟩ ⟨le_p hC, le_p hZ⟩ (fun x39 σ40 _ h => ?_)
        exact wm_xiret X hr (rt_e h) dX1_face_68 (le_p hC) (le_p hZ)
theorem mdX1_hookAt : MD yX1_hookAt 1 := by unfold MD; decide +kernel
theorem mvX1_hookAt : MV yX1_hookAt cX1_hookAt 2 (none) := ⟨q1593, qs39, q128, q1594⟩
set_option maxHeartbeats 4000000 in
theorem ctX1_hookAt (l : Launch) (hl : l.stackTraces = false) {h0 : Nat} {x1 : Int32} {σ : Mm} {xo : Mm ⊕ (Nat × Mm)} {mc ms : Nat} (h : FX1_hookAt h0 x1 σ = some (xo, mc, ms)) : CTXv l yX1_hookAt (ws_ yX1_hookAt cX1_hookAt 2 (none)) 7 131 mc ms [va_rf (some h0), .int x1] σ xo := by
  refine ctx_start (n := 1) mdX1_hookAt (Nat.le_of_ble_eq_true rfl) (c1_r (c1_i c1_0)) (fun p e s m args below meth c D dA sz0 ad0 X hS hr hnm hno => ?_)
  have X : CX p s m args meth c cX1_hookAt 2 RX1 := X
  have hC : 0 + mc ≤ mc := Nat.le_of_eq (Nat.zero_add mc)
  have hZ : 0 + ms ≤ ms := Nat.le_of_eq (Nat.zero_add ms)
  generalize mN σ = N0
  unfold FX1_hookAt at h
  refine wm_iload_n X 1 dX1_hookAt_0 rfl ?_
  refine wm_aload_n X 0 dX1_hookAt_1 rfl ?_
  refine wm_gR X hS cd_1 0 h dX1_hookAt_2 (Nat.le_of_ble_eq_true rfl) rfl q434 (fun x21 h => ?_)
  refine wm_gIN X hS cd_2 2 h dX1_hookAt_5 (Nat.le_of_ble_eq_true rfl) rfl 2 rfl (fun x22 h => ?_)
  refine wm_dS_v (As := [.int x1, .int x22]) (st := []) X hS hno h hC hZ (fun _ _ _ hF => ctX1_there l hl hF) mdX1_there msX1_there q1537 dX1_hookAt_8 rfl rfl c1_0 (Nat.le_of_ble_eq_true rfl) ⟨Nat.le_of_ble_eq_true rfl, Nat.le_of_ble_eq_true rfl⟩ (Nat.le_refl _) (Nat.le_refl _) (fun σ23 c1 z1 C Z _ h hC hZ => ?_)
  exact wm_xvret X hr (rt_e h) dX1_hookAt_11 (le_p hC) (le_p hZ)
theorem mdX1_hook : MD yX1_hook 1 := by unfold MD; decide +kernel
theorem mvX1_hook : MV yX1_hook cX1_hook 2 ((some FieldType.int)) := ⟨q1588, q1589, q128, q1590⟩
set_option maxHeartbeats 4000000 in
theorem ctX1_hook (l : Launch) (hl : l.stackTraces = false) {h0 : Nat} {x1 : Int32} {σ : Mm} {xo : (Int32 × Mm) ⊕ (Nat × Mm)} {mc ms : Nat} (h : FX1_hook h0 x1 σ = some (xo, mc, ms)) : CTXi l yX1_hook (ws_ yX1_hook cX1_hook 2 ((some FieldType.int))) 8 152 mc ms [va_rf (some h0), .int x1] σ xo := by
  refine ctx_start (n := 1) mdX1_hook (Nat.le_of_ble_eq_true rfl) (c1_r (c1_i c1_0)) (fun p e s m args below meth c D dA sz0 ad0 X hS hr hnm hno => ?_)
  have X : CX p s m args meth c cX1_hook 2 RX1 := X
  have hC : 0 + mc ≤ mc := Nat.le_of_eq (Nat.zero_add mc)
  have hZ : 0 + ms ≤ ms := Nat.le_of_eq (Nat.zero_add ms)
  generalize mN σ = N0
  unfold FX1_hook at h
  refine wm_aload_n X 0 dX1_hook_0 rfl ?_
  refine wm_iload_n X 1 dX1_hook_1 rfl ?_
  obtain ⟨s21, h⟩ := ck_e h
  refine wm_dV_v (As := [.int x1]) (st := []) X hS hno cd_1 s21 rfl h hC hZ (fun _ _ _ hF => ctX1_hookAt l hl hF) mdX1_hookAt mvX1_hookAt q1591 dX1_hook_2 rfl rfl c1_0 (Nat.le_of_ble_eq_true rfl) ⟨Nat.le_of_ble_eq_true rfl, Nat.le_of_ble_eq_true rfl⟩ (Nat.le_refl _) (Nat.le_refl _) (fun σ22 c1 z1 C Z _ h hC hZ => ?_)
  refine wm_aload_n X 0 dX1_hook_5 rfl ?_
  refine wm_gR X hS cd_1 0 h dX1_hook_6 (Nat.le_of_ble_eq_true rfl) rfl q434 (fun x23 h => ?_)
  refine wm_gRN X hS cd_2 17 h dX1_hook_9 (Nat.le_of_ble_eq_true rfl) rfl 17 rfl (fun x24 h => ?_)
  refine wm_iload_n X 1 dX1_hook_12 rfl ?_
  refine wm_iaload X hS h dX1_hook_13 (fun x25 h => ?_)
  exact wm_xiret X hr (rt_e h) dX1_hook_14 (le_p hC) (le_p hZ)
theorem mdX1_wish : MD yX1_wish 2 := by unfold MD; decide +kernel
theorem mvX1_wish : MV yX1_wish cX1_wish 3 ((some FieldType.int)) := ⟨q1599, q1600, q128, q1601⟩
set_option maxHeartbeats 4000000 in
theorem ctX1_wish (l : Launch) (hl : l.stackTraces = false) {h0 : Nat} {x1 : Int32} {x2 : Int32} {σ : Mm} {xo : (Int32 × Mm) ⊕ (Nat × Mm)} {mc ms : Nat} (h : FX1_wish h0 x1 x2 σ = some (xo, mc, ms)) : CTXi l yX1_wish (ws_ yX1_wish cX1_wish 3 ((some FieldType.int))) 8 152 mc ms [va_rf (some h0), .int x1, .int x2] σ xo := by
  refine ctx_start (n := 2) mdX1_wish (Nat.le_of_ble_eq_true rfl) (c1_r (c1_i (c1_i c1_0))) (fun p e s m args below meth c D dA sz0 ad0 X hS hr hnm hno => ?_)
  have X : CX p s m args meth c cX1_wish 3 RX1 := X
  have hC : 0 + mc ≤ mc := Nat.le_of_eq (Nat.zero_add mc)
  have hZ : 0 + ms ≤ ms := Nat.le_of_eq (Nat.zero_add ms)
  generalize mN σ = N0
  unfold FX1_wish at h
  refine wm_aload_n X 0 dX1_wish_0 rfl ?_
  refine wm_iload_n X 1 dX1_wish_1 rfl ?_
  obtain ⟨s21, h⟩ := ck_e h
  refine wm_dV_v (As := [.int x1]) (st := []) X hS hno cd_1 s21 rfl h hC hZ (fun _ _ _ hF => ctX1_personAt l hl hF) mdX1_personAt mvX1_personAt q1533 dX1_wish_2 rfl rfl c1_0 (Nat.le_of_ble_eq_true rfl) ⟨Nat.le_of_ble_eq_true rfl, Nat.le_of_ble_eq_true rfl⟩ (Nat.le_refl _) (Nat.le_refl _) (fun σ22 c1 z1 C Z _ h hC hZ => ?_)
  refine wm_iload_n X 2 dX1_wish_5 rfl ?_
  refine wm_iconst (v := 0) X dX1_wish_6 (by decide) ?_
  refine wm_aload_n X 0 dX1_wish_7 rfl ?_
  refine wm_gR X hS cd_1 0 h dX1_wish_8 (Nat.le_of_ble_eq_true rfl) rfl q434 (fun x23 h => ?_)
  refine wm_gIN X hS cd_2 1 h dX1_wish_11 (Nat.le_of_ble_eq_true rfl) rfl 1 rfl (fun x24 h => ?_)
  refine wm_iconst (v := 1) X dX1_wish_14 (by decide) ?_
  refine wm_isub X dX1_wish_15 ?_
  refine wm_cS_i (As := [.int x2, .int 0, .int (x24 - 1)]) (st := []) X hS h (fun _ _ hF => ctX1_in l hF) mdX1_in msX1_in q625 dX1_wish_16 rfl rfl c1_0 (Nat.le_of_ble_eq_true rfl) ⟨Nat.le_of_ble_eq_true rfl, Nat.le_of_ble_eq_true rfl⟩ ⟨le_p hC, le_p hZ⟩ (fun x25 σ26 _ h => ?_)
  refine wm_if_eq X 39 h dX1_wish_19 (by decide) (fun c30 h => ?_) (fun c30 h => ?_)
  · refine wm_iconst (v := (-1)) X dX1_wish_39 (by decide) ?_
    exact wm_xiret X hr (rt_e h) dX1_wish_40 (le_p hC) (le_p hZ)
  · refine wm_aload_n X 0 dX1_wish_22 rfl ?_
    refine wm_gR X hS cd_1 0 h dX1_wish_23 (Nat.le_of_ble_eq_true rfl) rfl q434 (fun x27 h => ?_)
    refine wm_gRN X hS cd_2 15 h dX1_wish_26 (Nat.le_of_ble_eq_true rfl) rfl 15 rfl (fun x28 h => ?_)
    refine wm_bipush (v := 10) X dX1_wish_29 (by decide) ?_
    refine wm_iload_n X 1 dX1_wish_31 rfl ?_
    refine wm_imul X dX1_wish_32 ?_
    refine wm_iload_n X 2 dX1_wish_33 rfl ?_
    refine wm_iadd X dX1_wish_34 ?_
    refine wm_iaload X hS h dX1_wish_35 (fun x29 h => ?_)
    refine wm_goto X 40 dX1_wish_36 (by decide) ?_
    exact wm_xiret X hr (rt_e h) dX1_wish_40 (le_p hC) (le_p hZ)
theorem mdX1_demand : MD yX1_demand 1 := by unfold MD; decide +kernel
theorem msX1_demand : MS yX1_demand cX1_demand 1 (none) := ⟨q1614, q128, q1615⟩
set_option maxHeartbeats 4000000 in
theorem ctX1_demand (l : Launch) (hl : l.stackTraces = false) {x0 : Int32} {σ : Mm} {xo : Mm ⊕ (Nat × Mm)} {mc ms : Nat} (h : FX1_demand x0 σ = some (xo, mc, ms)) : CTXv l yX1_demand (ws_ yX1_demand cX1_demand 1 (none)) 6 110 mc ms [.int x0] σ xo := by
  refine ctx_start (n := 1) mdX1_demand (Nat.le_of_ble_eq_true rfl) (c1_i c1_0) (fun p e s m args below meth c D dA sz0 ad0 X hS hr hnm hno => ?_)
  have X : CX p s m args meth c cX1_demand 1 RX1 := X
  have hC : 0 + mc ≤ mc := Nat.le_of_eq (Nat.zero_add mc)
  have hZ : 0 + ms ≤ ms := Nat.le_of_eq (Nat.zero_add ms)
  generalize mN σ = N0
  unfold FX1_demand at h
  refine wm_iload_n X 0 dX1_demand_0 rfl ?_
  refine wm_if_ne X 12 h dX1_demand_1 (by decide) (fun c21 h => ?_) (fun c21 h => ?_)
  · exact wm_xvret X hr (rt_e h) dX1_demand_12 (le_p hC) (le_p hZ)
  · obtain ⟨h9, rfl, rfl⟩ := thw_e h
    exact wm_throw0 (k := 3) X hS hl hno h9 rfl at3 q1245 q152 (by decide +kernel) (by decide +kernel) dX1_demand_4 dX1_demand_7 dX1_demand_8 dX1_demand_11 c1_0 (Nat.le_of_ble_eq_true rfl) (Nat.le_of_ble_eq_true rfl) (Nat.le_of_ble_eq_true rfl) hC hZ hC hZ
theorem mdX1_twoAt : MD yX1_twoAt 2 := by unfold MD; decide +kernel
theorem mvX1_twoAt : MV yX1_twoAt cX1_twoAt 3 (none) := ⟨q1611, qs40, q128, q1612⟩
set_option maxHeartbeats 4000000 in
theorem ctX1_twoAt (l : Launch) (hl : l.stackTraces = false) {h0 : Nat} {x1 : Int32} {x2 : Int32} {σ : Mm} {xo : Mm ⊕ (Nat × Mm)} {mc ms : Nat} (h : FX1_twoAt h0 x1 x2 σ = some (xo, mc, ms)) : CTXv l yX1_twoAt (ws_ yX1_twoAt cX1_twoAt 3 (none)) 8 152 mc ms [va_rf (some h0), .int x1, .int x2] σ xo := by
  refine ctx_start (n := 2) mdX1_twoAt (Nat.le_of_ble_eq_true rfl) (c1_r (c1_i (c1_i c1_0))) (fun p e s m args below meth c D dA sz0 ad0 X hS hr hnm hno => ?_)
  have X : CX p s m args meth c cX1_twoAt 3 RX1 := X
  have hC : 0 + mc ≤ mc := Nat.le_of_eq (Nat.zero_add mc)
  have hZ : 0 + ms ≤ ms := Nat.le_of_eq (Nat.zero_add ms)
  generalize mN σ = N0
  unfold FX1_twoAt at h
  refine wm_aload_n X 0 dX1_twoAt_0 rfl ?_
  refine wm_iload_n X 1 dX1_twoAt_1 rfl ?_
  obtain ⟨s21, h⟩ := ck_e h
  refine wm_dV_v (As := [.int x1]) (st := []) X hS hno cd_1 s21 rfl h hC hZ (fun _ _ _ hF => ctX1_personAt l hl hF) mdX1_personAt mvX1_personAt q1533 dX1_twoAt_2 rfl rfl c1_0 (Nat.le_of_ble_eq_true rfl) ⟨Nat.le_of_ble_eq_true rfl, Nat.le_of_ble_eq_true rfl⟩ (Nat.le_refl _) (Nat.le_refl _) (fun σ22 c1 z1 C Z _ h hC hZ => ?_)
  refine wm_aload_n X 0 dX1_twoAt_5 rfl ?_
  refine wm_iload_n X 2 dX1_twoAt_6 rfl ?_
  obtain ⟨s23, h⟩ := ck_e h
  refine wm_dV_v (As := [.int x2]) (st := []) X hS hno cd_1 s23 rfl h hC hZ (fun _ _ _ hF => ctX1_personAt l hl hF) mdX1_personAt mvX1_personAt q1533 dX1_twoAt_7 rfl rfl c1_0 (Nat.le_of_ble_eq_true rfl) ⟨Nat.le_of_ble_eq_true rfl, Nat.le_of_ble_eq_true rfl⟩ (Nat.le_refl _) (Nat.le_refl _) (fun σ24 c1 z1 C Z _ h hC hZ => ?_)
  refine wm_iload_n X 1 dX1_twoAt_10 rfl ?_
  refine wm_iload_n X 2 dX1_twoAt_11 rfl ?_
  obtain ⟨J20, eJ20, h⟩ := jn_e h
  have hJ20 : ∀ (z25 : Int32) (σ : Mm) (C Z kc kz : Nat), J20 z25 σ = some (xo, C, Z) → kc + C ≤ mc → kz + Z ≤ ms → WMxv p l e s m args below meth c 8 152 mc ms 3 D dA sz0 ad0 N0 xo kc kz σ [] [.int z25] 20 := by
    intro z25 σ C Z kc kz h hC hZ
    rw [eJ20] at h
    refine wm_dS_v (As := [.int z25]) (st := []) X hS hno h hC hZ (fun _ _ _ hF => ctX1_demand l hl hF) mdX1_demand msX1_demand q1613 dX1_twoAt_20 rfl rfl c1_0 (Nat.le_of_ble_eq_true rfl) ⟨Nat.le_of_ble_eq_true rfl, Nat.le_of_ble_eq_true rfl⟩ (Nat.le_refl _) (Nat.le_refl _) (fun σ26 c1 z1 C Z _ h hC hZ => ?_)
    exact wm_xvret X hr (rt_e h) dX1_twoAt_23 (le_p hC) (le_p hZ)
  clear eJ20
  refine wm_icmp_eq X 19 h dX1_twoAt_12 (by decide) (fun c27 h => ?_) (fun c27 h => ?_)
  · refine wm_iconst (v := 0) X dX1_twoAt_19 (by decide) ?_
    refine wm_sub (ℓ' := []) [] rfl ?_
    exact hJ20 _ _ _ _ _ _ h hC hZ
  · refine wm_iconst (v := 1) X dX1_twoAt_15 (by decide) ?_
    refine wm_goto X 20 dX1_twoAt_16 (by decide) ?_
    refine wm_sub (ℓ' := []) [] rfl ?_
    exact hJ20 _ _ _ _ _ _ h hC hZ
theorem mdX1_thinks : MD yX1_thinks 2 := by unfold MD; decide +kernel
theorem mvX1_thinks : MV yX1_thinks cX1_thinks 3 ((some FieldType.int)) := ⟨q1606, q1607, q128, q1608⟩
set_option maxHeartbeats 4000000 in
theorem ctX1_thinks (l : Launch) (hl : l.stackTraces = false) {h0 : Nat} {x1 : Int32} {x2 : Int32} {σ : Mm} {xo : (Int32 × Mm) ⊕ (Nat × Mm)} {mc ms : Nat} (h : FX1_thinks h0 x1 x2 σ = some (xo, mc, ms)) : CTXi l yX1_thinks (ws_ yX1_thinks cX1_thinks 3 ((some FieldType.int))) 9 174 mc ms [va_rf (some h0), .int x1, .int x2] σ xo := by
  refine ctx_start (n := 2) mdX1_thinks (Nat.le_of_ble_eq_true rfl) (c1_r (c1_i (c1_i c1_0))) (fun p e s m args below meth c D dA sz0 ad0 X hS hr hnm hno => ?_)
  have X : CX p s m args meth c cX1_thinks 3 RX1 := X
  have hC : 0 + mc ≤ mc := Nat.le_of_eq (Nat.zero_add mc)
  have hZ : 0 + ms ≤ ms := Nat.le_of_eq (Nat.zero_add ms)
  generalize mN σ = N0
  unfold FX1_thinks at h
  refine wm_aload_n X 0 dX1_thinks_0 rfl ?_
  refine wm_iload_n X 1 dX1_thinks_1 rfl ?_
  refine wm_iload_n X 2 dX1_thinks_2 rfl ?_
  obtain ⟨s21, h⟩ := ck_e h
  refine wm_dV_v (As := [.int x1, .int x2]) (st := []) X hS hno cd_1 s21 rfl h hC hZ (fun _ _ _ hF => ctX1_twoAt l hl hF) mdX1_twoAt mvX1_twoAt q1609 dX1_thinks_3 rfl rfl c1_0 (Nat.le_of_ble_eq_true rfl) ⟨Nat.le_of_ble_eq_true rfl, Nat.le_of_ble_eq_true rfl⟩ (Nat.le_refl _) (Nat.le_refl _) (fun σ22 c1 z1 C Z _ h hC hZ => ?_)
  refine wm_aload_n X 0 dX1_thinks_6 rfl ?_
  refine wm_gR X hS cd_1 0 h dX1_thinks_7 (Nat.le_of_ble_eq_true rfl) rfl q434 (fun x23 h => ?_)
  refine wm_gRN X hS cd_2 14 h dX1_thinks_10 (Nat.le_of_ble_eq_true rfl) rfl 14 rfl (fun x24 h => ?_)
  refine wm_bipush (v := 10) X dX1_thinks_13 (by decide) ?_
  refine wm_iload_n X 1 dX1_thinks_15 rfl ?_
  refine wm_imul X dX1_thinks_16 ?_
  refine wm_iload_n X 2 dX1_thinks_17 rfl ?_
  refine wm_iadd X dX1_thinks_18 ?_
  refine wm_iaload X hS h dX1_thinks_19 (fun x25 h => ?_)
  exact wm_xiret X hr (rt_e h) dX1_thinks_20 (le_p hC) (le_p hZ)
theorem mdX1_can : MD yX1_can 1 := by unfold MD; decide +kernel
theorem msX1_can : MS yX1_can cX1_can 1 (none) := ⟨q1625, q128, q1626⟩
set_option maxHeartbeats 4000000 in
theorem ctX1_can (l : Launch) (hl : l.stackTraces = false) {x0 : Int32} {σ : Mm} {xo : Mm ⊕ (Nat × Mm)} {mc ms : Nat} (h : FX1_can x0 σ = some (xo, mc, ms)) : CTXv l yX1_can (ws_ yX1_can cX1_can 1 (none)) 6 110 mc ms [.int x0] σ xo := by
  refine ctx_start (n := 1) mdX1_can (Nat.le_of_ble_eq_true rfl) (c1_i c1_0) (fun p e s m args below meth c D dA sz0 ad0 X hS hr hnm hno => ?_)
  have X : CX p s m args meth c cX1_can 1 RX1 := X
  have hC : 0 + mc ≤ mc := Nat.le_of_eq (Nat.zero_add mc)
  have hZ : 0 + ms ≤ ms := Nat.le_of_eq (Nat.zero_add ms)
  generalize mN σ = N0
  unfold FX1_can at h
  refine wm_iload_n X 0 dX1_can_0 rfl ?_
  refine wm_if_ne X 12 h dX1_can_1 (by decide) (fun c21 h => ?_) (fun c21 h => ?_)
  · exact wm_xvret X hr (rt_e h) dX1_can_12 (le_p hC) (le_p hZ)
  · obtain ⟨h9, rfl, rfl⟩ := thw_e h
    exact wm_throw0 (k := 4) X hS hl hno h9 rfl at4 q1627 q170 (by decide +kernel) (by decide +kernel) dX1_can_4 dX1_can_7 dX1_can_8 dX1_can_11 c1_0 (Nat.le_of_ble_eq_true rfl) (Nat.le_of_ble_eq_true rfl) (Nat.le_of_ble_eq_true rfl) hC hZ hC hZ
theorem mdX1_remembers : MD yX1_remembers 0 := by unfold MD; decide +kernel
theorem mvX1_remembers : MV yX1_remembers cX1_remembers 2 (none) := ⟨q1644, qs41, q128, q1645⟩
set_option maxHeartbeats 4000000 in
theorem ctX1_remembers (l : Launch) (hl : l.stackTraces = false) {h0 : Nat} {σ : Mm} {xo : Mm ⊕ (Nat × Mm)} {mc ms : Nat} (h : FX1_remembers h0 σ = some (xo, mc, ms)) : CTXv l yX1_remembers (ws_ yX1_remembers cX1_remembers 2 (none)) 7 191 mc ms [va_rf (some h0)] σ xo := by
  refine ctx_start (n := 0) mdX1_remembers (Nat.le_of_ble_eq_true rfl) (c1_r c1_0) (fun p e s m args below meth c D dA sz0 ad0 X hS hr hnm hno => ?_)
  have X : CX p s m args meth c cX1_remembers 2 RX1 := X
  have hC : 0 + mc ≤ mc := Nat.le_of_eq (Nat.zero_add mc)
  have hZ : 0 + ms ≤ ms := Nat.le_of_eq (Nat.zero_add ms)
  generalize mN σ = N0
  unfold FX1_remembers at h
  refine wm_aload_n X 0 dX1_remembers_0 rfl ?_
  refine wm_gR X hS cd_1 6 h dX1_remembers_1 (Nat.le_of_ble_eq_true rfl) rfl q444 (fun x21 h => ?_)
  obtain ⟨q22, eq22, h⟩ := Option.bind_eq_some_iff.mp h
  obtain ⟨eq22, s23⟩ := rv_some eq22
  refine wm_cV_i (As := []) (st := []) X hS cd_17 s23 rfl h (fun _ _ hF => ctJ3_size l hF) mdJ3_size mvJ3_size q652 dX1_remembers_4 rfl (by rw [eq22]; first | done | rfl) c1_0 (Nat.le_of_ble_eq_true rfl) ⟨Nat.le_of_ble_eq_true rfl, Nat.le_of_ble_eq_true rfl⟩ ⟨le_p hC, le_p hZ⟩ (fun x24 σ25 _ h => ?_)
  refine wm_bipush (v := 12) X dX1_remembers_7 (by decide) ?_
  obtain ⟨J33, eJ33, h⟩ := jn_e h
  have hJ33 : ∀ (z26 : Option Nat) (σ : Mm) (C Z kc kz : Nat), J33 z26 σ = some (xo, C, Z) → kc + C ≤ mc → kz + Z ≤ ms → WMxv p l e s m args below meth c 7 191 mc ms 2 D dA sz0 ad0 N0 xo kc kz σ [(0, va_rf (some h0))] [va_rf z26] 33 := by
    intro z26 σ C Z kc kz h hC hZ
    rw [eJ33] at h
    refine wm_astore_n (ℓ' := [(1, va_rf z26), (0, va_rf (some h0))]) X dX1_remembers_33 (by decide) rfl ?_
    refine wm_aload_n X 1 dX1_remembers_34 rfl ?_
    refine wm_gR X hS cd_1 6 h dX1_remembers_35 (Nat.le_of_ble_eq_true rfl) rfl q444 (fun x27 h => ?_)
    refine wm_aload_n X 0 dX1_remembers_38 rfl ?_
    refine wm_aload_n X 1 dX1_remembers_39 rfl ?_
    refine wm_gR X hS cd_1 0 h dX1_remembers_40 (Nat.le_of_ble_eq_true rfl) rfl q434 (fun x28 h => ?_)
    obtain ⟨q29, eq29, h⟩ := Option.bind_eq_some_iff.mp h
    obtain ⟨eq29, s30⟩ := rv_some eq29
    refine wm_cV_r (As := [va_rf x28]) (st := [va_rf x27]) X hS cd_2 s30 rfl h (fun _ _ hF => ctX2_likens l hF) mdX2_likens mvX2_likens q673 dX1_remembers_43 rfl (by rw [eq29]; first | done | rfl) (c1_r c1_0) (Nat.le_of_ble_eq_true rfl) ⟨Nat.le_of_ble_eq_true rfl, Nat.le_of_ble_eq_true rfl⟩ ⟨le_p hC, le_p hZ⟩ (fun x31 σ32 _ h => ?_)
    obtain ⟨q33, eq33, h⟩ := Option.bind_eq_some_iff.mp h
    obtain ⟨eq33, s34⟩ := rv_some eq33
    refine wm_dV_i (As := [va_rf x31]) (st := []) X hS hno cd_17 s34 rfl h hC hZ (fun _ _ _ hF => ctJ3_add l hl hF) mdJ3_add mvJ3_add q1417 dX1_remembers_46 rfl (by rw [eq33]; first | done | rfl) c1_0 (Nat.le_of_ble_eq_true rfl) ⟨Nat.le_of_ble_eq_true rfl, Nat.le_of_ble_eq_true rfl⟩ (Nat.le_refl _) (Nat.le_refl _) (fun x35 σ36 c1 z1 C Z _ h hC hZ => ?_)
    refine wm_pop X dX1_remembers_49 rfl ?_
    exact wm_xvret X hr (rt_e h) dX1_remembers_50 (le_p hC) (le_p hZ)
  clear eJ33
  refine wm_icmp_ne X 26 h dX1_remembers_9 (by decide) (fun c50 h => ?_) (fun c50 h => ?_)
  · obtain ⟨C, Z, h, hC, hZ⟩ := pay_d h hC hZ
    refine wm_new X hS cd_2 h dX1_remembers_26 q181 q182 q129 (le_p hC) (le_p hZ) (fun x37 σ38 _ h => ?_)
    refine wm_dup X dX1_remembers_29 (catR _) ?_
    obtain ⟨q39, eq39, h⟩ := Option.bind_eq_some_iff.mp h
    obtain ⟨eq39, s40⟩ := rv_some eq39
    obtain ⟨C, Z, h, hC, hZ⟩ := pay_d h hC hZ
    refine wm_cI_v (As := []) (st := [va_rf x37]) X hS h (fun _ hF => ctX2_init l hF) mdX2_init miX2_init q183 dX1_remembers_30 rfl (by rw [eq39]; first | done | rfl) (c1_r c1_0) (Nat.le_of_ble_eq_true rfl) ⟨Nat.le_of_ble_eq_true rfl, Nat.le_of_ble_eq_true rfl⟩ ⟨le_p hC, le_p hZ⟩ (fun σ41 _ h => ?_)
    exact hJ33 _ _ _ _ _ _ h hC hZ
  · refine wm_aload_n X 0 dX1_remembers_12 rfl ?_
    refine wm_gR X hS cd_1 6 h dX1_remembers_13 (Nat.le_of_ble_eq_true rfl) rfl q444 (fun x42 h => ?_)
    refine wm_iconst (v := 0) X dX1_remembers_16 (by decide) ?_
    obtain ⟨q43, eq43, h⟩ := Option.bind_eq_some_iff.mp h
    obtain ⟨eq43, s44⟩ := rv_some eq43
    refine wm_cV_r (As := [.int 0]) (st := []) X hS cd_17 s44 rfl h (fun _ _ hF => ctJ3_remove l hF) mdJ3_remove mvJ3_remove q656 dX1_remembers_17 rfl (by rw [eq43]; first | done | rfl) c1_0 (Nat.le_of_ble_eq_true rfl) ⟨Nat.le_of_ble_eq_true rfl, Nat.le_of_ble_eq_true rfl⟩ ⟨le_p hC, le_p hZ⟩ (fun x45 σ46 _ h => ?_)
    refine wm_cast X hS cd_2 h dX1_remembers_20 q181 (fun q47 e48 s49 h => ?_)
    refine wm_goto X 33 dX1_remembers_23 (by decide) ?_
    exact hJ33 _ _ _ _ _ _ h hC hZ
